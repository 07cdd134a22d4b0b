set_option maxRecDepth 100000
noncomputable def Tw_word_s2 (x1 : Int) (x2 : Int) (x3 : Int) (G : St) : Option ((Int × St) ⊕ (Int × St)) :=
  if x3 < 4 then (ckI (x1 + x3) <| ckI (8 * x3) <| ckI (24 - (8 * x3)) <| ckB (x1 + x3) 20 <| tk (up G 104 (x1 + x3) (j_an (j_sr x2 (24 - (8 * x3))) 255)) fun G1 =>
  ckI (x3 + 1) <| some (Sum.inl (x3 + 1, G1)))
  else (ex (some (0, G)))
noncomputable def Tw_word_l2 (x1 : Int) (x2 : Int) (x3 : Int) (G : St) : Option (Int × St) :=
  wh (fun s => Tw_word_s2 x1 x2 s.1 s.2) (x3, G)
theorem Tw_word_l2_eq (x1 : Int) (x2 : Int) (x3 : Int) (G : St) : Tw_word_l2 x1 x2 x3 G = (Tw_word_s2 x1 x2 x3 G).bind (lk (fun s => Tw_word_l2 x1 x2 s.1 s.2) some) := by
  exact wh_eq _ _
noncomputable def Tw_word (x1 : Int) (x2 : Int) (G : St) : Option (Int × St) :=
  Tw_word_l2 x1 x2 0 G
noncomputable def Tw_feed (x1 : Int) (x2 : Int) (x3 : Int) (x4 : Int) (x5 : Int) (G : St) : Option (Int × St) :=
  bd (Tw_word 0 x1 G) fun _ G2 =>
  bd (Tw_word 4 x2 G2) fun _ G4 =>
  bd (Tw_word 8 x3 G4) fun _ G6 =>
  bd (Tw_word 12 x4 G6) fun _ G8 =>
  bd (Tw_word 16 x5 G8) fun _ G10 =>
  some (0, G10)
noncomputable def Tw_end_s125 (x2 : Int) (G : St) : Option ((Int × St) ⊕ (Int × St)) :=
  if x2 < 20 then (ckB x2 20 <| tk (up G 104 x2 0) fun G2 =>
  ckI (x2 + 1) <| some (Sum.inl (x2 + 1, G2)))
  else (ex (some (G 100 5, G)))
noncomputable def Tw_end_l125 (x2 : Int) (G : St) : Option (Int × St) :=
  wh (fun s => Tw_end_s125 s.1 s.2) (x2, G)
theorem Tw_end_l125_eq (x2 : Int) (G : St) : Tw_end_l125 x2 G = (Tw_end_s125 x2 G).bind (lk (fun s => Tw_end_l125 s.1 s.2) some) := by
  exact wh_eq _ _
noncomputable def Tw_end_s85 (x1 : Int) (x2 : Int) (G : St) : Option ((Int × St) ⊕ (Int × St)) :=
  if x2 < x1 then (ckI ((G 100 5) + x2) <| ckB x2 20 <| ckB ((G 100 5) + x2) 4000 <| tk (up G 105 ((G 100 5) + x2) (G 104 x2)) fun G3 =>
  ckI (x2 + 1) <| some (Sum.inl (x2 + 1, G3)))
  else (ex (ckI ((G 100 5) + x1) <| tk (up G 100 5 ((G 100 5) + x1)) fun G1 =>
  Tw_end_l125 0 G1))
noncomputable def Tw_end_l85 (x1 : Int) (x2 : Int) (G : St) : Option (Int × St) :=
  wh (fun s => Tw_end_s85 x1 s.1 s.2) (x2, G)
theorem Tw_end_l85_eq (x1 : Int) (x2 : Int) (G : St) : Tw_end_l85 x1 x2 G = (Tw_end_s85 x1 x2 G).bind (lk (fun s => Tw_end_l85 x1 s.1 s.2) some) := by
  exact wh_eq _ _
noncomputable def Tw_end_b77 (x1 : Int) (x2 : Int) (G : St) : Option ((Int × St) ⊕ (Int × St)) :=
  ckI (x2 + 1) <| some (Sum.inl (x2 + 1, G))
noncomputable def Tw_end_s26 (x1 : Int) (x2 : Int) (G : St) : Option ((Int × St) ⊕ (Int × St)) :=
  if x2 < x1 then (ckB x2 20 <| if (G 104 x2) = 9 then (Tw_end_b77 x1 x2 G)
  else (ckB x2 20 <| if (G 104 x2) = 10 then (Tw_end_b77 x1 x2 G)
  else (ckB x2 20 <| if (G 104 x2) < 32 then (ex (some ((-1), G)))
  else (ckB x2 20 <| if 126 < (G 104 x2) then (ex (some ((-1), G)))
  else (Tw_end_b77 x1 x2 G)))))
  else (ex (Tw_end_l85 x1 0 G))
noncomputable def Tw_end_l26 (x1 : Int) (x2 : Int) (G : St) : Option (Int × St) :=
  wh (fun s => Tw_end_s26 x1 s.1 s.2) (x2, G)
theorem Tw_end_l26_eq (x1 : Int) (x2 : Int) (G : St) : Tw_end_l26 x1 x2 G = (Tw_end_s26 x1 x2 G).bind (lk (fun s => Tw_end_l26 x1 s.1 s.2) some) := by
  exact wh_eq _ _
noncomputable def Tw_end (x1 : Int) (G : St) : Option (Int × St) :=
  if x1 < 0 then (some ((-1), G))
  else (if 20 < x1 then (some ((-1), G))
  else (ckI ((G 100 5) + x1) <| if 4000 < ((G 100 5) + x1) then (some ((-1), G))
  else (Tw_end_l26 x1 0 G)))
noncomputable def Tw_widthOf (P W : Int) (x1 : Int) (G : St) : Option (Int × St) :=
  some ((if x1 = 0 then W else 1), G)
noncomputable def Tw_inputsOfAll_b153 (P W : Int) (x1 : Int) (G : St) : Option ((Int × St) ⊕ (Int × St)) :=
  ckI (x1 + 1) <| some (Sum.inl (x1 + 1, G))
noncomputable def Tw_inputsOfAll_b55 (P W : Int) (x1 : Int) (x2 : Int) (x3 : Int) (s0 : Int) (s1 : Int) (G : St) : Option ((Int × St) ⊕ ((Int × St) ⊕ (Int × St))) :=
  if s1 < s0 then (ckB x1 12000 <| ckB (G 100 75) 256 <| tk (up G 177 (G 100 75) (w32 (j_lsr (G 119 x1) 8))) fun G3 =>
  ckB x1 12000 <| bd (Tw_widthOf P W (G3 117 x1) G3) fun z4 G5 =>
  ckB (G3 100 75) 256 <| tk (up G5 178 (G3 100 75) z4) fun G6 =>
  ckB (G6 100 75) 256 <| tk (up G6 179 (G6 100 75) (G6 100 65)) fun G7 =>
  ckB (G7 100 75) 256 <| tk (up G7 180 (G7 100 75) 0) fun G8 =>
  ckB (G8 100 75) 256 <| ckI ((G8 100 65) + (G8 178 (G8 100 75))) <| tk (up G8 100 65 ((G8 100 65) + (G8 178 (G8 100 75)))) fun G9 =>
  ckI ((G9 100 75) + 1) <| tk (up G9 100 75 ((G9 100 75) + 1)) fun G10 =>
  ckI (x3 + 1) <| some (Sum.inl (x3 + 1, G10)))
  else (ex (Tw_inputsOfAll_b153 P W x1 G))
noncomputable def Tw_inputsOfAll_s45 (P W : Int) (x1 : Int) (x2 : Int) (x3 : Int) (G : St) : Option ((Int × St) ⊕ ((Int × St) ⊕ (Int × St))) :=
  Tw_inputsOfAll_b55 P W x1 x2 x3 (if x2 = 0 then 1 else x2) x3 G
noncomputable def Tw_inputsOfAll_l45 (P W : Int) (x1 : Int) (x2 : Int) (x3 : Int) (G : St) : Option ((Int × St) ⊕ (Int × St)) :=
  wh (fun s => Tw_inputsOfAll_s45 P W x1 x2 s.1 s.2) (x3, G)
theorem Tw_inputsOfAll_l45_eq (P W : Int) (x1 : Int) (x2 : Int) (x3 : Int) (G : St) : Tw_inputsOfAll_l45 P W x1 x2 x3 G = (Tw_inputsOfAll_s45 P W x1 x2 x3 G).bind (lk (fun s => Tw_inputsOfAll_l45 P W x1 x2 s.1 s.2) some) := by
  exact wh_eq _ _
noncomputable def Tw_inputsOfAll_s12 (P W : Int) (x1 : Int) (G : St) : Option ((Int × St) ⊕ (Int × St)) :=
  if x1 < (G 100 13) then (ckB x1 12000 <| if (G 115 x1) = 23 then (ckB x1 12000 <| Tw_inputsOfAll_l45 P W x1 (w32 (j_lan (G 119 x1) 255)) 0 G)
  else (Tw_inputsOfAll_b153 P W x1 G))
  else (ex (some (0, G)))
noncomputable def Tw_inputsOfAll_l12 (P W : Int) (x1 : Int) (G : St) : Option (Int × St) :=
  wh (fun s => Tw_inputsOfAll_s12 P W s.1 s.2) (x1, G)
theorem Tw_inputsOfAll_l12_eq (P W : Int) (x1 : Int) (G : St) : Tw_inputsOfAll_l12 P W x1 G = (Tw_inputsOfAll_s12 P W x1 G).bind (lk (fun s => Tw_inputsOfAll_l12 P W s.1 s.2) some) := by
  exact wh_eq _ _
noncomputable def Tw_inputsOfAll (P W : Int) (G : St) : Option (Int × St) :=
  tk (up G 100 75 0) fun G1 =>
  tk (up G1 100 65 0) fun G2 =>
  Tw_inputsOfAll_l12 P W 0 G2
noncomputable def Tw_levelOf (x1 : Int) (G : St) : Option (Int × St) :=
  ckI ((j_sr x1 1) - (G 100 65)) <| if x1 < 0 then (some (0, G))
  else (if ((j_sr x1 1) - (G 100 65)) < 0 then (some (0, G))
  else (ckB ((j_sr x1 1) - (G 100 65)) 40000 <| some (G 173 ((j_sr x1 1) - (G 100 65)), G)))
noncomputable def Tw_fail (x1 : Int) (x2 : Int) (G : St) : Option (Int × St) :=
  if (G 100 7) = 0 then (tk (up G 100 7 x1) fun G1 =>
  tk (up G1 100 8 x2) fun G2 =>
  some (0, G2))
  else (some (0, G))
noncomputable def Tw_statementPlace (G : St) : Option (Int × St) :=
  if (G 100 94) = 0 then (some (0, G))
  else (ckI ((G 100 94) - 1) <| ckB ((G 100 94) - 1) 80 <| some (G 196 ((G 100 94) - 1), G))
noncomputable def Tw_newGate_b17 (G : St) : Option (Int × St) :=
  bd (Tw_statementPlace G) fun z1 G2 =>
  bd (Tw_fail 8 z1 G2) fun _ G4 =>
  some ((-2), G4)
noncomputable def Tw_newGate_b110 (s0 : Int) (G : St) : Option (Int × St) :=
  tk (up G 100 68 s0) fun G11 =>
  ckI ((G11 100 65) + (G11 100 66)) <| ckI (((G11 100 65) + (G11 100 66)) - 1) <| ckI (2 * (((G11 100 65) + (G11 100 66)) - 1)) <| some (2 * (((G11 100 65) + (G11 100 66)) - 1), G11)
noncomputable def Tw_newGate (x1 : Int) (x2 : Int) (x3 : Int) (x4 : Int) (G : St) : Option (Int × St) :=
  if (G 100 66) = 40000 then (Tw_newGate_b17 G)
  else (if 2000 < x4 then (Tw_newGate_b17 G)
  else (ckB (G 100 66) 40000 <| tk (up G 172 (G 100 66) x1) fun G5 =>
  ckB (G5 100 66) 40000 <| tk (up G5 173 (G5 100 66) x4) fun G6 =>
  ckB (G6 100 66) 40000 <| tk (up G6 174 (G6 100 66) x2) fun G7 =>
  ckB (G7 100 66) 40000 <| tk (up G7 175 (G7 100 66) x3) fun G8 =>
  ckI ((G8 100 66) + 1) <| tk (up G8 100 66 ((G8 100 66) + 1)) fun G9 =>
  ckI ((G9 100 67) + x1) <| tk (up G9 100 67 ((G9 100 67) + x1)) fun G10 =>
  Tw_newGate_b110 (if (G10 100 68) < x4 then x4 else (G10 100 68)) G10))
noncomputable def Tw_and_b83 (s0 : Int) (s1 : Int) (s2 : Int) (s3 : Int) (s4 : Int) (G : St) : Option (Int × St) :=
  ckI (s1 + s0) <| bd (Tw_newGate s4 s3 s2 (s1 + s0) G) fun z5 G6 =>
  some (z5, G6)
noncomputable def Tw_and (x1 : Int) (x2 : Int) (G : St) : Option (Int × St) :=
  if x1 < 0 then (some ((if x1 = (-1) then x2 else (-2)), G))
  else (if x2 < 0 then (some ((if x2 = (-1) then x1 else (-2)), G))
  else (if (j_sr x1 1) = (j_sr x2 1) then (some ((if x1 = x2 then x1 else (-2)), G))
  else (bd (Tw_levelOf x1 G) fun z1 G2 =>
  bd (Tw_levelOf x2 G2) fun z3 G4 =>
  Tw_and_b83 (if z3 < z1 then z1 else z3) 1 x2 x1 1 G4)))
noncomputable def Tw_xor_b78 (x3 : Int) (s0 : Int) (s1 : Int) (s2 : Int) (s3 : Int) (G : St) : Option (Int × St) :=
  bd (Tw_newGate s3 s2 s1 s0 G) fun z5 G6 =>
  some (j_xo z5 x3, G6)
noncomputable def Tw_xor (x1 : Int) (x2 : Int) (G : St) : Option (Int × St) :=
  if x1 < 0 then (some (j_xo x2 (j_an x1 1), G))
  else (if x2 < 0 then (some (j_xo x1 (j_an x2 1), G))
  else (if (j_sr x1 1) = (j_sr x2 1) then (ckI ((-2) + (j_an (j_xo x1 x2) 1)) <| some ((-2) + (j_an (j_xo x1 x2) 1), G))
  else (bd (Tw_levelOf x1 G) fun z1 G2 =>
  bd (Tw_levelOf x2 G2) fun z3 G4 =>
  Tw_xor_b78 (j_an (j_xo x1 x2) 1) (if z3 < z1 then z1 else z3) (j_an x2 (-2)) (j_an x1 (-2)) 0 G4)))
noncomputable def Tw_mux (x1 : Int) (x2 : Int) (x3 : Int) (G : St) : Option (Int × St) :=
  bd (Tw_xor x2 x3 G) fun z1 G2 =>
  bd (Tw_and x1 z1 G2) fun z3 G4 =>
  bd (Tw_xor x3 z3 G4) fun z5 G6 =>
  some (z5, G6)
noncomputable def Tw_divide_s182 (P W : Int) (x1 : Int) (x2 : Int) (x3 : Int) (G : St) : Option ((Int × St) ⊕ ((Int × St) ⊕ (Int × St))) :=
  if x3 < W then (ckB x3 40 <| ckB x3 40 <| bd (Tw_mux x2 (G 190 x3) (G 189 x3) G) fun z4 G5 =>
  ckB x3 40 <| tk (up G5 193 x3 z4) fun G6 =>
  ckI (x3 + 1) <| some (Sum.inl (x3 + 1, G6)))
  else (ex (ckI (x1 + (-1)) <| some (Sum.inl (x1 + (-1), G))))
noncomputable def Tw_divide_l182 (P W : Int) (x1 : Int) (x2 : Int) (x3 : Int) (G : St) : Option ((Int × St) ⊕ (Int × St)) :=
  wh (fun s => Tw_divide_s182 P W x1 x2 s.1 s.2) (x3, G)
theorem Tw_divide_l182_eq (P W : Int) (x1 : Int) (x2 : Int) (x3 : Int) (G : St) : Tw_divide_l182 P W x1 x2 x3 G = (Tw_divide_s182 P W x1 x2 x3 G).bind (lk (fun s => Tw_divide_l182 P W x1 x2 s.1 s.2) some) := by
  exact wh_eq _ _
noncomputable def Tw_divide_b140 (P W : Int) (x1 : Int) (x2 : Int) (x3 : Int) (x4 : Int) (G : St) : Option ((Int × Int × St) ⊕ ((Int × St) ⊕ (Int × St))) :=
  ckB x3 40 <| bd (Tw_xor (G 189 x3) x2 G) fun z9 G10 =>
  bd (Tw_and z9 x4 G10) fun z11 G12 =>
  bd (Tw_xor x2 z11 G12) fun z13 G14 =>
  ckI (x3 + 1) <| some (Sum.inl (z13, x3 + 1, G14))
noncomputable def Tw_divide_s91 (P W : Int) (x1 : Int) (x2 : Int) (x3 : Int) (G : St) : Option ((Int × Int × St) ⊕ ((Int × St) ⊕ (Int × St))) :=
  if W < x3 then (ex (ckB x1 40 <| tk (up G 194 x1 x2) fun G3 =>
  Tw_divide_l182 P W x1 x2 0 G3))
  else (ckB x3 40 <| bd (Tw_xor (j_xo (G 188 x3) 1) x2 G) fun z7 G8 =>
  if x3 < W then (ckB x3 40 <| bd (Tw_xor (G8 189 x3) z7 G8) fun z15 G16 =>
  ckB x3 40 <| tk (up G16 190 x3 z15) fun G17 =>
  Tw_divide_b140 P W x1 x2 x3 z7 G17)
  else (Tw_divide_b140 P W x1 x2 x3 z7 G8))
noncomputable def Tw_divide_l91 (P W : Int) (x1 : Int) (x2 : Int) (x3 : Int) (G : St) : Option ((Int × St) ⊕ (Int × St)) :=
  wh (fun s => Tw_divide_s91 P W x1 s.1 s.2.1 s.2.2) (x2, x3, G)
theorem Tw_divide_l91_eq (P W : Int) (x1 : Int) (x2 : Int) (x3 : Int) (G : St) : Tw_divide_l91 P W x1 x2 x3 G = (Tw_divide_s91 P W x1 x2 x3 G).bind (lk (fun s => Tw_divide_l91 P W x1 s.1 s.2.1 s.2.2) some) := by
  exact wh_eq _ _
noncomputable def Tw_divide_s51 (P W : Int) (x1 : Int) (x2 : Int) (G : St) : Option ((Int × St) ⊕ ((Int × St) ⊕ (Int × St))) :=
  if 0 < x2 then (ckI (x2 - 1) <| ckB (x2 - 1) 40 <| ckB x2 40 <| tk (up G 189 x2 (G 193 (x2 - 1))) fun G18 =>
  ckI (x2 + (-1)) <| some (Sum.inl (x2 + (-1), G18)))
  else (ex (ckB x1 40 <| ckB 0 40 <| tk (up G 189 0 (G 187 x1)) fun G2 =>
  Tw_divide_l91 P W x1 (-1) 0 G2))
noncomputable def Tw_divide_l51 (P W : Int) (x1 : Int) (x2 : Int) (G : St) : Option ((Int × St) ⊕ (Int × St)) :=
  wh (fun s => Tw_divide_s51 P W x1 s.1 s.2) (x2, G)
theorem Tw_divide_l51_eq (P W : Int) (x1 : Int) (x2 : Int) (G : St) : Tw_divide_l51 P W x1 x2 G = (Tw_divide_s51 P W x1 x2 G).bind (lk (fun s => Tw_divide_l51 P W x1 s.1 s.2) some) := by
  exact wh_eq _ _
noncomputable def Tw_divide_s42 (P W : Int) (x1 : Int) (G : St) : Option ((Int × St) ⊕ (Int × St)) :=
  if x1 < 0 then (ex (some (0, G)))
  else (Tw_divide_l51 P W x1 W G)
noncomputable def Tw_divide_l42 (P W : Int) (x1 : Int) (G : St) : Option (Int × St) :=
  wh (fun s => Tw_divide_s42 P W s.1 s.2) (x1, G)
theorem Tw_divide_l42_eq (P W : Int) (x1 : Int) (G : St) : Tw_divide_l42 P W x1 G = (Tw_divide_s42 P W x1 G).bind (lk (fun s => Tw_divide_l42 P W s.1 s.2) some) := by
  exact wh_eq _ _
noncomputable def Tw_divide_s2 (P W : Int) (x1 : Int) (G : St) : Option ((Int × St) ⊕ (Int × St)) :=
  if W < x1 then (ex (ckB W 40 <| tk (up G 188 W (-2)) fun G1 =>
  ckI (W - 1) <| Tw_divide_l42 P W (W - 1) G1))
  else (ckB x1 40 <| tk (up G 193 x1 (-2)) fun G19 =>
  ckI (x1 + 1) <| some (Sum.inl (x1 + 1, G19)))
noncomputable def Tw_divide_l2 (P W : Int) (x1 : Int) (G : St) : Option (Int × St) :=
  wh (fun s => Tw_divide_s2 P W s.1 s.2) (x1, G)
theorem Tw_divide_l2_eq (P W : Int) (x1 : Int) (G : St) : Tw_divide_l2 P W x1 G = (Tw_divide_s2 P W x1 G).bind (lk (fun s => Tw_divide_l2 P W s.1 s.2) some) := by
  exact wh_eq _ _
noncomputable def Tw_divide (P W : Int) (G : St) : Option (Int × St) :=
  Tw_divide_l2 P W 0 G
noncomputable def Tw_equal_b98 (x2 : Int) (x3 : Int) (x4 : Int) (s0 : Int) (s1 : Int) (G : St) : Option ((Int × Int × St) ⊕ ((Int × St) ⊕ (Int × St))) :=
  ckB s1 40 <| tk (up G 190 s1 s0) fun G1 =>
  ckI (x3 + 1) <| ckI (x4 + 2) <| some (Sum.inl (x3 + 1, x4 + 2, G1))
noncomputable def Tw_equal_s49 (x2 : Int) (x3 : Int) (x4 : Int) (G : St) : Option ((Int × Int × St) ⊕ ((Int × St) ⊕ (Int × St))) :=
  if x4 < x2 then (ckI (x4 + 1) <| if (x4 + 1) < x2 then (ckB x4 40 <| ckI (x4 + 1) <| ckB (x4 + 1) 40 <| bd (Tw_and (G 190 x4) (G 190 (x4 + 1)) G) fun z2 G3 =>
  Tw_equal_b98 x2 x3 x4 z2 x3 G3)
  else (ckB x4 40 <| Tw_equal_b98 x2 x3 x4 (G 190 x4) x3 G))
  else (ex (some (Sum.inl (x3, G))))
noncomputable def Tw_equal_l49 (x2 : Int) (x3 : Int) (x4 : Int) (G : St) : Option ((Int × St) ⊕ (Int × St)) :=
  wh (fun s => Tw_equal_s49 x2 s.1 s.2.1 s.2.2) (x3, x4, G)
theorem Tw_equal_l49_eq (x2 : Int) (x3 : Int) (x4 : Int) (G : St) : Tw_equal_l49 x2 x3 x4 G = (Tw_equal_s49 x2 x3 x4 G).bind (lk (fun s => Tw_equal_l49 x2 s.1 s.2.1 s.2.2) some) := by
  exact wh_eq _ _
noncomputable def Tw_equal_s39 (x2 : Int) (G : St) : Option ((Int × St) ⊕ (Int × St)) :=
  if 1 < x2 then (Tw_equal_l49 x2 0 0 G)
  else (ex (ckB 0 40 <| some (G 190 0, G)))
noncomputable def Tw_equal_l39 (x2 : Int) (G : St) : Option (Int × St) :=
  wh (fun s => Tw_equal_s39 s.1 s.2) (x2, G)
theorem Tw_equal_l39_eq (x2 : Int) (G : St) : Tw_equal_l39 x2 G = (Tw_equal_s39 x2 G).bind (lk (fun s => Tw_equal_l39 s.1 s.2) some) := by
  exact wh_eq _ _
noncomputable def Tw_equal_s2 (x1 : Int) (x2 : Int) (G : St) : Option ((Int × St) ⊕ (Int × St)) :=
  if x2 < x1 then (ckB x2 40 <| ckB x2 40 <| bd (Tw_xor (G 187 x2) (G 188 x2) G) fun z4 G5 =>
  ckB x2 40 <| tk (up G5 190 x2 (j_xo z4 1)) fun G6 =>
  ckI (x2 + 1) <| some (Sum.inl (x2 + 1, G6)))
  else (ex (Tw_equal_l39 x1 G))
noncomputable def Tw_equal_l2 (x1 : Int) (x2 : Int) (G : St) : Option (Int × St) :=
  wh (fun s => Tw_equal_s2 x1 s.1 s.2) (x2, G)
theorem Tw_equal_l2_eq (x1 : Int) (x2 : Int) (G : St) : Tw_equal_l2 x1 x2 G = (Tw_equal_s2 x1 x2 G).bind (lk (fun s => Tw_equal_l2 x1 s.1 s.2) some) := by
  exact wh_eq _ _
noncomputable def Tw_equal (x1 : Int) (G : St) : Option (Int × St) :=
  Tw_equal_l2 x1 0 G
noncomputable def Tw_less_s52 (P W : Int) (x1 : Int) (x2 : Int) (G : St) : Option ((Int × Int × St) ⊕ (Int × St)) :=
  if x2 < W then (ckB x2 40 <| bd (Tw_xor (j_xo (G 188 x2) 1) x1 G) fun z3 G4 =>
  ckB x2 40 <| bd (Tw_xor (G4 187 x2) x1 G4) fun z5 G6 =>
  bd (Tw_and z5 z3 G6) fun z7 G8 =>
  bd (Tw_xor x1 z7 G8) fun z9 G10 =>
  ckI (x2 + 1) <| some (Sum.inl (z9, x2 + 1, G10)))
  else (ex (some (j_xo x1 1, G)))
noncomputable def Tw_less_l52 (P W : Int) (x1 : Int) (x2 : Int) (G : St) : Option (Int × St) :=
  wh (fun s => Tw_less_s52 P W s.1 s.2.1 s.2.2) (x1, x2, G)
theorem Tw_less_l52_eq (P W : Int) (x1 : Int) (x2 : Int) (G : St) : Tw_less_l52 P W x1 x2 G = (Tw_less_s52 P W x1 x2 G).bind (lk (fun s => Tw_less_l52 P W s.1 s.2.1 s.2.2) some) := by
  exact wh_eq _ _
noncomputable def Tw_less (P W : Int) (G : St) : Option (Int × St) :=
  ckI (W - 1) <| ckI (W - 1) <| ckB (W - 1) 40 <| ckB (W - 1) 40 <| tk (up G 187 (W - 1) (j_xo (G 187 (W - 1)) 1)) fun G1 =>
  ckI (W - 1) <| ckI (W - 1) <| ckB (W - 1) 40 <| ckB (W - 1) 40 <| tk (up G1 188 (W - 1) (j_xo (G1 188 (W - 1)) 1)) fun G2 =>
  Tw_less_l52 P W (-1) 0 G2
noncomputable def Tw_sum_b81 (x1 : Int) (x3 : Int) (x4 : Int) (G : St) : Option ((Int × Int × St) ⊕ (Int × St)) :=
  ckI (x4 + 1) <| some (Sum.inl (x3, x4 + 1, G))
noncomputable def Tw_sum_s5 (x1 : Int) (x3 : Int) (x4 : Int) (G : St) : Option ((Int × Int × St) ⊕ (Int × St)) :=
  if x4 < x1 then (ckB x4 40 <| bd (Tw_xor (G 188 x4) x3 G) fun z1 G2 =>
  ckB x4 40 <| bd (Tw_xor (G2 187 x4) z1 G2) fun z3 G4 =>
  ckB x4 40 <| tk (up G4 189 x4 z3) fun G5 =>
  ckI (x1 - 1) <| if x4 < (x1 - 1) then (ckB x4 40 <| bd (Tw_xor (G5 187 x4) x3 G5) fun z6 G7 =>
  bd (Tw_and z6 z1 G7) fun z8 G9 =>
  bd (Tw_xor x3 z8 G9) fun z10 G11 =>
  Tw_sum_b81 x1 z10 x4 G11)
  else (Tw_sum_b81 x1 x3 x4 G5))
  else (ex (some (0, G)))
noncomputable def Tw_sum_l5 (x1 : Int) (x3 : Int) (x4 : Int) (G : St) : Option (Int × St) :=
  wh (fun s => Tw_sum_s5 x1 s.1 s.2.1 s.2.2) (x3, x4, G)
theorem Tw_sum_l5_eq (x1 : Int) (x3 : Int) (x4 : Int) (G : St) : Tw_sum_l5 x1 x3 x4 G = (Tw_sum_s5 x1 x3 x4 G).bind (lk (fun s => Tw_sum_l5 x1 s.1 s.2.1 s.2.2) some) := by
  exact wh_eq _ _
noncomputable def Tw_sum (x1 : Int) (x2 : Int) (G : St) : Option (Int × St) :=
  Tw_sum_l5 x1 x2 0 G
noncomputable def Tw_multiply_s194 (P W : Int) (x1 : Int) (G : St) : Option ((Int × St) ⊕ (Int × St)) :=
  if x1 < W then (ckB x1 40 <| ckB x1 40 <| tk (up G 189 x1 (G 192 x1)) fun G1 =>
  ckI (x1 + 1) <| some (Sum.inl (x1 + 1, G1)))
  else (ex (some (0, G)))
noncomputable def Tw_multiply_l194 (P W : Int) (x1 : Int) (G : St) : Option (Int × St) :=
  wh (fun s => Tw_multiply_s194 P W s.1 s.2) (x1, G)
theorem Tw_multiply_l194_eq (P W : Int) (x1 : Int) (G : St) : Tw_multiply_l194 P W x1 G = (Tw_multiply_s194 P W x1 G).bind (lk (fun s => Tw_multiply_l194 P W s.1 s.2) some) := by
  exact wh_eq _ _
noncomputable def Tw_multiply_s156 (P W : Int) (x1 : Int) (x2 : Int) (G : St) : Option ((Int × St) ⊕ ((Int × St) ⊕ (Int × St))) :=
  ckI (W - x1) <| if x2 < (W - x1) then (ckI (x1 + x2) <| ckB x2 40 <| ckB (x1 + x2) 40 <| tk (up G 192 (x1 + x2) (G 189 x2)) fun G4 =>
  ckI (x2 + 1) <| some (Sum.inl (x2 + 1, G4)))
  else (ex (ckI (x1 + 1) <| some (Sum.inl (x1 + 1, G))))
noncomputable def Tw_multiply_l156 (P W : Int) (x1 : Int) (x2 : Int) (G : St) : Option ((Int × St) ⊕ (Int × St)) :=
  wh (fun s => Tw_multiply_s156 P W x1 s.1 s.2) (x2, G)
theorem Tw_multiply_l156_eq (P W : Int) (x1 : Int) (x2 : Int) (G : St) : Tw_multiply_l156 P W x1 x2 G = (Tw_multiply_s156 P W x1 x2 G).bind (lk (fun s => Tw_multiply_l156 P W x1 s.1 s.2) some) := by
  exact wh_eq _ _
noncomputable def Tw_multiply_s90 (P W : Int) (x1 : Int) (x2 : Int) (G : St) : Option ((Int × St) ⊕ ((Int × St) ⊕ (Int × St))) :=
  ckI (W - x1) <| if x2 < (W - x1) then (ckB x2 40 <| ckB x1 40 <| bd (Tw_and (G 191 x2) (G 190 x1) G) fun z5 G6 =>
  ckB x2 40 <| tk (up G6 188 x2 z5) fun G7 =>
  ckI (x1 + x2) <| ckB (x1 + x2) 40 <| ckB x2 40 <| tk (up G7 187 x2 (G7 192 (x1 + x2))) fun G8 =>
  ckI (x2 + 1) <| some (Sum.inl (x2 + 1, G8)))
  else (ex (ckI (W - x1) <| bd (Tw_sum (W - x1) (-2) G) fun _ G3 =>
  Tw_multiply_l156 P W x1 0 G3))
noncomputable def Tw_multiply_l90 (P W : Int) (x1 : Int) (x2 : Int) (G : St) : Option ((Int × St) ⊕ (Int × St)) :=
  wh (fun s => Tw_multiply_s90 P W x1 s.1 s.2) (x2, G)
theorem Tw_multiply_l90_eq (P W : Int) (x1 : Int) (x2 : Int) (G : St) : Tw_multiply_l90 P W x1 x2 G = (Tw_multiply_s90 P W x1 x2 G).bind (lk (fun s => Tw_multiply_l90 P W x1 s.1 s.2) some) := by
  exact wh_eq _ _
noncomputable def Tw_multiply_s80 (P W : Int) (x1 : Int) (G : St) : Option ((Int × St) ⊕ (Int × St)) :=
  if x1 < W then (Tw_multiply_l90 P W x1 0 G)
  else (ex (Tw_multiply_l194 P W 0 G))
noncomputable def Tw_multiply_l80 (P W : Int) (x1 : Int) (G : St) : Option (Int × St) :=
  wh (fun s => Tw_multiply_s80 P W s.1 s.2) (x1, G)
theorem Tw_multiply_l80_eq (P W : Int) (x1 : Int) (G : St) : Tw_multiply_l80 P W x1 G = (Tw_multiply_s80 P W x1 G).bind (lk (fun s => Tw_multiply_l80 P W s.1 s.2) some) := by
  exact wh_eq _ _
noncomputable def Tw_multiply_s42 (P W : Int) (x1 : Int) (G : St) : Option ((Int × St) ⊕ (Int × St)) :=
  if x1 < W then (ckB x1 40 <| ckB 0 40 <| bd (Tw_and (G 191 x1) (G 190 0) G) fun z9 G10 =>
  ckB x1 40 <| tk (up G10 192 x1 z9) fun G11 =>
  ckI (x1 + 1) <| some (Sum.inl (x1 + 1, G11)))
  else (ex (Tw_multiply_l80 P W 1 G))
noncomputable def Tw_multiply_l42 (P W : Int) (x1 : Int) (G : St) : Option (Int × St) :=
  wh (fun s => Tw_multiply_s42 P W s.1 s.2) (x1, G)
theorem Tw_multiply_l42_eq (P W : Int) (x1 : Int) (G : St) : Tw_multiply_l42 P W x1 G = (Tw_multiply_s42 P W x1 G).bind (lk (fun s => Tw_multiply_l42 P W s.1 s.2) some) := by
  exact wh_eq _ _
noncomputable def Tw_multiply_s2 (P W : Int) (x1 : Int) (G : St) : Option ((Int × St) ⊕ (Int × St)) :=
  if x1 < W then (ckB x1 40 <| ckB x1 40 <| tk (up G 191 x1 (G 187 x1)) fun G12 =>
  ckB x1 40 <| ckB x1 40 <| tk (up G12 190 x1 (G12 188 x1)) fun G13 =>
  ckI (x1 + 1) <| some (Sum.inl (x1 + 1, G13)))
  else (ex (Tw_multiply_l42 P W 0 G))
noncomputable def Tw_multiply_l2 (P W : Int) (x1 : Int) (G : St) : Option (Int × St) :=
  wh (fun s => Tw_multiply_s2 P W s.1 s.2) (x1, G)
theorem Tw_multiply_l2_eq (P W : Int) (x1 : Int) (G : St) : Tw_multiply_l2 P W x1 G = (Tw_multiply_s2 P W x1 G).bind (lk (fun s => Tw_multiply_l2 P W s.1 s.2) some) := by
  exact wh_eq _ _
noncomputable def Tw_multiply (P W : Int) (G : St) : Option (Int × St) :=
  Tw_multiply_l2 P W 0 G
noncomputable def Tw_popX_s12 (x1 : Int) (x2 : Int) (G : St) : Option ((Int × St) ⊕ (Int × St)) :=
  if x2 < x1 then (ckI (32 * (G 100 85)) <| ckI ((32 * (G 100 85)) + x2) <| ckB ((32 * (G 100 85)) + x2) 134400 <| ckB x2 40 <| tk (up G 187 x2 (G 185 ((32 * (G 100 85)) + x2))) fun G2 =>
  ckI (x2 + 1) <| some (Sum.inl (x2 + 1, G2)))
  else (ex (some (0, G)))
noncomputable def Tw_popX_l12 (x1 : Int) (x2 : Int) (G : St) : Option (Int × St) :=
  wh (fun s => Tw_popX_s12 x1 s.1 s.2) (x2, G)
theorem Tw_popX_l12_eq (x1 : Int) (x2 : Int) (G : St) : Tw_popX_l12 x1 x2 G = (Tw_popX_s12 x1 x2 G).bind (lk (fun s => Tw_popX_l12 x1 s.1 s.2) some) := by
  exact wh_eq _ _
noncomputable def Tw_popX (x1 : Int) (G : St) : Option (Int × St) :=
  ckI ((G 100 85) - 1) <| tk (up G 100 85 ((G 100 85) - 1)) fun G1 =>
  Tw_popX_l12 x1 0 G1
noncomputable def Tw_popY_s12 (x1 : Int) (x2 : Int) (G : St) : Option ((Int × St) ⊕ (Int × St)) :=
  if x2 < x1 then (ckI (32 * (G 100 85)) <| ckI ((32 * (G 100 85)) + x2) <| ckB ((32 * (G 100 85)) + x2) 134400 <| ckB x2 40 <| tk (up G 188 x2 (G 185 ((32 * (G 100 85)) + x2))) fun G2 =>
  ckI (x2 + 1) <| some (Sum.inl (x2 + 1, G2)))
  else (ex (some (0, G)))
noncomputable def Tw_popY_l12 (x1 : Int) (x2 : Int) (G : St) : Option (Int × St) :=
  wh (fun s => Tw_popY_s12 x1 s.1 s.2) (x2, G)
theorem Tw_popY_l12_eq (x1 : Int) (x2 : Int) (G : St) : Tw_popY_l12 x1 x2 G = (Tw_popY_s12 x1 x2 G).bind (lk (fun s => Tw_popY_l12 x1 s.1 s.2) some) := by
  exact wh_eq _ _
noncomputable def Tw_popY (x1 : Int) (G : St) : Option (Int × St) :=
  ckI ((G 100 85) - 1) <| tk (up G 100 85 ((G 100 85) - 1)) fun G1 =>
  Tw_popY_l12 x1 0 G1
noncomputable def Tw_pushZ_s2 (x1 : Int) (x2 : Int) (G : St) : Option ((Int × St) ⊕ (Int × St)) :=
  if x2 < x1 then (ckI (32 * (G 100 85)) <| ckI ((32 * (G 100 85)) + x2) <| ckB x2 40 <| ckB ((32 * (G 100 85)) + x2) 134400 <| tk (up G 185 ((32 * (G 100 85)) + x2) (G 189 x2)) fun G2 =>
  ckI (x2 + 1) <| some (Sum.inl (x2 + 1, G2)))
  else (ex (ckI ((G 100 85) + 1) <| tk (up G 100 85 ((G 100 85) + 1)) fun G1 =>
  some (0, G1)))
noncomputable def Tw_pushZ_l2 (x1 : Int) (x2 : Int) (G : St) : Option (Int × St) :=
  wh (fun s => Tw_pushZ_s2 x1 s.1 s.2) (x2, G)
theorem Tw_pushZ_l2_eq (x1 : Int) (x2 : Int) (G : St) : Tw_pushZ_l2 x1 x2 G = (Tw_pushZ_s2 x1 x2 G).bind (lk (fun s => Tw_pushZ_l2 x1 s.1 s.2) some) := by
  exact wh_eq _ _
noncomputable def Tw_pushZ (x1 : Int) (G : St) : Option (Int × St) :=
  Tw_pushZ_l2 x1 0 G
noncomputable def Tw_swap_s2 (P W : Int) (x1 : Int) (G : St) : Option ((Int × St) ⊕ (Int × St)) :=
  if x1 < W then (ckB x1 40 <| ckB x1 40 <| ckB x1 40 <| tk (up G 187 x1 (G 188 x1)) fun G1 =>
  ckB x1 40 <| tk (up G1 188 x1 (G 187 x1)) fun G2 =>
  ckI (x1 + 1) <| some (Sum.inl (x1 + 1, G2)))
  else (ex (some (0, G)))
noncomputable def Tw_swap_l2 (P W : Int) (x1 : Int) (G : St) : Option (Int × St) :=
  wh (fun s => Tw_swap_s2 P W s.1 s.2) (x1, G)
theorem Tw_swap_l2_eq (P W : Int) (x1 : Int) (G : St) : Tw_swap_l2 P W x1 G = (Tw_swap_s2 P W x1 G).bind (lk (fun s => Tw_swap_l2 P W s.1 s.2) some) := by
  exact wh_eq _ _
noncomputable def Tw_swap (P W : Int) (G : St) : Option (Int × St) :=
  Tw_swap_l2 P W 0 G
noncomputable def Tw_worthOf_b39 (P W : Int) (x1 : Int) (x4 : Int) (s0 : Int) (s1 : Int) (G : St) : Option ((Int × Int × St) ⊕ (Int × St)) :=
  ckL (s1 + s0) <| ckI (x4 + 1) <| some (Sum.inl (s1 + s0, x4 + 1, G))
noncomputable def Tw_worthOf_s5 (P W : Int) (x1 : Int) (x2 : Int) (x4 : Int) (G : St) : Option ((Int × Int × St) ⊕ (Int × St)) :=
  if x4 < W then (ckI (32 * x1) <| ckI ((32 * x1) + x4) <| ckB ((32 * x1) + x4) 134400 <| if (G 185 ((32 * x1) + x4)) = (-1) then (Tw_worthOf_b39 P W x1 x4 (j_lsl 1 x4) x2 G)
  else (Tw_worthOf_b39 P W x1 x4 0 x2 G))
  else (ex (some (x2, G)))
noncomputable def Tw_worthOf_l5 (P W : Int) (x1 : Int) (x2 : Int) (x4 : Int) (G : St) : Option (Int × St) :=
  wh (fun s => Tw_worthOf_s5 P W x1 s.1 s.2.1 s.2.2) (x2, x4, G)
theorem Tw_worthOf_l5_eq (P W : Int) (x1 : Int) (x2 : Int) (x4 : Int) (G : St) : Tw_worthOf_l5 P W x1 x2 x4 G = (Tw_worthOf_s5 P W x1 x2 x4 G).bind (lk (fun s => Tw_worthOf_l5 P W x1 s.1 s.2.1 s.2.2) some) := by
  exact wh_eq _ _
noncomputable def Tw_worthOf (P W : Int) (x1 : Int) (G : St) : Option (Int × St) :=
  Tw_worthOf_l5 P W x1 0 0 G
noncomputable def Tw_binary_b160 (P W : Int) (x2 : Int) (x4 : Int) (x6 : Int) (s0 : Int) (s1 : Int) (G : St) : Option ((Int × St) ⊕ (Int × St)) :=
  ckB s1 40 <| tk (up G 189 s1 s0) fun G10 =>
  ckI (x6 + 1) <| some (Sum.inl (x6 + 1, G10))
noncomputable def Tw_binary_b154 (P W : Int) (x2 : Int) (x4 : Int) (x6 : Int) (s0 : Int) (s2 : Int) (G : St) : Option ((Int × St) ⊕ (Int × St)) :=
  ckB s0 40 <| Tw_binary_b160 P W x2 x4 x6 (G 187 s0) s2 G
noncomputable def Tw_binary_b117 (P W : Int) (x2 : Int) (x4 : Int) (x6 : Int) (s0 : Int) (G : St) : Option ((Int × St) ⊕ (Int × St)) :=
  if s0 < 0 then (Tw_binary_b160 P W x2 x4 x6 (-2) x6 G)
  else (if s0 < W then (Tw_binary_b154 P W x2 x4 x6 (if s0 < 0 then 0 else s0) x6 G)
  else (Tw_binary_b160 P W x2 x4 x6 (-2) x6 G))
noncomputable def Tw_binary_s87 (P W : Int) (x2 : Int) (x4 : Int) (x6 : Int) (G : St) : Option ((Int × St) ⊕ (Int × St)) :=
  if x6 < W then (if x2 = 12 then (ckI (x6 - (w32 x4)) <| Tw_binary_b117 P W x2 x4 x6 (x6 - (w32 x4)) G)
  else (ckI (x6 + (w32 x4)) <| Tw_binary_b117 P W x2 x4 x6 (x6 + (w32 x4)) G))
  else (ex (bd (Tw_pushZ W G) fun _ G9 =>
  some (0, G9)))
noncomputable def Tw_binary_l87 (P W : Int) (x2 : Int) (x4 : Int) (x6 : Int) (G : St) : Option (Int × St) :=
  wh (fun s => Tw_binary_s87 P W x2 x4 s.1 s.2) (x6, G)
theorem Tw_binary_l87_eq (P W : Int) (x2 : Int) (x4 : Int) (x6 : Int) (G : St) : Tw_binary_l87 P W x2 x4 x6 G = (Tw_binary_s87 P W x2 x4 x6 G).bind (lk (fun s => Tw_binary_l87 P W x2 x4 s.1 s.2) some) := by
  exact wh_eq _ _
noncomputable def Tw_binary_b30 (P W : Int) (x1 : Int) (x2 : Int) (G : St) : Option (Int × St) :=
  ckI ((G 100 85) - 1) <| bd (Tw_worthOf P W ((G 100 85) - 1) G) fun z3 G4 =>
  if z3 < W then (ckI ((G4 100 85) - 1) <| tk (up G4 100 85 ((G4 100 85) - 1)) fun G5 =>
  bd (Tw_popX W G5) fun _ G7 =>
  Tw_binary_l87 P W x2 z3 0 G7)
  else (ckB x1 12000 <| bd (Tw_fail 7 (G4 155 x1) G4) fun _ G12 =>
  some (0, G12))
noncomputable def Tw_binary_b610 (P W : Int) (x4 : Int) (G : St) : Option (Int × St) :=
  bd (Tw_pushZ x4 G) fun _ G18 =>
  some (0, G18)
noncomputable def Tw_binary_s271 (P W : Int) (x3 : Int) (x4 : Int) (x5 : Int) (G : St) : Option ((Int × St) ⊕ (Int × St)) :=
  if x5 < x3 then (ckB x5 40 <| ckB x5 40 <| bd (Tw_and (j_xo (G 187 x5) 1) (j_xo (G 188 x5) 1) G) fun z19 G20 =>
  ckB x5 40 <| tk (up G20 189 x5 (j_xo z19 1)) fun G21 =>
  ckI (x5 + 1) <| some (Sum.inl (x5 + 1, G21)))
  else (ex (Tw_binary_b610 P W x4 G))
noncomputable def Tw_binary_l271 (P W : Int) (x3 : Int) (x4 : Int) (x5 : Int) (G : St) : Option (Int × St) :=
  wh (fun s => Tw_binary_s271 P W x3 x4 s.1 s.2) (x5, G)
theorem Tw_binary_l271_eq (P W : Int) (x3 : Int) (x4 : Int) (x5 : Int) (G : St) : Tw_binary_l271 P W x3 x4 x5 G = (Tw_binary_s271 P W x3 x4 x5 G).bind (lk (fun s => Tw_binary_l271 P W x3 x4 s.1 s.2) some) := by
  exact wh_eq _ _
noncomputable def Tw_binary_b268 (P W : Int) (x3 : Int) (x4 : Int) (G : St) : Option (Int × St) :=
  Tw_binary_l271 P W x3 x4 0 G
noncomputable def Tw_binary_s320 (P W : Int) (x3 : Int) (x4 : Int) (x5 : Int) (G : St) : Option ((Int × St) ⊕ (Int × St)) :=
  if x5 < x3 then (ckB x5 40 <| ckB x5 40 <| bd (Tw_and (G 187 x5) (G 188 x5) G) fun z22 G23 =>
  ckB x5 40 <| tk (up G23 189 x5 z22) fun G24 =>
  ckI (x5 + 1) <| some (Sum.inl (x5 + 1, G24)))
  else (ex (Tw_binary_b610 P W x4 G))
noncomputable def Tw_binary_l320 (P W : Int) (x3 : Int) (x4 : Int) (x5 : Int) (G : St) : Option (Int × St) :=
  wh (fun s => Tw_binary_s320 P W x3 x4 s.1 s.2) (x5, G)
theorem Tw_binary_l320_eq (P W : Int) (x3 : Int) (x4 : Int) (x5 : Int) (G : St) : Tw_binary_l320 P W x3 x4 x5 G = (Tw_binary_s320 P W x3 x4 x5 G).bind (lk (fun s => Tw_binary_l320 P W x3 x4 s.1 s.2) some) := by
  exact wh_eq _ _
noncomputable def Tw_binary_b317 (P W : Int) (x3 : Int) (x4 : Int) (G : St) : Option (Int × St) :=
  Tw_binary_l320 P W x3 x4 0 G
noncomputable def Tw_binary_s363 (P W : Int) (x3 : Int) (x4 : Int) (x5 : Int) (G : St) : Option ((Int × St) ⊕ (Int × St)) :=
  if x5 < x3 then (ckB x5 40 <| ckB x5 40 <| bd (Tw_xor (G 187 x5) (G 188 x5) G) fun z25 G26 =>
  ckB x5 40 <| tk (up G26 189 x5 z25) fun G27 =>
  ckI (x5 + 1) <| some (Sum.inl (x5 + 1, G27)))
  else (ex (Tw_binary_b610 P W x4 G))
noncomputable def Tw_binary_l363 (P W : Int) (x3 : Int) (x4 : Int) (x5 : Int) (G : St) : Option (Int × St) :=
  wh (fun s => Tw_binary_s363 P W x3 x4 s.1 s.2) (x5, G)
theorem Tw_binary_l363_eq (P W : Int) (x3 : Int) (x4 : Int) (x5 : Int) (G : St) : Tw_binary_l363 P W x3 x4 x5 G = (Tw_binary_s363 P W x3 x4 x5 G).bind (lk (fun s => Tw_binary_l363 P W x3 x4 s.1 s.2) some) := by
  exact wh_eq _ _
noncomputable def Tw_binary_b360 (P W : Int) (x3 : Int) (x4 : Int) (G : St) : Option (Int × St) :=
  Tw_binary_l363 P W x3 x4 0 G
noncomputable def Tw_binary_b424 (P W : Int) (s0 : Int) (s1 : Int) (s2 : Int) (G : St) : Option (Int × St) :=
  ckB s2 40 <| tk (up G 189 s2 (j_xo s1 s0)) fun G30 =>
  Tw_binary_b610 P W 1 G30
noncomputable def Tw_binary_b403 (P W : Int) (x2 : Int) (x3 : Int) (G : St) : Option (Int × St) :=
  bd (Tw_equal x3 G) fun z28 G29 =>
  Tw_binary_b424 P W (if x2 = 7 then 1 else 0) z28 0 G29
noncomputable def Tw_binary_b452 (P W : Int) (s0 : Int) (s1 : Int) (s2 : Int) (G : St) : Option (Int × St) :=
  ckB s2 40 <| tk (up G 189 s2 (j_xo s1 s0)) fun G33 =>
  Tw_binary_b610 P W 1 G33
noncomputable def Tw_binary_b432 (P W : Int) (x2 : Int) (G : St) : Option (Int × St) :=
  bd (Tw_less P W G) fun z31 G32 =>
  Tw_binary_b452 P W (if x2 = 11 then 1 else 0) z31 0 G32
noncomputable def Tw_binary_b484 (P W : Int) (s0 : Int) (s1 : Int) (s2 : Int) (G : St) : Option (Int × St) :=
  ckB s2 40 <| tk (up G 189 s2 (j_xo s1 s0)) fun G38 =>
  Tw_binary_b610 P W 1 G38
noncomputable def Tw_binary_b460 (P W : Int) (x2 : Int) (G : St) : Option (Int × St) :=
  bd (Tw_swap P W G) fun _ G35 =>
  bd (Tw_less P W G35) fun z36 G37 =>
  Tw_binary_b484 P W (if x2 = 9 then 1 else 0) z36 0 G37
noncomputable def Tw_binary_b603 (P W : Int) (x2 : Int) (x4 : Int) (x5 : Int) (s0 : Int) (s1 : Int) (G : St) : Option ((Int × St) ⊕ (Int × St)) :=
  ckB s1 40 <| tk (up G 189 s1 s0) fun G41 =>
  ckI (x5 + 1) <| some (Sum.inl (x5 + 1, G41))
noncomputable def Tw_binary_s565 (P W : Int) (x2 : Int) (x4 : Int) (x5 : Int) (G : St) : Option ((Int × St) ⊕ (Int × St)) :=
  if x5 < W then (if x2 = 17 then (ckB x5 40 <| Tw_binary_b603 P W x2 x4 x5 (G 194 x5) x5 G)
  else (ckB x5 40 <| Tw_binary_b603 P W x2 x4 x5 (G 193 x5) x5 G))
  else (ex (Tw_binary_b610 P W x4 G))
noncomputable def Tw_binary_l565 (P W : Int) (x2 : Int) (x4 : Int) (x5 : Int) (G : St) : Option (Int × St) :=
  wh (fun s => Tw_binary_s565 P W x2 x4 s.1 s.2) (x5, G)
theorem Tw_binary_l565_eq (P W : Int) (x2 : Int) (x4 : Int) (x5 : Int) (G : St) : Tw_binary_l565 P W x2 x4 x5 G = (Tw_binary_s565 P W x2 x4 x5 G).bind (lk (fun s => Tw_binary_l565 P W x2 x4 s.1 s.2) some) := by
  exact wh_eq _ _
noncomputable def Tw_binary_b558 (P W : Int) (x2 : Int) (x4 : Int) (G : St) : Option (Int × St) :=
  bd (Tw_divide P W G) fun _ G40 =>
  Tw_binary_l565 P W x2 x4 0 G40
noncomputable def Tw_binary_b492 (P W : Int) (x4 : Int) (G : St) : Option (Int × St) :=
  bd (Tw_sum W (-2) G) fun _ G43 =>
  Tw_binary_b610 P W x4 G43
noncomputable def Tw_binary_s508 (P W : Int) (x4 : Int) (x5 : Int) (G : St) : Option ((Int × St) ⊕ (Int × St)) :=
  if x5 < W then (ckB x5 40 <| ckB x5 40 <| tk (up G 188 x5 (j_xo (G 188 x5) 1)) fun G46 =>
  ckI (x5 + 1) <| some (Sum.inl (x5 + 1, G46)))
  else (ex (bd (Tw_sum W (-1) G) fun _ G45 =>
  Tw_binary_b610 P W x4 G45))
noncomputable def Tw_binary_l508 (P W : Int) (x4 : Int) (x5 : Int) (G : St) : Option (Int × St) :=
  wh (fun s => Tw_binary_s508 P W x4 s.1 s.2) (x5, G)
theorem Tw_binary_l508_eq (P W : Int) (x4 : Int) (x5 : Int) (G : St) : Tw_binary_l508 P W x4 x5 G = (Tw_binary_s508 P W x4 x5 G).bind (lk (fun s => Tw_binary_l508 P W x4 s.1 s.2) some) := by
  exact wh_eq _ _
noncomputable def Tw_binary_b505 (P W : Int) (x4 : Int) (G : St) : Option (Int × St) :=
  Tw_binary_l508 P W x4 0 G
noncomputable def Tw_binary_b551 (P W : Int) (x4 : Int) (G : St) : Option (Int × St) :=
  bd (Tw_multiply P W G) fun _ G48 =>
  Tw_binary_b610 P W x4 G48
noncomputable def Tw_binary (P W : Int) (x1 : Int) (G : St) : Option (Int × St) :=
  ckB x1 12000 <| ckB x1 12000 <| bd (Tw_widthOf P W (G 117 x1) G) fun z1 G2 =>
  if (G 116 x1) = 12 then (Tw_binary_b30 P W x1 (G 116 x1) G2)
  else (if (G 116 x1) = 13 then (Tw_binary_b30 P W x1 (G 116 x1) G2)
  else (bd (Tw_popY z1 G2) fun _ G14 =>
  bd (Tw_popX z1 G14) fun _ G16 =>
  swt (G 116 x1) 1 [Tw_binary_b268 P W z1 z1 G16, Tw_binary_b317 P W z1 z1 G16, Tw_binary_b268 P W z1 z1 G16, Tw_binary_b360 P W z1 z1 G16, Tw_binary_b317 P W z1 z1 G16, Tw_binary_b403 P W (G 116 x1) z1 G16, Tw_binary_b403 P W (G 116 x1) z1 G16, Tw_binary_b432 P W (G 116 x1) G16, Tw_binary_b460 P W (G 116 x1) G16, Tw_binary_b460 P W (G 116 x1) G16, Tw_binary_b432 P W (G 116 x1) G16, Tw_binary_b558 P W (G 116 x1) z1 G16, Tw_binary_b558 P W (G 116 x1) z1 G16, Tw_binary_b492 P W z1 G16, Tw_binary_b505 P W z1 G16, Tw_binary_b551 P W z1 G16] (Tw_binary_b558 P W (G 116 x1) z1 G16)))
noncomputable def Tw_bodyOf (x1 : Int) (G : St) : Option (Int × St) :=
  ckB x1 12000 <| ckI (x1 + (G 117 x1)) <| ckI ((x1 + (G 117 x1)) + 2) <| some ((x1 + (G 117 x1)) + 2, G)
noncomputable def Tw_constantZ_b32 (x1 : Int) (x3 : Int) (x4 : Int) (s0 : Int) (s1 : Int) (G : St) : Option ((Int × St) ⊕ (Int × St)) :=
  ckB s1 40 <| tk (up G 189 s1 s0) fun G1 =>
  ckI (x4 + 1) <| some (Sum.inl (x4 + 1, G1))
noncomputable def Tw_constantZ_s3 (x1 : Int) (x3 : Int) (x4 : Int) (G : St) : Option ((Int × St) ⊕ (Int × St)) :=
  if x4 < x3 then (Tw_constantZ_b32 x1 x3 x4 (if (j_lan (j_lsr x1 x4) 1) = 1 then (-1) else (-2)) x4 G)
  else (ex (some (0, G)))
noncomputable def Tw_constantZ_l3 (x1 : Int) (x3 : Int) (x4 : Int) (G : St) : Option (Int × St) :=
  wh (fun s => Tw_constantZ_s3 x1 x3 s.1 s.2) (x4, G)
theorem Tw_constantZ_l3_eq (x1 : Int) (x3 : Int) (x4 : Int) (G : St) : Tw_constantZ_l3 x1 x3 x4 G = (Tw_constantZ_s3 x1 x3 x4 G).bind (lk (fun s => Tw_constantZ_l3 x1 x3 s.1 s.2) some) := by
  exact wh_eq _ _
noncomputable def Tw_constantZ (x1 : Int) (x3 : Int) (G : St) : Option (Int × St) :=
  Tw_constantZ_l3 x1 x3 0 G
noncomputable def Tw_elementBit (x1 : Int) (x2 : Int) (x3 : Int) (G : St) : Option (Int × St) :=
  ckB x1 12000 <| if (G 151 x1) = 1 then (ckB x1 12000 <| ckI ((G 152 x1) + x2) <| ckB ((G 152 x1) + x2) 256 <| ckI ((G 179 ((G 152 x1) + x2)) + x3) <| ckI (2 * ((G 179 ((G 152 x1) + x2)) + x3)) <| some (2 * ((G 179 ((G 152 x1) + x2)) + x3), G))
  else (ckB x1 12000 <| ckI ((G 152 x1) + x2) <| ckI (32 * ((G 152 x1) + x2)) <| ckI ((32 * ((G 152 x1) + x2)) + x3) <| ckB ((32 * ((G 152 x1) + x2)) + x3) 8192 <| some (G 197 ((32 * ((G 152 x1) + x2)) + x3), G))
noncomputable def Tw_isIndex_b74 (P W : Int) (x1 : Int) (x2 : Int) (s0 : Int) (s1 : Int) (G : St) : Option ((Int × St) ⊕ (Int × St)) :=
  ckB s1 40 <| tk (up G 188 s1 s0) fun G4 =>
  ckI (x2 + 1) <| some (Sum.inl (x2 + 1, G4))
noncomputable def Tw_isIndex_b64 (P W : Int) (x1 : Int) (x2 : Int) (s0 : Int) (s1 : Int) (G : St) : Option ((Int × St) ⊕ (Int × St)) :=
  Tw_isIndex_b74 P W x1 x2 (if s0 = 1 then (-1) else (-2)) s1 G
noncomputable def Tw_isIndex_s24 (P W : Int) (x1 : Int) (x2 : Int) (G : St) : Option ((Int × St) ⊕ (Int × St)) :=
  if x2 < W then (ckB x2 40 <| ckB x2 40 <| tk (up G 187 x2 (G 214 x2)) fun G3 =>
  if x2 < 31 then (Tw_isIndex_b64 P W x1 x2 (j_an (j_sr x1 x2) 1) x2 G3)
  else (Tw_isIndex_b64 P W x1 x2 0 x2 G3))
  else (ex (bd (Tw_equal W G) fun z1 G2 =>
  some (z1, G2)))
noncomputable def Tw_isIndex_l24 (P W : Int) (x1 : Int) (x2 : Int) (G : St) : Option (Int × St) :=
  wh (fun s => Tw_isIndex_s24 P W x1 s.1 s.2) (x2, G)
theorem Tw_isIndex_l24_eq (P W : Int) (x1 : Int) (x2 : Int) (G : St) : Tw_isIndex_l24 P W x1 x2 G = (Tw_isIndex_s24 P W x1 x2 G).bind (lk (fun s => Tw_isIndex_l24 P W x1 s.1 s.2) some) := by
  exact wh_eq _ _
noncomputable def Tw_isIndex_b22 (P W : Int) (x1 : Int) (G : St) : Option (Int × St) :=
  Tw_isIndex_l24 P W x1 0 G
noncomputable def Tw_isIndex (P W : Int) (x1 : Int) (G : St) : Option (Int × St) :=
  if W < 31 then (if x1 < (j_sl 1 W) then (Tw_isIndex_b22 P W x1 G)
  else (some ((-2), G)))
  else (Tw_isIndex_b22 P W x1 G)
noncomputable def Tw_indexed_s182 (P W : Int) (x1 : Int) (x2 : Int) (x3 : Int) (x4 : Int) (x5 : Int) (G : St) : Option ((Int × St) ⊕ ((Int × St) ⊕ (Int × St))) :=
  if x5 < x2 then (ckB x5 40 <| bd (Tw_elementBit x1 x3 x5 G) fun z9 G10 =>
  bd (Tw_and x4 z9 G10) fun z11 G12 =>
  bd (Tw_xor (G 189 x5) z11 G12) fun z13 G14 =>
  ckB x5 40 <| tk (up G14 189 x5 z13) fun G15 =>
  ckI (x5 + 1) <| some (Sum.inl (x5 + 1, G15)))
  else (ex (ckI (x3 + 1) <| some (Sum.inl (x3 + 1, G))))
noncomputable def Tw_indexed_l182 (P W : Int) (x1 : Int) (x2 : Int) (x3 : Int) (x4 : Int) (x5 : Int) (G : St) : Option ((Int × St) ⊕ (Int × St)) :=
  wh (fun s => Tw_indexed_s182 P W x1 x2 x3 x4 s.1 s.2) (x5, G)
theorem Tw_indexed_l182_eq (P W : Int) (x1 : Int) (x2 : Int) (x3 : Int) (x4 : Int) (x5 : Int) (G : St) : Tw_indexed_l182 P W x1 x2 x3 x4 x5 G = (Tw_indexed_s182 P W x1 x2 x3 x4 x5 G).bind (lk (fun s => Tw_indexed_l182 P W x1 x2 x3 x4 s.1 s.2) some) := by
  exact wh_eq _ _
noncomputable def Tw_indexed_s162 (P W : Int) (x1 : Int) (x2 : Int) (x3 : Int) (G : St) : Option ((Int × St) ⊕ (Int × St)) :=
  ckB x1 12000 <| if x3 < (G 153 x1) then (bd (Tw_isIndex P W x3 G) fun z7 G8 =>
  Tw_indexed_l182 P W x1 x2 x3 z7 0 G8)
  else (ex (bd (Tw_pushZ x2 G) fun _ G6 =>
  some (0, G6)))
noncomputable def Tw_indexed_l162 (P W : Int) (x1 : Int) (x2 : Int) (x3 : Int) (G : St) : Option (Int × St) :=
  wh (fun s => Tw_indexed_s162 P W x1 x2 s.1 s.2) (x3, G)
theorem Tw_indexed_l162_eq (P W : Int) (x1 : Int) (x2 : Int) (x3 : Int) (G : St) : Tw_indexed_l162 P W x1 x2 x3 G = (Tw_indexed_s162 P W x1 x2 x3 G).bind (lk (fun s => Tw_indexed_l162 P W x1 x2 s.1 s.2) some) := by
  exact wh_eq _ _
noncomputable def Tw_indexed_s141 (P W : Int) (x1 : Int) (x2 : Int) (x3 : Int) (G : St) : Option ((Int × St) ⊕ (Int × St)) :=
  if x3 < x2 then (ckB x3 40 <| tk (up G 189 x3 (-2)) fun G16 =>
  ckI (x3 + 1) <| some (Sum.inl (x3 + 1, G16)))
  else (ex (Tw_indexed_l162 P W x1 x2 0 G))
noncomputable def Tw_indexed_l141 (P W : Int) (x1 : Int) (x2 : Int) (x3 : Int) (G : St) : Option (Int × St) :=
  wh (fun s => Tw_indexed_s141 P W x1 x2 s.1 s.2) (x3, G)
theorem Tw_indexed_l141_eq (P W : Int) (x1 : Int) (x2 : Int) (x3 : Int) (G : St) : Tw_indexed_l141 P W x1 x2 x3 G = (Tw_indexed_s141 P W x1 x2 x3 G).bind (lk (fun s => Tw_indexed_l141 P W x1 x2 s.1 s.2) some) := by
  exact wh_eq _ _
noncomputable def Tw_indexed_s113 (P W : Int) (x1 : Int) (x2 : Int) (x3 : Int) (G : St) : Option ((Int × St) ⊕ (Int × St)) :=
  if x3 < W then (ckB x3 40 <| ckB x3 40 <| tk (up G 214 x3 (G 187 x3)) fun G17 =>
  ckI (x3 + 1) <| some (Sum.inl (x3 + 1, G17)))
  else (ex (Tw_indexed_l141 P W x1 x2 0 G))
noncomputable def Tw_indexed_l113 (P W : Int) (x1 : Int) (x2 : Int) (x3 : Int) (G : St) : Option (Int × St) :=
  wh (fun s => Tw_indexed_s113 P W x1 x2 s.1 s.2) (x3, G)
theorem Tw_indexed_l113_eq (P W : Int) (x1 : Int) (x2 : Int) (x3 : Int) (G : St) : Tw_indexed_l113 P W x1 x2 x3 G = (Tw_indexed_s113 P W x1 x2 x3 G).bind (lk (fun s => Tw_indexed_l113 P W x1 x2 s.1 s.2) some) := by
  exact wh_eq _ _
noncomputable def Tw_indexed_s69 (P W : Int) (x1 : Int) (x2 : Int) (x3 : Int) (x5 : Int) (G : St) : Option ((Int × St) ⊕ (Int × St)) :=
  if x5 < x2 then (bd (Tw_elementBit x1 (w32 x3) x5 G) fun z23 G24 =>
  ckB x5 40 <| tk (up G24 189 x5 z23) fun G25 =>
  ckI (x5 + 1) <| some (Sum.inl (x5 + 1, G25)))
  else (ex (bd (Tw_pushZ x2 G) fun _ G22 =>
  some (0, G22)))
noncomputable def Tw_indexed_l69 (P W : Int) (x1 : Int) (x2 : Int) (x3 : Int) (x5 : Int) (G : St) : Option (Int × St) :=
  wh (fun s => Tw_indexed_s69 P W x1 x2 x3 s.1 s.2) (x5, G)
theorem Tw_indexed_l69_eq (P W : Int) (x1 : Int) (x2 : Int) (x3 : Int) (x5 : Int) (G : St) : Tw_indexed_l69 P W x1 x2 x3 x5 G = (Tw_indexed_s69 P W x1 x2 x3 x5 G).bind (lk (fun s => Tw_indexed_l69 P W x1 x2 x3 s.1 s.2) some) := by
  exact wh_eq _ _
noncomputable def Tw_indexed (P W : Int) (x1 : Int) (G : St) : Option (Int × St) :=
  ckB x1 12000 <| bd (Tw_widthOf P W (G 154 x1) G) fun z1 G2 =>
  ckB x1 12000 <| if (G2 156 x1) = 0 then (bd (Tw_popX W G2) fun _ G4 =>
  Tw_indexed_l113 P W x1 z1 0 G4)
  else (ckI ((G2 100 85) - 1) <| bd (Tw_worthOf P W ((G2 100 85) - 1) G2) fun z18 G19 =>
  ckB x1 12000 <| if z18 < (G19 153 x1) then (ckI ((G19 100 85) - 1) <| tk (up G19 100 85 ((G19 100 85) - 1)) fun G20 =>
  Tw_indexed_l69 P W x1 z1 z18 0 G20)
  else (ckB x1 12000 <| bd (Tw_fail 7 (G19 155 x1) G19) fun _ G27 =>
  some (0, G27)))
noncomputable def Tw_named_b154 (P W : Int) (x1 : Int) (x2 : Int) (x3 : Int) (s0 : Int) (s1 : Int) (G : St) : Option ((Int × St) ⊕ (Int × St)) :=
  ckB s1 40 <| tk (up G 189 s1 s0) fun G5 =>
  ckI (x3 + 1) <| some (Sum.inl (x3 + 1, G5))
noncomputable def Tw_named_b142 (P W : Int) (x1 : Int) (x2 : Int) (x3 : Int) (s0 : Int) (s2 : Int) (s4 : Int) (G : St) : Option ((Int × St) ⊕ (Int × St)) :=
  ckB s0 400 <| ckB x1 12000 <| ckI ((G 212 s0) + (G 152 x1)) <| ckI (s2 * ((G 212 s0) + (G 152 x1))) <| ckI ((s2 * ((G 212 s0) + (G 152 x1))) + x3) <| ckB ((s2 * ((G 212 s0) + (G 152 x1))) + x3) 134400 <| Tw_named_b154 P W x1 x2 x3 (G 185 ((s2 * ((G 212 s0) + (G 152 x1))) + x3)) s4 G
noncomputable def Tw_named_s13 (P W : Int) (x1 : Int) (x2 : Int) (x3 : Int) (G : St) : Option ((Int × St) ⊕ (Int × St)) :=
  if x3 < x2 then (ckB x1 12000 <| if (G 151 x1) = 1 then (ckB x1 12000 <| ckB (G 152 x1) 256 <| ckI ((G 179 (G 152 x1)) + x3) <| ckI (2 * ((G 179 (G 152 x1)) + x3)) <| Tw_named_b154 P W x1 x2 x3 (2 * ((G 179 (G 152 x1)) + x3)) x3 G)
  else (if (G 151 x1) = 2 then (ckB x1 12000 <| ckI (32 * (G 152 x1)) <| ckI ((32 * (G 152 x1)) + x3) <| ckB ((32 * (G 152 x1)) + x3) 8192 <| Tw_named_b154 P W x1 x2 x3 (G 197 ((32 * (G 152 x1)) + x3)) x3 G)
  else (if (G 151 x1) = 3 then (ckB x1 12000 <| ckB (G 152 x1) 12000 <| Tw_named_b154 P W x1 x2 x3 (if (j_lan (j_lsr (G 208 (G 152 x1)) x3) 1) = 1 then (-1) else (-2)) x3 G)
  else (if 0 < (G 100 110) then (ckI ((G 100 110) - 1) <| Tw_named_b142 P W x1 x2 x3 ((G 100 110) - 1) 32 x3 G)
  else (Tw_named_b142 P W x1 x2 x3 0 32 x3 G)))))
  else (ex (bd (Tw_pushZ x2 G) fun _ G4 =>
  some (0, G4)))
noncomputable def Tw_named_l13 (P W : Int) (x1 : Int) (x2 : Int) (x3 : Int) (G : St) : Option (Int × St) :=
  wh (fun s => Tw_named_s13 P W x1 x2 s.1 s.2) (x3, G)
theorem Tw_named_l13_eq (P W : Int) (x1 : Int) (x2 : Int) (x3 : Int) (G : St) : Tw_named_l13 P W x1 x2 x3 G = (Tw_named_s13 P W x1 x2 x3 G).bind (lk (fun s => Tw_named_l13 P W x1 x2 s.1 s.2) some) := by
  exact wh_eq _ _
noncomputable def Tw_named (P W : Int) (x1 : Int) (G : St) : Option (Int × St) :=
  ckB x1 12000 <| bd (Tw_widthOf P W (G 154 x1) G) fun z1 G2 =>
  Tw_named_l13 P W x1 z1 0 G2
noncomputable def Tw_step_b20 (G : St) : Option (Int × St) :=
  ckI ((G 100 70) + 1) <| tk (up G 100 70 ((G 100 70) + 1)) fun G1 =>
  some (0, G1)
noncomputable def Tw_step (G : St) : Option (Int × St) :=
  if (G 100 70) = 100000 then (bd (Tw_statementPlace G) fun z2 G3 =>
  bd (Tw_fail 8 z2 G3) fun _ G5 =>
  Tw_step_b20 G5)
  else (Tw_step_b20 G)
noncomputable def Tw_unary_b103 (P W : Int) (x2 : Int) (G : St) : Option (Int × St) :=
  bd (Tw_pushZ x2 G) fun _ G4 =>
  some (0, G4)
noncomputable def Tw_unary_s78 (P W : Int) (x2 : Int) (x3 : Int) (G : St) : Option ((Int × St) ⊕ (Int × St)) :=
  if x3 < x2 then (ckB x3 40 <| ckB x3 40 <| tk (up G 189 x3 (j_xo (G 187 x3) 1)) fun G5 =>
  ckI (x3 + 1) <| some (Sum.inl (x3 + 1, G5)))
  else (ex (Tw_unary_b103 P W x2 G))
noncomputable def Tw_unary_l78 (P W : Int) (x2 : Int) (x3 : Int) (G : St) : Option (Int × St) :=
  wh (fun s => Tw_unary_s78 P W x2 s.1 s.2) (x3, G)
theorem Tw_unary_l78_eq (P W : Int) (x2 : Int) (x3 : Int) (G : St) : Tw_unary_l78 P W x2 x3 G = (Tw_unary_s78 P W x2 x3 G).bind (lk (fun s => Tw_unary_l78 P W x2 s.1 s.2) some) := by
  exact wh_eq _ _
noncomputable def Tw_unary_s28 (P W : Int) (x2 : Int) (x3 : Int) (G : St) : Option ((Int × St) ⊕ (Int × St)) :=
  if x3 < W then (ckB x3 40 <| ckB x3 40 <| tk (up G 188 x3 (j_xo (G 187 x3) 1)) fun G8 =>
  ckB x3 40 <| tk (up G8 187 x3 (-2)) fun G9 =>
  ckI (x3 + 1) <| some (Sum.inl (x3 + 1, G9)))
  else (ex (bd (Tw_sum W (-1) G) fun _ G7 =>
  Tw_unary_b103 P W x2 G7))
noncomputable def Tw_unary_l28 (P W : Int) (x2 : Int) (x3 : Int) (G : St) : Option (Int × St) :=
  wh (fun s => Tw_unary_s28 P W x2 s.1 s.2) (x3, G)
theorem Tw_unary_l28_eq (P W : Int) (x2 : Int) (x3 : Int) (G : St) : Tw_unary_l28 P W x2 x3 G = (Tw_unary_s28 P W x2 x3 G).bind (lk (fun s => Tw_unary_l28 P W x2 s.1 s.2) some) := by
  exact wh_eq _ _
noncomputable def Tw_unary_b14 (P W : Int) (x1 : Int) (s0 : Int) (G : St) : Option (Int × St) :=
  bd (Tw_popX s0 G) fun _ G2 =>
  if x1 = 45 then (Tw_unary_l28 P W s0 0 G2)
  else (Tw_unary_l78 P W s0 0 G2)
noncomputable def Tw_unary (P W : Int) (x1 : Int) (G : St) : Option (Int × St) :=
  Tw_unary_b14 P W x1 (if x1 = 33 then 1 else W) G
noncomputable def Tw_operand_b435 (P W : Int) (x1 : Int) (G : St) : Option (Int × St) :=
  ckI (x1 + 1) <| some (x1 + 1, G)
noncomputable def Tw_operand_b76 (P W : Int) (x1 : Int) (G : St) : Option (Int × St) :=
  bd (Tw_step G) fun _ G2 =>
  Tw_operand_b435 P W x1 G2
noncomputable def Tw_operand_b83 (P W : Int) (x1 : Int) (G : St) : Option (Int × St) :=
  ckB x1 12000 <| bd (Tw_constantZ (G 119 x1) W G) fun _ G4 =>
  bd (Tw_pushZ W G4) fun _ G6 =>
  Tw_operand_b435 P W x1 G6
noncomputable def Tw_operand_b129 (P W : Int) (x1 : Int) (s0 : Int) (s1 : Int) (G : St) : Option (Int × St) :=
  ckB s1 40 <| tk (up G 189 s1 s0) fun G7 =>
  bd (Tw_pushZ 1 G7) fun _ G9 =>
  Tw_operand_b435 P W x1 G9
noncomputable def Tw_operand_b108 (P W : Int) (x1 : Int) (G : St) : Option (Int × St) :=
  ckB x1 12000 <| Tw_operand_b129 P W x1 (if (G 115 x1) = 3 then (-1) else (-2)) 0 G
noncomputable def Tw_operand_b138 (P W : Int) (x1 : Int) (G : St) : Option (Int × St) :=
  bd (Tw_named P W x1 G) fun _ G11 =>
  Tw_operand_b435 P W x1 G11
noncomputable def Tw_operand_b146 (P W : Int) (x1 : Int) (G : St) : Option (Int × St) :=
  bd (Tw_indexed P W x1 G) fun _ G13 =>
  Tw_operand_b435 P W x1 G13
noncomputable def Tw_operand_b154 (P W : Int) (x1 : Int) (G : St) : Option (Int × St) :=
  ckB x1 12000 <| ckB (G 152 x1) 12000 <| ckI ((G 100 85) - (G 117 (G 152 x1))) <| ckB (G 100 110) 400 <| tk (up G 212 (G 100 110) ((G 100 85) - (G 117 (G 152 x1)))) fun G14 =>
  ckI (x1 + 1) <| ckB (G14 100 110) 400 <| tk (up G14 213 (G14 100 110) (x1 + 1)) fun G15 =>
  ckI ((G15 100 110) + 1) <| tk (up G15 100 110 ((G15 100 110) + 1)) fun G16 =>
  bd (Tw_bodyOf (G 152 x1) G16) fun z17 G18 =>
  some (z17, G18)
noncomputable def Tw_operand_b209 (P W : Int) (x1 : Int) (G : St) : Option (Int × St) :=
  bd (Tw_popX 1 G) fun _ G20 =>
  bd (Tw_constantZ 0 W G20) fun _ G22 =>
  ckB 0 40 <| ckB 0 40 <| tk (up G22 189 0 (G22 187 0)) fun G23 =>
  bd (Tw_pushZ W G23) fun _ G25 =>
  Tw_operand_b435 P W x1 G25
noncomputable def Tw_operand_b246 (P W : Int) (x1 : Int) (G : St) : Option (Int × St) :=
  ckI ((G 100 85) - 1) <| bd (Tw_worthOf P W ((G 100 85) - 1) G) fun z26 G27 =>
  if z26 < W then (ckI ((G27 100 85) - 1) <| tk (up G27 100 85 ((G27 100 85) - 1)) fun G28 =>
  bd (Tw_popX W G28) fun _ G30 =>
  ckB (w32 z26) 40 <| ckB 0 40 <| tk (up G30 189 0 (G30 187 (w32 z26))) fun G31 =>
  bd (Tw_pushZ 1 G31) fun _ G33 =>
  Tw_operand_b435 P W x1 G33)
  else (ckB x1 12000 <| bd (Tw_fail 7 (G27 155 x1) G27) fun _ G35 =>
  Tw_operand_b435 P W x1 G35)
noncomputable def Tw_operand_b321 (P W : Int) (x1 : Int) (G : St) : Option (Int × St) :=
  ckB x1 12000 <| bd (Tw_unary P W (G 116 x1) G) fun _ G37 =>
  Tw_operand_b435 P W x1 G37
noncomputable def Tw_operand_b334 (P W : Int) (x1 : Int) (G : St) : Option (Int × St) :=
  bd (Tw_binary P W x1 G) fun _ G39 =>
  Tw_operand_b435 P W x1 G39
noncomputable def Tw_operand_s389 (P W : Int) (x1 : Int) (x2 : Int) (x3 : Int) (x4 : Int) (G : St) : Option ((Int × St) ⊕ (Int × St)) :=
  if x4 < x2 then (ckB x4 40 <| ckB x4 40 <| bd (Tw_mux x3 (G 187 x4) (G 188 x4) G) fun z49 G50 =>
  ckB x4 40 <| tk (up G50 189 x4 z49) fun G51 =>
  ckI (x4 + 1) <| some (Sum.inl (x4 + 1, G51)))
  else (ex (bd (Tw_pushZ x2 G) fun _ G48 =>
  Tw_operand_b435 P W x1 G48))
noncomputable def Tw_operand_l389 (P W : Int) (x1 : Int) (x2 : Int) (x3 : Int) (x4 : Int) (G : St) : Option (Int × St) :=
  wh (fun s => Tw_operand_s389 P W x1 x2 x3 s.1 s.2) (x4, G)
theorem Tw_operand_l389_eq (P W : Int) (x1 : Int) (x2 : Int) (x3 : Int) (x4 : Int) (G : St) : Tw_operand_l389 P W x1 x2 x3 x4 G = (Tw_operand_s389 P W x1 x2 x3 x4 G).bind (lk (fun s => Tw_operand_l389 P W x1 x2 x3 s.1 s.2) some) := by
  exact wh_eq _ _
noncomputable def Tw_operand_b342 (P W : Int) (x1 : Int) (G : St) : Option (Int × St) :=
  ckB x1 12000 <| bd (Tw_widthOf P W (G 117 x1) G) fun z40 G41 =>
  bd (Tw_popY z40 G41) fun _ G43 =>
  bd (Tw_popX z40 G43) fun _ G45 =>
  ckI ((G45 100 85) - 1) <| tk (up G45 100 85 ((G45 100 85) - 1)) fun G46 =>
  ckI (32 * (G46 100 85)) <| ckB (32 * (G46 100 85)) 134400 <| Tw_operand_l389 P W x1 z40 (G46 185 (32 * (G46 100 85))) 0 G46
noncomputable def Tw_operand (P W : Int) (x1 : Int) (G : St) : Option (Int × St) :=
  ckB x1 12000 <| swt (G 115 x1) 1 [Tw_operand_b76 P W x1 G, Tw_operand_b83 P W x1 G, Tw_operand_b108 P W x1 G, Tw_operand_b108 P W x1 G, Tw_operand_b138 P W x1 G, Tw_operand_b435 P W x1 G, Tw_operand_b146 P W x1 G, Tw_operand_b435 P W x1 G, Tw_operand_b154 P W x1 G, Tw_operand_b209 P W x1 G, Tw_operand_b246 P W x1 G, Tw_operand_b321 P W x1 G, Tw_operand_b334 P W x1 G, Tw_operand_b342 P W x1 G] (Tw_operand_b435 P W x1 G)
noncomputable def Tw_bringVars_s21 (x1 : Int) (x2 : Int) (x3 : Int) (x4 : Int) (G : St) : Option ((Int × St) ⊕ ((Int × St) ⊕ (Int × St))) :=
  ckB x3 300 <| ckB x3 300 <| ckI ((G 199 x3) + (G 200 x3)) <| ckI (32 * ((G 199 x3) + (G 200 x3))) <| if x4 < (32 * ((G 199 x3) + (G 200 x3))) then (ckI (8192 * x2) <| ckI ((8192 * x2) + x4) <| ckB ((8192 * x2) + x4) (ialT x1) <| ckB x4 8192 <| tk (up G 197 x4 (G x1 ((8192 * x2) + x4))) fun G1 =>
  ckI (x4 + 1) <| some (Sum.inl (x4 + 1, G1)))
  else (ex (ckI (x3 + 1) <| some (Sum.inl (x3 + 1, G))))
noncomputable def Tw_bringVars_l21 (x1 : Int) (x2 : Int) (x3 : Int) (x4 : Int) (G : St) : Option ((Int × St) ⊕ (Int × St)) :=
  wh (fun s => Tw_bringVars_s21 x1 x2 x3 s.1 s.2) (x4, G)
theorem Tw_bringVars_l21_eq (x1 : Int) (x2 : Int) (x3 : Int) (x4 : Int) (G : St) : Tw_bringVars_l21 x1 x2 x3 x4 G = (Tw_bringVars_s21 x1 x2 x3 x4 G).bind (lk (fun s => Tw_bringVars_l21 x1 x2 x3 s.1 s.2) some) := by
  exact wh_eq _ _
noncomputable def Tw_bringVars_s2 (x1 : Int) (x2 : Int) (x3 : Int) (G : St) : Option ((Int × St) ⊕ (Int × St)) :=
  if x3 < (G 100 97) then (ckB x3 300 <| ckI (32 * (G 199 x3)) <| Tw_bringVars_l21 x1 x2 x3 (32 * (G 199 x3)) G)
  else (ex (some (0, G)))
noncomputable def Tw_bringVars_l2 (x1 : Int) (x2 : Int) (x3 : Int) (G : St) : Option (Int × St) :=
  wh (fun s => Tw_bringVars_s2 x1 x2 s.1 s.2) (x3, G)
theorem Tw_bringVars_l2_eq (x1 : Int) (x2 : Int) (x3 : Int) (G : St) : Tw_bringVars_l2 x1 x2 x3 G = (Tw_bringVars_s2 x1 x2 x3 G).bind (lk (fun s => Tw_bringVars_l2 x1 x2 s.1 s.2) some) := by
  exact wh_eq _ _
noncomputable def Tw_bringVars (x1 : Int) (x2 : Int) (G : St) : Option (Int × St) :=
  Tw_bringVars_l2 x1 x2 0 G
noncomputable def Tw_keepVars_s21 (x1 : Int) (x2 : Int) (x3 : Int) (x4 : Int) (G : St) : Option ((Int × St) ⊕ ((Int × St) ⊕ (Int × St))) :=
  ckB x3 300 <| ckB x3 300 <| ckI ((G 199 x3) + (G 200 x3)) <| ckI (32 * ((G 199 x3) + (G 200 x3))) <| if x4 < (32 * ((G 199 x3) + (G 200 x3))) then (ckI (8192 * x2) <| ckI ((8192 * x2) + x4) <| ckB x4 8192 <| ckB ((8192 * x2) + x4) (ialT x1) <| tk (up G x1 ((8192 * x2) + x4) (G 197 x4)) fun G1 =>
  ckI (x4 + 1) <| some (Sum.inl (x4 + 1, G1)))
  else (ex (ckI (x3 + 1) <| some (Sum.inl (x3 + 1, G))))
noncomputable def Tw_keepVars_l21 (x1 : Int) (x2 : Int) (x3 : Int) (x4 : Int) (G : St) : Option ((Int × St) ⊕ (Int × St)) :=
  wh (fun s => Tw_keepVars_s21 x1 x2 x3 s.1 s.2) (x4, G)
theorem Tw_keepVars_l21_eq (x1 : Int) (x2 : Int) (x3 : Int) (x4 : Int) (G : St) : Tw_keepVars_l21 x1 x2 x3 x4 G = (Tw_keepVars_s21 x1 x2 x3 x4 G).bind (lk (fun s => Tw_keepVars_l21 x1 x2 x3 s.1 s.2) some) := by
  exact wh_eq _ _
noncomputable def Tw_keepVars_s2 (x1 : Int) (x2 : Int) (x3 : Int) (G : St) : Option ((Int × St) ⊕ (Int × St)) :=
  if x3 < (G 100 97) then (ckB x3 300 <| ckI (32 * (G 199 x3)) <| Tw_keepVars_l21 x1 x2 x3 (32 * (G 199 x3)) G)
  else (ex (some (0, G)))
noncomputable def Tw_keepVars_l2 (x1 : Int) (x2 : Int) (x3 : Int) (G : St) : Option (Int × St) :=
  wh (fun s => Tw_keepVars_s2 x1 x2 s.1 s.2) (x3, G)
theorem Tw_keepVars_l2_eq (x1 : Int) (x2 : Int) (x3 : Int) (G : St) : Tw_keepVars_l2 x1 x2 x3 G = (Tw_keepVars_s2 x1 x2 x3 G).bind (lk (fun s => Tw_keepVars_l2 x1 x2 s.1 s.2) some) := by
  exact wh_eq _ _
noncomputable def Tw_keepVars (x1 : Int) (x2 : Int) (G : St) : Option (Int × St) :=
  Tw_keepVars_l2 x1 x2 0 G
noncomputable def Tw_endOfIf_s89 (x1 : Int) (x2 : Int) (x3 : Int) (x4 : Int) (G : St) : Option ((Int × St) ⊕ ((Int × St) ⊕ ((Int × St) ⊕ (Int × St)))) :=
  ckB x2 300 <| if x4 < (G 201 x2) then (ckI (32 * x3) <| ckI ((32 * x3) + x4) <| ckB x1 40 <| ckI (8192 * x1) <| ckI (32 * x3) <| ckI ((8192 * x1) + (32 * x3)) <| ckI (((8192 * x1) + (32 * x3)) + x4) <| ckB (((8192 * x1) + (32 * x3)) + x4) 327680 <| ckI (32 * x3) <| ckI ((32 * x3) + x4) <| ckB ((32 * x3) + x4) 8192 <| bd (Tw_mux (G 203 x1) (G 207 (((8192 * x1) + (32 * x3)) + x4)) (G 197 ((32 * x3) + x4)) G) fun z3 G4 =>
  ckB ((32 * x3) + x4) 8192 <| tk (up G4 197 ((32 * x3) + x4) z3) fun G5 =>
  ckI (x4 + 1) <| some (Sum.inl (x4 + 1, G5)))
  else (ex (ckI (x3 + 1) <| some (Sum.inl (x3 + 1, G))))
noncomputable def Tw_endOfIf_l89 (x1 : Int) (x2 : Int) (x3 : Int) (x4 : Int) (G : St) : Option ((Int × St) ⊕ ((Int × St) ⊕ (Int × St))) :=
  wh (fun s => Tw_endOfIf_s89 x1 x2 x3 s.1 s.2) (x4, G)
theorem Tw_endOfIf_l89_eq (x1 : Int) (x2 : Int) (x3 : Int) (x4 : Int) (G : St) : Tw_endOfIf_l89 x1 x2 x3 x4 G = (Tw_endOfIf_s89 x1 x2 x3 x4 G).bind (lk (fun s => Tw_endOfIf_l89 x1 x2 x3 s.1 s.2) some) := by
  exact wh_eq _ _
noncomputable def Tw_endOfIf_s69 (x1 : Int) (x2 : Int) (x3 : Int) (G : St) : Option ((Int × St) ⊕ ((Int × St) ⊕ (Int × St))) :=
  ckB x2 300 <| ckB x2 300 <| ckI ((G 199 x2) + (G 200 x2)) <| if x3 < ((G 199 x2) + (G 200 x2)) then (Tw_endOfIf_l89 x1 x2 x3 0 G)
  else (ex (ckI (x2 + 1) <| some (Sum.inl (x2 + 1, G))))
noncomputable def Tw_endOfIf_l69 (x1 : Int) (x2 : Int) (x3 : Int) (G : St) : Option ((Int × St) ⊕ (Int × St)) :=
  wh (fun s => Tw_endOfIf_s69 x1 x2 s.1 s.2) (x3, G)
theorem Tw_endOfIf_l69_eq (x1 : Int) (x2 : Int) (x3 : Int) (G : St) : Tw_endOfIf_l69 x1 x2 x3 G = (Tw_endOfIf_s69 x1 x2 x3 G).bind (lk (fun s => Tw_endOfIf_l69 x1 x2 s.1 s.2) some) := by
  exact wh_eq _ _
noncomputable def Tw_endOfIf_s54 (x1 : Int) (x2 : Int) (G : St) : Option ((Int × St) ⊕ (Int × St)) :=
  if x2 < (G 100 97) then (ckB x2 300 <| Tw_endOfIf_l69 x1 x2 (G 199 x2) G)
  else (ex (some (0, G)))
noncomputable def Tw_endOfIf_l54 (x1 : Int) (x2 : Int) (G : St) : Option (Int × St) :=
  wh (fun s => Tw_endOfIf_s54 x1 s.1 s.2) (x2, G)
theorem Tw_endOfIf_l54_eq (x1 : Int) (x2 : Int) (G : St) : Tw_endOfIf_l54 x1 x2 G = (Tw_endOfIf_s54 x1 x2 G).bind (lk (fun s => Tw_endOfIf_l54 x1 s.1 s.2) some) := by
  exact wh_eq _ _
noncomputable def Tw_endOfIf_b52 (x1 : Int) (G : St) : Option (Int × St) :=
  Tw_endOfIf_l54 x1 0 G
noncomputable def Tw_endOfIf (G : St) : Option (Int × St) :=
  ckI ((G 100 101) - 1) <| tk (up G 100 101 ((G 100 101) - 1)) fun G1 =>
  ckB (G1 100 101) 40 <| tk (up G1 100 97 (G1 204 (G1 100 101))) fun G2 =>
  ckB (G1 100 101) 40 <| if (G2 205 (G1 100 101)) = 0 then (bd (Tw_keepVars 207 (G1 100 101) G2) fun _ G7 =>
  bd (Tw_bringVars 206 (G1 100 101) G7) fun _ G9 =>
  Tw_endOfIf_b52 (G1 100 101) G9)
  else (Tw_endOfIf_b52 (G1 100 101) G2)
noncomputable def Tw_setElement_s165 (P W : Int) (x1 : Int) (x2 : Int) (x3 : Int) (x4 : Int) (x5 : Int) (x6 : Int) (G : St) : Option ((Int × St) ⊕ ((Int × St) ⊕ (Int × St))) :=
  if x6 < x2 then (ckB x1 12000 <| ckI ((G 152 x1) + x4) <| ckI (32 * ((G 152 x1) + x4)) <| ckI ((32 * ((G 152 x1) + x4)) + x6) <| ckI (32 * x3) <| ckI ((32 * x3) + x6) <| ckB ((32 * x3) + x6) 134400 <| ckB ((32 * ((G 152 x1) + x4)) + x6) 8192 <| bd (Tw_mux x5 (G 185 ((32 * x3) + x6)) (G 197 ((32 * ((G 152 x1) + x4)) + x6)) G) fun z6 G7 =>
  ckB ((32 * ((G 152 x1) + x4)) + x6) 8192 <| tk (up G7 197 ((32 * ((G 152 x1) + x4)) + x6) z6) fun G8 =>
  ckI (x6 + 1) <| some (Sum.inl (x6 + 1, G8)))
  else (ex (ckI (x4 + 1) <| some (Sum.inl (x4 + 1, G))))
noncomputable def Tw_setElement_l165 (P W : Int) (x1 : Int) (x2 : Int) (x3 : Int) (x4 : Int) (x5 : Int) (x6 : Int) (G : St) : Option ((Int × St) ⊕ (Int × St)) :=
  wh (fun s => Tw_setElement_s165 P W x1 x2 x3 x4 x5 s.1 s.2) (x6, G)
theorem Tw_setElement_l165_eq (P W : Int) (x1 : Int) (x2 : Int) (x3 : Int) (x4 : Int) (x5 : Int) (x6 : Int) (G : St) : Tw_setElement_l165 P W x1 x2 x3 x4 x5 x6 G = (Tw_setElement_s165 P W x1 x2 x3 x4 x5 x6 G).bind (lk (fun s => Tw_setElement_l165 P W x1 x2 x3 x4 x5 s.1 s.2) some) := by
  exact wh_eq _ _
noncomputable def Tw_setElement_s143 (P W : Int) (x1 : Int) (x2 : Int) (x3 : Int) (x4 : Int) (G : St) : Option ((Int × St) ⊕ (Int × St)) :=
  ckB x1 12000 <| if x4 < (G 153 x1) then (bd (Tw_isIndex P W x4 G) fun z4 G5 =>
  Tw_setElement_l165 P W x1 x2 x3 x4 z4 0 G5)
  else (ex (ckI ((G 100 85) - 2) <| tk (up G 100 85 ((G 100 85) - 2)) fun G3 =>
  some (0, G3)))
noncomputable def Tw_setElement_l143 (P W : Int) (x1 : Int) (x2 : Int) (x3 : Int) (x4 : Int) (G : St) : Option (Int × St) :=
  wh (fun s => Tw_setElement_s143 P W x1 x2 x3 s.1 s.2) (x4, G)
theorem Tw_setElement_l143_eq (P W : Int) (x1 : Int) (x2 : Int) (x3 : Int) (x4 : Int) (G : St) : Tw_setElement_l143 P W x1 x2 x3 x4 G = (Tw_setElement_s143 P W x1 x2 x3 x4 G).bind (lk (fun s => Tw_setElement_l143 P W x1 x2 x3 s.1 s.2) some) := by
  exact wh_eq _ _
noncomputable def Tw_setElement_s101 (P W : Int) (x1 : Int) (x2 : Int) (x3 : Int) (x4 : Int) (G : St) : Option ((Int × St) ⊕ (Int × St)) :=
  if x4 < W then (ckI ((G 100 85) - 2) <| ckI (32 * ((G 100 85) - 2)) <| ckI ((32 * ((G 100 85) - 2)) + x4) <| ckB ((32 * ((G 100 85) - 2)) + x4) 134400 <| ckB x4 40 <| tk (up G 214 x4 (G 185 ((32 * ((G 100 85) - 2)) + x4))) fun G9 =>
  ckI (x4 + 1) <| some (Sum.inl (x4 + 1, G9)))
  else (ex (Tw_setElement_l143 P W x1 x2 x3 0 G))
noncomputable def Tw_setElement_l101 (P W : Int) (x1 : Int) (x2 : Int) (x3 : Int) (x4 : Int) (G : St) : Option (Int × St) :=
  wh (fun s => Tw_setElement_s101 P W x1 x2 x3 s.1 s.2) (x4, G)
theorem Tw_setElement_l101_eq (P W : Int) (x1 : Int) (x2 : Int) (x3 : Int) (x4 : Int) (G : St) : Tw_setElement_l101 P W x1 x2 x3 x4 G = (Tw_setElement_s101 P W x1 x2 x3 x4 G).bind (lk (fun s => Tw_setElement_l101 P W x1 x2 x3 s.1 s.2) some) := by
  exact wh_eq _ _
noncomputable def Tw_setElement_s42 (P W : Int) (x1 : Int) (x2 : Int) (x3 : Int) (x4 : Int) (x6 : Int) (G : St) : Option ((Int × St) ⊕ (Int × St)) :=
  if x6 < x2 then (ckB x1 12000 <| ckI ((G 152 x1) + (w32 x4)) <| ckI (32 * ((G 152 x1) + (w32 x4))) <| ckI ((32 * ((G 152 x1) + (w32 x4))) + x6) <| ckI (32 * x3) <| ckI ((32 * x3) + x6) <| ckB ((32 * x3) + x6) 134400 <| ckB ((32 * ((G 152 x1) + (w32 x4))) + x6) 8192 <| tk (up G 197 ((32 * ((G 152 x1) + (w32 x4))) + x6) (G 185 ((32 * x3) + x6))) fun G13 =>
  ckI (x6 + 1) <| some (Sum.inl (x6 + 1, G13)))
  else (ex (ckI ((G 100 85) - 2) <| tk (up G 100 85 ((G 100 85) - 2)) fun G12 =>
  some (0, G12)))
noncomputable def Tw_setElement_l42 (P W : Int) (x1 : Int) (x2 : Int) (x3 : Int) (x4 : Int) (x6 : Int) (G : St) : Option (Int × St) :=
  wh (fun s => Tw_setElement_s42 P W x1 x2 x3 x4 s.1 s.2) (x6, G)
theorem Tw_setElement_l42_eq (P W : Int) (x1 : Int) (x2 : Int) (x3 : Int) (x4 : Int) (x6 : Int) (G : St) : Tw_setElement_l42 P W x1 x2 x3 x4 x6 G = (Tw_setElement_s42 P W x1 x2 x3 x4 x6 G).bind (lk (fun s => Tw_setElement_l42 P W x1 x2 x3 x4 s.1 s.2) some) := by
  exact wh_eq _ _
noncomputable def Tw_setElement (P W : Int) (x1 : Int) (G : St) : Option (Int × St) :=
  ckB x1 12000 <| bd (Tw_widthOf P W (G 154 x1) G) fun z1 G2 =>
  ckI ((G2 100 85) - 1) <| ckB x1 12000 <| if (G2 156 x1) = 0 then (Tw_setElement_l101 P W x1 z1 ((G2 100 85) - 1) 0 G2)
  else (ckI ((G2 100 85) - 2) <| bd (Tw_worthOf P W ((G2 100 85) - 2) G2) fun z10 G11 =>
  Tw_setElement_l42 P W x1 z1 ((G2 100 85) - 1) z10 0 G11)
noncomputable def Tw_variable_s168 (P W : Int) (x1 : Int) (x2 : Int) (x5 : Int) (x6 : Int) (G : St) : Option ((Int × St) ⊕ ((Int × St) ⊕ (Int × St))) :=
  if x6 < x2 then (ckB x1 12000 <| ckI ((G 134 x1) + x5) <| ckI (32 * ((G 134 x1) + x5)) <| ckI ((32 * ((G 134 x1) + x5)) + x6) <| ckB x6 40 <| ckB ((32 * ((G 134 x1) + x5)) + x6) 8192 <| tk (up G 197 ((32 * ((G 134 x1) + x5)) + x6) (G 189 x6)) fun G10 =>
  ckI (x6 + 1) <| some (Sum.inl (x6 + 1, G10)))
  else (ex (ckI (x5 + 1) <| some (Sum.inl (x5 + 1, G))))
noncomputable def Tw_variable_l168 (P W : Int) (x1 : Int) (x2 : Int) (x5 : Int) (x6 : Int) (G : St) : Option ((Int × St) ⊕ (Int × St)) :=
  wh (fun s => Tw_variable_s168 P W x1 x2 x5 s.1 s.2) (x6, G)
theorem Tw_variable_l168_eq (P W : Int) (x1 : Int) (x2 : Int) (x5 : Int) (x6 : Int) (G : St) : Tw_variable_l168 P W x1 x2 x5 x6 G = (Tw_variable_s168 P W x1 x2 x5 x6 G).bind (lk (fun s => Tw_variable_l168 P W x1 x2 x5 s.1 s.2) some) := by
  exact wh_eq _ _
noncomputable def Tw_variable_s151 (P W : Int) (x1 : Int) (x2 : Int) (x5 : Int) (G : St) : Option ((Int × St) ⊕ (Int × St)) :=
  ckB (G 100 97) 300 <| if x5 < (G 200 (G 100 97)) then (Tw_variable_l168 P W x1 x2 x5 0 G)
  else (ex (ckI ((G 100 97) + 1) <| tk (up G 100 97 ((G 100 97) + 1)) fun G9 =>
  some (0, G9)))
noncomputable def Tw_variable_l151 (P W : Int) (x1 : Int) (x2 : Int) (x5 : Int) (G : St) : Option (Int × St) :=
  wh (fun s => Tw_variable_s151 P W x1 x2 s.1 s.2) (x5, G)
theorem Tw_variable_l151_eq (P W : Int) (x1 : Int) (x2 : Int) (x5 : Int) (G : St) : Tw_variable_l151 P W x1 x2 x5 G = (Tw_variable_s151 P W x1 x2 x5 G).bind (lk (fun s => Tw_variable_l151 P W x1 x2 s.1 s.2) some) := by
  exact wh_eq _ _
noncomputable def Tw_variable_b137 (P W : Int) (x1 : Int) (x2 : Int) (s0 : Int) (s1 : Int) (G : St) : Option (Int × St) :=
  ckB s1 300 <| tk (up G 200 s1 s0) fun G7 =>
  ckB (G7 100 97) 300 <| tk (up G7 201 (G7 100 97) x2) fun G8 =>
  Tw_variable_l151 P W x1 x2 0 G8
noncomputable def Tw_variable_b103 (P W : Int) (x1 : Int) (x2 : Int) (x4 : Int) (G : St) : Option (Int × St) :=
  ckB x1 12000 <| ckB (G 100 97) 300 <| tk (up G 199 (G 100 97) (G 134 x1)) fun G6 =>
  Tw_variable_b137 P W x1 x2 (if x4 = 0 then 1 else x4) (G6 100 97) G6
noncomputable def Tw_variable_s69 (P W : Int) (x1 : Int) (x2 : Int) (x4 : Int) (x5 : Int) (G : St) : Option ((Int × St) ⊕ (Int × St)) :=
  if x5 < x2 then (ckI (32 * (G 100 85)) <| ckI ((32 * (G 100 85)) + x5) <| ckB ((32 * (G 100 85)) + x5) 134400 <| ckB x5 40 <| tk (up G 189 x5 (G 185 ((32 * (G 100 85)) + x5))) fun G12 =>
  ckI (x5 + 1) <| some (Sum.inl (x5 + 1, G12)))
  else (ex (Tw_variable_b103 P W x1 x2 x4 G))
noncomputable def Tw_variable_l69 (P W : Int) (x1 : Int) (x2 : Int) (x4 : Int) (x5 : Int) (G : St) : Option (Int × St) :=
  wh (fun s => Tw_variable_s69 P W x1 x2 x4 s.1 s.2) (x5, G)
theorem Tw_variable_l69_eq (P W : Int) (x1 : Int) (x2 : Int) (x4 : Int) (x5 : Int) (G : St) : Tw_variable_l69 P W x1 x2 x4 x5 G = (Tw_variable_s69 P W x1 x2 x4 x5 G).bind (lk (fun s => Tw_variable_l69 P W x1 x2 x4 s.1 s.2) some) := by
  exact wh_eq _ _
noncomputable def Tw_variable_b29 (P W : Int) (x1 : Int) (x2 : Int) (s0 : Int) (G : St) : Option (Int × St) :=
  ckB x1 12000 <| vl (w32 (j_lan (j_lsr (G 119 x1) 8) 255)) fun v3 =>
  bd (Tw_constantZ 0 x2 G) fun _ G5 =>
  if s0 = 0 then (Tw_variable_b103 P W x1 x2 v3 G5)
  else (ckI ((G5 100 85) - 1) <| tk (up G5 100 85 ((G5 100 85) - 1)) fun G11 =>
  Tw_variable_l69 P W x1 x2 v3 0 G11)
noncomputable def Tw_variable (P W : Int) (x1 : Int) (G : St) : Option (Int × St) :=
  ckB x1 12000 <| bd (Tw_widthOf P W (G 117 x1) G) fun z1 G2 =>
  ckB x1 12000 <| Tw_variable_b29 P W x1 z1 (if (G2 119 x1) < 65536 then 0 else 1) G2
noncomputable def Tw_statement_b756 (P W : Int) (x1 : Int) (G : St) : Option (Int × St) :=
  ckI (x1 + 1) <| some (x1 + 1, G)
noncomputable def Tw_statement_b112 (P W : Int) (x1 : Int) (G : St) : Option (Int × St) :=
  ckB x1 12000 <| ckB (G 100 94) 80 <| tk (up G 196 (G 100 94) (G 118 x1)) fun G1 =>
  ckI ((G1 100 94) + 1) <| tk (up G1 100 94 ((G1 100 94) + 1)) fun G2 =>
  bd (Tw_step G2) fun _ G4 =>
  Tw_statement_b756 P W x1 G4
noncomputable def Tw_statement_b144 (P W : Int) (x1 : Int) (G : St) : Option (Int × St) :=
  ckI ((G 100 94) - 1) <| tk (up G 100 94 ((G 100 94) - 1)) fun G5 =>
  Tw_statement_b756 P W x1 G5
noncomputable def Tw_statement_b157 (P W : Int) (x1 : Int) (G : St) : Option (Int × St) :=
  bd (Tw_variable P W x1 G) fun _ G7 =>
  Tw_statement_b756 P W x1 G7
noncomputable def Tw_statement_b165 (P W : Int) (x1 : Int) (G : St) : Option (Int × St) :=
  ckB x1 12000 <| ckI ((w32 (G 119 x1)) + 1) <| some ((w32 (G 119 x1)) + 1, G)
noncomputable def Tw_statement_s197 (P W : Int) (x2 : Int) (x3 : Int) (G : St) : Option ((Int × St) ⊕ (Int × St)) :=
  if x3 < 32 then (ckI (32 * x2) <| ckI ((32 * x2) + x3) <| ckI ((G 100 85) - 1) <| ckI (32 * ((G 100 85) - 1)) <| ckI ((32 * ((G 100 85) - 1)) + x3) <| ckB ((32 * ((G 100 85) - 1)) + x3) 134400 <| ckB ((32 * x2) + x3) 134400 <| tk (up G 185 ((32 * x2) + x3) (G 185 ((32 * ((G 100 85) - 1)) + x3))) fun G10 =>
  ckI (x3 + 1) <| some (Sum.inl (x3 + 1, G10)))
  else (ex (ckI (x2 + 1) <| tk (up G 100 85 (x2 + 1)) fun G9 =>
  ckB (G9 100 110) 400 <| some (G9 213 (G9 100 110), G9)))
noncomputable def Tw_statement_l197 (P W : Int) (x2 : Int) (x3 : Int) (G : St) : Option (Int × St) :=
  wh (fun s => Tw_statement_s197 P W x2 s.1 s.2) (x3, G)
theorem Tw_statement_l197_eq (P W : Int) (x2 : Int) (x3 : Int) (G : St) : Tw_statement_l197 P W x2 x3 G = (Tw_statement_s197 P W x2 x3 G).bind (lk (fun s => Tw_statement_l197 P W x2 s.1 s.2) some) := by
  exact wh_eq _ _
noncomputable def Tw_statement_b175 (P W : Int) (G : St) : Option (Int × St) :=
  ckI ((G 100 110) - 1) <| tk (up G 100 110 ((G 100 110) - 1)) fun G8 =>
  ckB (G8 100 110) 400 <| Tw_statement_l197 P W (G8 212 (G8 100 110)) 0 G8
noncomputable def Tw_statement_s284 (P W : Int) (x1 : Int) (x2 : Int) (G : St) : Option ((Int × St) ⊕ (Int × St)) :=
  ckB (G 100 69) 500 <| if x2 < (G 182 (G 100 69)) then (ckI (32 * (G 100 69)) <| ckI ((32 * (G 100 69)) + x2) <| ckI (32 * (G 100 85)) <| ckI ((32 * (G 100 85)) + x2) <| ckB ((32 * (G 100 85)) + x2) 134400 <| ckB ((32 * (G 100 69)) + x2) 16000 <| tk (up G 183 ((32 * (G 100 69)) + x2) (G 185 ((32 * (G 100 85)) + x2))) fun G16 =>
  ckI (x2 + 1) <| some (Sum.inl (x2 + 1, G16)))
  else (ex (ckI ((G 100 69) + 1) <| tk (up G 100 69 ((G 100 69) + 1)) fun G15 =>
  Tw_statement_b756 P W x1 G15))
noncomputable def Tw_statement_l284 (P W : Int) (x1 : Int) (x2 : Int) (G : St) : Option (Int × St) :=
  wh (fun s => Tw_statement_s284 P W x1 s.1 s.2) (x2, G)
theorem Tw_statement_l284_eq (P W : Int) (x1 : Int) (x2 : Int) (G : St) : Tw_statement_l284 P W x1 x2 G = (Tw_statement_s284 P W x1 x2 G).bind (lk (fun s => Tw_statement_l284 P W x1 s.1 s.2) some) := by
  exact wh_eq _ _
noncomputable def Tw_statement_b253 (P W : Int) (x1 : Int) (G : St) : Option (Int × St) :=
  ckB x1 12000 <| bd (Tw_widthOf P W (G 117 x1) G) fun z11 G12 =>
  ckB (G 100 69) 500 <| tk (up G12 182 (G 100 69) z11) fun G13 =>
  ckI ((G13 100 85) - 1) <| tk (up G13 100 85 ((G13 100 85) - 1)) fun G14 =>
  Tw_statement_l284 P W x1 0 G14
noncomputable def Tw_statement_s356 (P W : Int) (x1 : Int) (x2 : Int) (G : St) : Option ((Int × St) ⊕ (Int × St)) :=
  ckB x1 12000 <| bd (Tw_widthOf P W (G 154 x1) G) fun z18 G19 =>
  if x2 < z18 then (ckB x1 12000 <| ckI (32 * (G19 152 x1)) <| ckI ((32 * (G19 152 x1)) + x2) <| ckI (32 * (G19 100 85)) <| ckI ((32 * (G19 100 85)) + x2) <| ckB ((32 * (G19 100 85)) + x2) 134400 <| ckB ((32 * (G19 152 x1)) + x2) 8192 <| tk (up G19 197 ((32 * (G19 152 x1)) + x2) (G19 185 ((32 * (G19 100 85)) + x2))) fun G20 =>
  ckI (x2 + 1) <| some (Sum.inl (x2 + 1, G20)))
  else (ex (Tw_statement_b756 P W x1 G19))
noncomputable def Tw_statement_l356 (P W : Int) (x1 : Int) (x2 : Int) (G : St) : Option (Int × St) :=
  wh (fun s => Tw_statement_s356 P W x1 s.1 s.2) (x2, G)
theorem Tw_statement_l356_eq (P W : Int) (x1 : Int) (x2 : Int) (G : St) : Tw_statement_l356 P W x1 x2 G = (Tw_statement_s356 P W x1 x2 G).bind (lk (fun s => Tw_statement_l356 P W x1 s.1 s.2) some) := by
  exact wh_eq _ _
noncomputable def Tw_statement_b344 (P W : Int) (x1 : Int) (G : St) : Option (Int × St) :=
  ckI ((G 100 85) - 1) <| tk (up G 100 85 ((G 100 85) - 1)) fun G17 =>
  Tw_statement_l356 P W x1 0 G17
noncomputable def Tw_statement_b409 (P W : Int) (x1 : Int) (G : St) : Option (Int × St) :=
  bd (Tw_setElement P W x1 G) fun _ G22 =>
  Tw_statement_b756 P W x1 G22
noncomputable def Tw_statement_b462 (P W : Int) (x1 : Int) (G : St) : Option (Int × St) :=
  ckI ((G 100 85) - 1) <| tk (up G 100 85 ((G 100 85) - 1)) fun G23 =>
  ckI (32 * (G23 100 85)) <| ckB (32 * (G23 100 85)) 134400 <| ckB (G23 100 101) 40 <| tk (up G23 203 (G23 100 101) (G23 185 (32 * (G23 100 85)))) fun G24 =>
  ckB (G24 100 101) 40 <| tk (up G24 204 (G24 100 101) (G24 100 97)) fun G25 =>
  ckB (G25 100 101) 40 <| ckB 0 2 <| tk (up G25 205 (G25 100 101) 0) fun G26 =>
  bd (Tw_keepVars 206 (G26 100 101) G26) fun _ G28 =>
  ckI ((G28 100 101) + 1) <| tk (up G28 100 101 ((G28 100 101) + 1)) fun G29 =>
  Tw_statement_b756 P W x1 G29
noncomputable def Tw_statement_b541 (P W : Int) (x1 : Int) (G : St) : Option (Int × St) :=
  ckI ((G 100 101) - 1) <| ckB ((G 100 101) - 1) 40 <| tk (up G 100 97 (G 204 ((G 100 101) - 1))) fun G30 =>
  ckI ((G30 100 101) - 1) <| ckB ((G30 100 101) - 1) 40 <| ckB 1 2 <| tk (up G30 205 ((G30 100 101) - 1) 1) fun G31 =>
  ckI ((G31 100 101) - 1) <| bd (Tw_keepVars 207 ((G31 100 101) - 1) G31) fun _ G33 =>
  ckI ((G33 100 101) - 1) <| bd (Tw_bringVars 206 ((G33 100 101) - 1) G33) fun _ G35 =>
  Tw_statement_b756 P W x1 G35
noncomputable def Tw_statement_b599 (P W : Int) (x1 : Int) (G : St) : Option (Int × St) :=
  bd (Tw_endOfIf G) fun _ G37 =>
  Tw_statement_b756 P W x1 G37
noncomputable def Tw_statement_b606 (P W : Int) (x1 : Int) (G : St) : Option (Int × St) :=
  ckI ((G 100 85) - 1) <| bd (Tw_worthOf P W ((G 100 85) - 1) G) fun z38 G39 =>
  ckI ((G39 100 85) - 2) <| bd (Tw_worthOf P W ((G39 100 85) - 2) G39) fun z40 G41 =>
  ckI ((G41 100 85) - 2) <| tk (up G41 100 85 ((G41 100 85) - 2)) fun G42 =>
  if z38 < z40 then (ckB x1 12000 <| ckI ((G42 117 x1) + 1) <| some ((G42 117 x1) + 1, G42))
  else (ckL (z38 - z40) <| if 255 < (z38 - z40) then (ckB x1 12000 <| bd (Tw_fail 7 (G42 118 x1) G42) fun _ G47 =>
  Tw_statement_b756 P W x1 G47)
  else (ckB x1 12000 <| tk (up G42 208 x1 z40) fun G43 =>
  ckB x1 12000 <| tk (up G43 209 x1 z38) fun G44 =>
  ckB x1 12000 <| tk (up G44 210 x1 (G44 100 97)) fun G45 =>
  Tw_statement_b756 P W x1 G45))
noncomputable def Tw_statement_b709 (P W : Int) (x1 : Int) (G : St) : Option (Int × St) :=
  ckB x1 12000 <| ckB (G 116 x1) 12000 <| tk (up G 100 97 (G 210 (G 116 x1))) fun G48 =>
  ckB (G 116 x1) 12000 <| ckB (G 116 x1) 12000 <| if (G48 208 (G 116 x1)) < (G48 209 (G 116 x1)) then (ckB (G 116 x1) 12000 <| ckL ((G48 208 (G 116 x1)) + 1) <| ckB (G 116 x1) 12000 <| tk (up G48 208 (G 116 x1) ((G48 208 (G 116 x1)) + 1)) fun G49 =>
  ckI ((G 116 x1) + 1) <| some ((G 116 x1) + 1, G49))
  else (Tw_statement_b756 P W x1 G48)
noncomputable def Tw_statement_b417 (P W : Int) (x1 : Int) (G : St) : Option (Int × St) :=
  ckB x1 12000 <| if (G 156 x1) = 0 then (Tw_statement_b756 P W x1 G)
  else (ckI ((G 100 85) - 1) <| bd (Tw_worthOf P W ((G 100 85) - 1) G) fun z50 G51 =>
  ckB x1 12000 <| if z50 < (G51 153 x1) then (Tw_statement_b756 P W x1 G51)
  else (ckB x1 12000 <| bd (Tw_fail 7 (G51 155 x1) G51) fun _ G53 =>
  Tw_statement_b756 P W x1 G53))
noncomputable def Tw_statement (P W : Int) (x1 : Int) (G : St) : Option (Int × St) :=
  ckB x1 12000 <| swt (G 115 x1) 20 [Tw_statement_b112 P W x1 G, Tw_statement_b144 P W x1 G, Tw_statement_b756 P W x1 G, Tw_statement_b756 P W x1 G, Tw_statement_b756 P W x1 G, Tw_statement_b157 P W x1 G, Tw_statement_b165 P W x1 G, Tw_statement_b756 P W x1 G, Tw_statement_b756 P W x1 G, Tw_statement_b175 P W G, Tw_statement_b253 P W x1 G, Tw_statement_b756 P W x1 G, Tw_statement_b344 P W x1 G, Tw_statement_b756 P W x1 G, Tw_statement_b409 P W x1 G, Tw_statement_b462 P W x1 G, Tw_statement_b541 P W x1 G, Tw_statement_b599 P W x1 G, Tw_statement_b756 P W x1 G, Tw_statement_b606 P W x1 G, Tw_statement_b709 P W x1 G, Tw_statement_b756 P W x1 G, Tw_statement_b417 P W x1 G] (Tw_statement_b756 P W x1 G)
noncomputable def Tw_build_b95 (P W : Int) (s0 : Int) (G : St) : Option ((Int × St) ⊕ (Int × St)) :=
  some (Sum.inl (s0, G))
noncomputable def Tw_build_s56 (P W : Int) (x1 : Int) (G : St) : Option ((Int × St) ⊕ (Int × St)) :=
  if x1 < (G 100 13) then (if (G 100 7) = 0 then (ckB x1 12000 <| if (G 115 x1) < 20 then (bd (Tw_operand P W x1 G) fun z15 G16 =>
  Tw_build_b95 P W z15 G16)
  else (bd (Tw_statement P W x1 G) fun z13 G14 =>
  Tw_build_b95 P W z13 G14))
  else (ex (some (0, G))))
  else (ex (some (0, G)))
noncomputable def Tw_build_l56 (P W : Int) (x1 : Int) (G : St) : Option (Int × St) :=
  wh (fun s => Tw_build_s56 P W s.1 s.2) (x1, G)
theorem Tw_build_l56_eq (P W : Int) (x1 : Int) (G : St) : Tw_build_l56 P W x1 G = (Tw_build_s56 P W x1 G).bind (lk (fun s => Tw_build_l56 P W s.1 s.2) some) := by
  exact wh_eq _ _
noncomputable def Tw_build (P W : Int) (G : St) : Option (Int × St) :=
  bd (Tw_inputsOfAll P W G) fun _ G2 =>
  tk (up G2 100 66 0) fun G3 =>
  tk (up G3 100 67 0) fun G4 =>
  tk (up G4 100 68 0) fun G5 =>
  tk (up G5 100 69 0) fun G6 =>
  tk (up G6 100 70 0) fun G7 =>
  tk (up G7 100 94 0) fun G8 =>
  tk (up G8 100 97 0) fun G9 =>
  tk (up G9 100 101 0) fun G10 =>
  tk (up G10 100 110 0) fun G11 =>
  tk (up G11 100 85 0) fun G12 =>
  Tw_build_l56 P W 0 G12
noncomputable def Tw_forget (G : St) : Option (Int × St) :=
  ckB 0 2 <| tk (up G 100 124 0) fun G1 =>
  tk (up G1 100 139 0) fun G2 =>
  tk (up G2 100 140 0) fun G3 =>
  ckB 0 2 <| tk (up G3 100 119 0) fun G4 =>
  some (0, G4)
noncomputable def Tw_levels_b59 (x1 : Int) (x2 : Int) (x3 : Int) (G : St) : Option ((Int × Int × St) ⊕ ((Int × Int × St) ⊕ (Int × St))) :=
  ckI (x3 + 1) <| some (Sum.inl (x1, x3 + 1, G))
noncomputable def Tw_levels_s21 (x2 : Int) (x1 : Int) (x3 : Int) (G : St) : Option ((Int × Int × St) ⊕ ((Int × Int × St) ⊕ (Int × St))) :=
  if x3 < (G 100 66) then (ckB x3 40000 <| if (G 172 x3) = 1 then (ckB x3 40000 <| if (G 173 x3) = x2 then (ckB x1 40000 <| tk (up G 231 x1 x3) fun G3 =>
  ckI (x1 + 1) <| Tw_levels_b59 (x1 + 1) x2 x3 G3)
  else (Tw_levels_b59 x1 x2 x3 G))
  else (Tw_levels_b59 x1 x2 x3 G))
  else (ex (ckI (x2 + 1) <| some (Sum.inl (x1, x2 + 1, G))))
noncomputable def Tw_levels_l21 (x2 : Int) (x1 : Int) (x3 : Int) (G : St) : Option ((Int × Int × St) ⊕ (Int × St)) :=
  wh (fun s => Tw_levels_s21 x2 s.1 s.2.1 s.2.2) (x1, x3, G)
theorem Tw_levels_l21_eq (x2 : Int) (x1 : Int) (x3 : Int) (G : St) : Tw_levels_l21 x2 x1 x3 G = (Tw_levels_s21 x2 x1 x3 G).bind (lk (fun s => Tw_levels_l21 x2 s.1 s.2.1 s.2.2) some) := by
  exact wh_eq _ _
noncomputable def Tw_levels_s4 (x1 : Int) (x2 : Int) (G : St) : Option ((Int × Int × St) ⊕ (Int × St)) :=
  if (G 100 68) < x2 then (ex (ckI ((G 100 68) + 1) <| ckB ((G 100 68) + 1) 2003 <| tk (up G 230 ((G 100 68) + 1) x1) fun G1 =>
  some (0, G1)))
  else (ckB x2 2003 <| tk (up G 230 x2 x1) fun G2 =>
  Tw_levels_l21 x2 x1 0 G2)
noncomputable def Tw_levels_l4 (x1 : Int) (x2 : Int) (G : St) : Option (Int × St) :=
  wh (fun s => Tw_levels_s4 s.1 s.2.1 s.2.2) (x1, x2, G)
theorem Tw_levels_l4_eq (x1 : Int) (x2 : Int) (G : St) : Tw_levels_l4 x1 x2 G = (Tw_levels_s4 x1 x2 G).bind (lk (fun s => Tw_levels_l4 s.1 s.2.1 s.2.2) some) := by
  exact wh_eq _ _
noncomputable def Tw_levels (G : St) : Option (Int × St) :=
  Tw_levels_l4 0 1 G
noncomputable def Tw_deeper_b15 (G : St) : Option (Int × St) :=
  ckI ((G 100 19) + 1) <| tk (up G 100 19 ((G 100 19) + 1)) fun G1 =>
  some (0, G1)
noncomputable def Tw_deeper (x1 : Int) (G : St) : Option (Int × St) :=
  if (G 100 19) = 30 then (bd (Tw_fail 3 x1 G) fun _ G3 =>
  Tw_deeper_b15 G3)
  else (Tw_deeper_b15 G)
noncomputable def Tw_isFresh (G : St) : Option (Int × St) :=
  ckI ((G 100 13) - 1) <| ckB ((G 100 13) - 1) 12000 <| if (G 115 ((G 100 13) - 1)) = 8 then (ckI ((G 100 13) - 1) <| ckB ((G 100 13) - 1) 12000 <| ckI ((G 100 20) - 1) <| ckB ((G 100 20) - 1) 4100 <| ckB (G 123 ((G 100 20) - 1)) 12000 <| if (G 116 ((G 100 13) - 1)) = (G 116 (G 123 ((G 100 20) - 1))) then (ckI ((G 100 13) - 1) <| ckI ((G 100 20) - 1) <| ckB ((G 100 20) - 1) 4100 <| ckB (if ((G 100 13) - 1) = (G 123 ((G 100 20) - 1)) then 1 else 0) 2 (some ((if ((G 100 13) - 1) = (G 123 ((G 100 20) - 1)) then 1 else 0), G)))
  else (ckB 0 2 (some (0, G))))
  else (ckB 0 2 (some (0, G)))
noncomputable def Tw_look0 (x1 : Int) (G : St) : Option (Int × St) :=
  ckI ((G 100 6) + x1) <| if ((G 100 6) + x1) < (G 100 5) then (ckI ((G 100 6) + x1) <| ckB ((G 100 6) + x1) 4000 <| some (G 105 ((G 100 6) + x1), G))
  else (some ((-1), G))
noncomputable def Tw_isPair_b60 (x1 : Int) (x2 : Int) (G : St) : Option (Int × St) :=
  ckB (if x2 = 61 then 1 else (if x1 = 60 then (if x2 = 60 then 1 else (if x1 = 62 then (if x2 = 62 then 1 else 0) else 0)) else (if x1 = 62 then (if x2 = 62 then 1 else 0) else 0))) 2 (some ((if x2 = 61 then 1 else (if x1 = 60 then (if x2 = 60 then 1 else (if x1 = 62 then (if x2 = 62 then 1 else 0) else 0)) else (if x1 = 62 then (if x2 = 62 then 1 else 0) else 0))), G))
noncomputable def Tw_isPair_b66 (x1 : Int) (x2 : Int) (G : St) : Option (Int × St) :=
  ckB (if x1 = 60 then (if x2 = 60 then 1 else (if x1 = 62 then (if x2 = 62 then 1 else 0) else 0)) else (if x1 = 62 then (if x2 = 62 then 1 else 0) else 0)) 2 (some ((if x1 = 60 then (if x2 = 60 then 1 else (if x1 = 62 then (if x2 = 62 then 1 else 0) else 0)) else (if x1 = 62 then (if x2 = 62 then 1 else 0) else 0)), G))
noncomputable def Tw_isPair_b36 (x1 : Int) (x2 : Int) (G : St) : Option (Int × St) :=
  if x1 = 61 then (Tw_isPair_b60 x1 x2 G)
  else (if x1 = 33 then (Tw_isPair_b60 x1 x2 G)
  else (if x1 = 60 then (Tw_isPair_b60 x1 x2 G)
  else (if x1 = 62 then (Tw_isPair_b60 x1 x2 G)
  else (Tw_isPair_b66 x1 x2 G))))
noncomputable def Tw_isPair_b24 (x1 : Int) (x2 : Int) (G : St) : Option (Int × St) :=
  if x1 = 38 then (if x2 = 38 then (ckB 1 2 (some (1, G)))
  else (Tw_isPair_b36 x1 x2 G))
  else (Tw_isPair_b36 x1 x2 G)
noncomputable def Tw_isPair (G : St) : Option (Int × St) :=
  bd (Tw_look0 0 G) fun z1 G2 =>
  bd (Tw_look0 1 G2) fun z3 G4 =>
  if z1 = 124 then (if z3 = 124 then (ckB 1 2 (some (1, G4)))
  else (Tw_isPair_b24 z1 z3 G4))
  else (Tw_isPair_b24 z1 z3 G4)
noncomputable def Tw_isSign (x1 : Int) (G : St) : Option (Int × St) :=
  bd (Tw_look0 0 G) fun z1 G2 =>
  if z1 = x1 then (bd (Tw_isPair G2) fun z3 G4 =>
  ckB (if z3 = 0 then 1 else 0) 2 (some ((if z3 = 0 then 1 else 0), G4)))
  else (ckB 0 2 (some (0, G2)))
noncomputable def Tw_put (x1 : Int) (x2 : Int) (x3 : Int) (x4 : Int) (G : St) : Option (Int × St) :=
  if (G 100 13) = 12000 then (ckI ((G 100 13) - 1) <| some ((G 100 13) - 1, G))
  else (ckB (G 100 13) 12000 <| tk (up G 115 (G 100 13) x1) fun G1 =>
  ckB (G1 100 13) 12000 <| tk (up G1 116 (G1 100 13) x2) fun G2 =>
  ckB (G2 100 13) 12000 <| tk (up G2 117 (G2 100 13) x3) fun G3 =>
  ckB (G3 100 13) 12000 <| tk (up G3 118 (G3 100 13) x4) fun G4 =>
  ckI ((G4 100 13) + 1) <| tk (up G4 100 13 ((G4 100 13) + 1)) fun G5 =>
  ckI ((G5 100 13) - 1) <| some ((G5 100 13) - 1, G5))
noncomputable def Tw_rank_b28 (x0 : Int) (G : St) : Option (Int × St) :=
  some ((if x0 = 12 then 8 else (if x0 = 13 then 8 else (if x0 = 14 then 9 else (if x0 = 15 then 9 else (if x0 < 16 then x0 else 10))))), G)
noncomputable def Tw_rank (x0 : Int) (G : St) : Option (Int × St) :=
  if x0 = 7 then (some (6, G))
  else (if x0 < 8 then (Tw_rank_b28 x0 G)
  else (if 11 < x0 then (Tw_rank_b28 x0 G)
  else (some (7, G))))
noncomputable def Tw_reduce_s0 (x1 : Int) (x2 : Int) (G : St) : Option ((St) ⊕ (Int × St)) :=
  if x1 < (G 100 20) then (ckI ((G 100 20) - 1) <| ckB ((G 100 20) - 1) 4100 <| if (G 122 ((G 100 20) - 1)) = 1 then (ckI ((G 100 20) - 1) <| ckB ((G 100 20) - 1) 4100 <| bd (Tw_rank (G 123 ((G 100 20) - 1)) G) fun z1 G2 =>
  if z1 < x2 then (ex (some (0, G2)))
  else (ckI ((G2 100 20) - 1) <| tk (up G2 100 20 ((G2 100 20) - 1)) fun G3 =>
  ckB (G3 100 20) 4100 <| ckB (G3 100 20) 4100 <| bd (Tw_put 13 (G3 123 (G3 100 20)) 0 (G3 124 (G3 100 20)) G3) fun z4 G5 =>
  some (Sum.inl (G5))))
  else (ex (some (0, G))))
  else (ex (some (0, G)))
noncomputable def Tw_reduce_l0 (x1 : Int) (x2 : Int) (G : St) : Option (Int × St) :=
  wh (fun s => Tw_reduce_s0 x1 x2 s) (G)
theorem Tw_reduce_l0_eq (x1 : Int) (x2 : Int) (G : St) : Tw_reduce_l0 x1 x2 G = (Tw_reduce_s0 x1 x2 G).bind (lk (fun s => Tw_reduce_l0 x1 x2 s) some) := by
  exact wh_eq _ _
noncomputable def Tw_reduce (x1 : Int) (x2 : Int) (G : St) : Option (Int × St) :=
  Tw_reduce_l0 x1 x2 G
noncomputable def Tw_reduceAll_s6 (x1 : Int) (G : St) : Option ((St) ⊕ (Int × St)) :=
  if x1 < (G 100 20) then (ckI ((G 100 20) - 1) <| ckB ((G 100 20) - 1) 4100 <| if (G 122 ((G 100 20) - 1)) = 4 then (ckI ((G 100 20) - 1) <| tk (up G 100 20 ((G 100 20) - 1)) fun G3 =>
  ckI ((G3 100 19) - 1) <| tk (up G3 100 19 ((G3 100 19) - 1)) fun G4 =>
  ckB (G4 100 20) 4100 <| bd (Tw_put 14 0 0 (G4 124 (G4 100 20)) G4) fun z5 G6 =>
  bd (Tw_reduce x1 0 G6) fun _ G8 =>
  some (Sum.inl (G8)))
  else (ex (some (0, G))))
  else (ex (some (0, G)))
noncomputable def Tw_reduceAll_l6 (x1 : Int) (G : St) : Option (Int × St) :=
  wh (fun s => Tw_reduceAll_s6 x1 s) (G)
theorem Tw_reduceAll_l6_eq (x1 : Int) (G : St) : Tw_reduceAll_l6 x1 G = (Tw_reduceAll_s6 x1 G).bind (lk (fun s => Tw_reduceAll_l6 x1 s) some) := by
  exact wh_eq _ _
noncomputable def Tw_reduceAll (x1 : Int) (G : St) : Option (Int × St) :=
  bd (Tw_reduce x1 0 G) fun _ G2 =>
  Tw_reduceAll_l6 x1 G2
noncomputable def Tw_signsOver_s0 (x1 : Int) (G : St) : Option ((St) ⊕ (Int × St)) :=
  if x1 < (G 100 20) then (ckI ((G 100 20) - 1) <| ckB ((G 100 20) - 1) 4100 <| if (G 122 ((G 100 20) - 1)) = 2 then (ckI ((G 100 20) - 1) <| tk (up G 100 20 ((G 100 20) - 1)) fun G1 =>
  ckI ((G1 100 19) - 1) <| tk (up G1 100 19 ((G1 100 19) - 1)) fun G2 =>
  ckB (G2 100 20) 4100 <| ckB (G2 100 20) 4100 <| bd (Tw_put 12 (G2 123 (G2 100 20)) 0 (G2 124 (G2 100 20)) G2) fun z3 G4 =>
  some (Sum.inl (G4)))
  else (ex (some (0, G))))
  else (ex (some (0, G)))
noncomputable def Tw_signsOver_l0 (x1 : Int) (G : St) : Option (Int × St) :=
  wh (fun s => Tw_signsOver_s0 x1 s) (G)
theorem Tw_signsOver_l0_eq (x1 : Int) (G : St) : Tw_signsOver_l0 x1 G = (Tw_signsOver_s0 x1 G).bind (lk (fun s => Tw_signsOver_l0 x1 s) some) := by
  exact wh_eq _ _
noncomputable def Tw_signsOver (x1 : Int) (G : St) : Option (Int × St) :=
  Tw_signsOver_l0 x1 G
noncomputable def Tw_closes_b515 (x1 : Int) (G : St) : Option (Int × St) :=
  bd (Tw_signsOver x1 G) fun _ G16 =>
  ckB 1 2 (some (1, G16))
noncomputable def Tw_closes_b506 (x1 : Int) (x5 : Int) (s0 : Int) (G : St) : Option (Int × St) :=
  bd (Tw_put s0 0 0 x5 G) fun z13 G14 =>
  Tw_closes_b515 x1 G14
noncomputable def Tw_closes_b464 (x1 : Int) (x5 : Int) (G : St) : Option (Int × St) :=
  ckB (G 100 20) 4100 <| ckB (G 123 (G 100 20)) 12000 <| bd (Tw_put 9 (G 116 (G 123 (G 100 20))) 0 x5 G) fun z18 G19 =>
  Tw_closes_b515 x1 G19
noncomputable def Tw_closes_b437 (x1 : Int) (x2 : Int) (x5 : Int) (s0 : Int) (s1 : Int) (G : St) : Option (Int × St) :=
  ckB s1 12000 <| tk (up G 117 s1 s0) fun G17 =>
  if x2 = 0 then (ckB (G17 100 20) 4100 <| bd (Tw_put 16 (G17 123 (G17 100 20)) 0 (G17 100 6) G17) fun z20 G21 =>
  Tw_closes_b464 x1 x5 G21)
  else (Tw_closes_b464 x1 x5 G17)
noncomputable def Tw_closes_b288 (x1 : Int) (x2 : Int) (x3 : Int) (s0 : Int) (G : St) : Option (Int × St) :=
  if s0 = 0 then (bd (Tw_fail 1 (G 100 6) G) fun _ G27 =>
  ckB 0 2 (some (0, G27)))
  else (ckI ((G 100 6) + 1) <| tk (up G 100 6 ((G 100 6) + 1)) fun G10 =>
  ckI ((G10 100 20) - 1) <| tk (up G10 100 20 ((G10 100 20) - 1)) fun G11 =>
  ckI ((G11 100 19) - 1) <| tk (up G11 100 19 ((G11 100 19) - 1)) fun G12 =>
  ckB (G12 100 20) 4100 <| if x3 = 5 then (bd (Tw_put 15 0 0 (G12 124 (G12 100 20)) G12) fun z24 G25 =>
  Tw_closes_b515 x1 G25)
  else (if x3 = 6 then (ckB (G12 100 20) 4100 <| bd (Tw_put 7 (G12 123 (G12 100 20)) 0 (G12 124 (G12 100 20)) G12) fun z22 G23 =>
  Tw_closes_b515 x1 G23)
  else (if x3 = 7 then (ckB (G12 100 20) 4100 <| if x2 = 0 then (ckB (G12 100 20) 4100 <| ckI ((G12 125 (G12 100 20)) + 1) <| Tw_closes_b437 x1 x2 (G12 124 (G12 100 20)) ((G12 125 (G12 100 20)) + 1) (G12 123 (G12 100 20)) G12)
  else (Tw_closes_b437 x1 x2 (G12 124 (G12 100 20)) 0 (G12 123 (G12 100 20)) G12))
  else (Tw_closes_b506 x1 (G12 124 (G12 100 20)) (if x3 = 8 then 10 else 11) G12))))
noncomputable def Tw_closes_b268 (x1 : Int) (x2 : Int) (x3 : Int) (G : St) : Option (Int × St) :=
  bd (Tw_isSign 93 G) fun z8 G9 =>
  Tw_closes_b288 x1 x2 x3 (if z8 = 0 then 0 else (if x3 = 6 then 1 else 0)) G9
noncomputable def Tw_closes_b221 (x1 : Int) (x2 : Int) (x3 : Int) (G : St) : Option (Int × St) :=
  bd (Tw_isSign 41 G) fun z6 G7 =>
  if z6 = 0 then (Tw_closes_b268 x1 x2 x3 G7)
  else (if x3 = 5 then (Tw_closes_b288 x1 x2 x3 1 G7)
  else (if x3 = 7 then (Tw_closes_b288 x1 x2 x3 1 G7)
  else (if x3 = 8 then (Tw_closes_b288 x1 x2 x3 1 G7)
  else (if x3 = 9 then (ckI ((G7 100 20) - 1) <| ckB ((G7 100 20) - 1) 4100 <| if (G7 125 ((G7 100 20) - 1)) = 1 then (Tw_closes_b288 x1 x2 x3 1 G7)
  else (Tw_closes_b268 x1 x2 x3 G7))
  else (Tw_closes_b268 x1 x2 x3 G7)))))
noncomputable def Tw_closes_b179 (s0 : Int) (s1 : Int) (G : St) : Option (Int × St) :=
  bd (Tw_put s1 s0 0 (G 100 6) G) fun z28 G29 =>
  ckI ((G29 100 20) - 1) <| ckB ((G29 100 20) - 1) 4100 <| ckI ((G29 125 ((G29 100 20) - 1)) + 1) <| ckB ((G29 100 20) - 1) 4100 <| tk (up G29 125 ((G29 100 20) - 1) ((G29 125 ((G29 100 20) - 1)) + 1)) fun G30 =>
  ckI ((G30 100 6) + 1) <| tk (up G30 100 6 ((G30 100 6) + 1)) fun G31 =>
  ckB 1 2 <| tk (up G31 100 25 1) fun G32 =>
  ckB 1 2 (some (1, G32))
noncomputable def Tw_closes_b155 (x3 : Int) (G : St) : Option (Int × St) :=
  if x3 = 7 then (ckI ((G 100 20) - 1) <| ckB ((G 100 20) - 1) 4100 <| Tw_closes_b179 (G 123 ((G 100 20) - 1)) 16 G)
  else (Tw_closes_b179 (-1) 16 G)
noncomputable def Tw_closes_b135 (x1 : Int) (x2 : Int) (x3 : Int) (G : St) : Option (Int × St) :=
  if x3 = 9 then (ckI ((G 100 20) - 1) <| ckB ((G 100 20) - 1) 4100 <| if (G 125 ((G 100 20) - 1)) = 0 then (Tw_closes_b155 x3 G)
  else (Tw_closes_b221 x1 x2 x3 G))
  else (Tw_closes_b221 x1 x2 x3 G)
noncomputable def Tw_closes_b116 (x1 : Int) (x2 : Int) (x3 : Int) (G : St) : Option (Int × St) :=
  bd (Tw_isSign 44 G) fun z4 G5 =>
  if z4 = 0 then (Tw_closes_b221 x1 x2 x3 G5)
  else (if x3 = 7 then (if x2 = 0 then (Tw_closes_b155 x3 G5)
  else (Tw_closes_b135 x1 x2 x3 G5))
  else (Tw_closes_b135 x1 x2 x3 G5))
noncomputable def Tw_closes_b51 (x1 : Int) (x2 : Int) (G : St) : Option (Int × St) :=
  if (G 100 20) = x1 then (ckB 0 2 (some (0, G)))
  else (ckI ((G 100 20) - 1) <| ckB ((G 100 20) - 1) 4100 <| bd (Tw_isSign 58 G) fun z2 G3 =>
  if z2 = 0 then (Tw_closes_b116 x1 x2 (G 122 ((G 100 20) - 1)) G3)
  else (if (G 122 ((G 100 20) - 1)) = 3 then (ckI ((G3 100 20) - 1) <| ckB ((G3 100 20) - 1) 4100 <| tk (up G3 122 ((G3 100 20) - 1) 4) fun G33 =>
  ckI ((G33 100 6) + 1) <| tk (up G33 100 6 ((G33 100 6) + 1)) fun G34 =>
  ckB 1 2 <| tk (up G34 100 25 1) fun G35 =>
  ckB 1 2 (some (1, G35)))
  else (Tw_closes_b116 x1 x2 (G 122 ((G 100 20) - 1)) G3)))
noncomputable def Tw_closes_b41 (x1 : Int) (s0 : Int) (G : St) : Option (Int × St) :=
  if s0 = 0 then (bd (Tw_reduceAll x1 G) fun _ G37 =>
  Tw_closes_b51 x1 s0 G37)
  else (Tw_closes_b51 x1 s0 G)
noncomputable def Tw_closes (x1 : Int) (G : St) : Option (Int × St) :=
  ckB 0 2 <| tk (up G 100 25 0) fun G1 =>
  if x1 < (G1 100 20) then (ckI ((G1 100 20) - 1) <| ckB ((G1 100 20) - 1) 4100 <| if (G1 122 ((G1 100 20) - 1)) = 7 then (bd (Tw_isFresh G1) fun z38 G39 =>
  Tw_closes_b41 x1 (if z38 = 0 then 0 else 1) G39)
  else (Tw_closes_b41 x1 0 G1))
  else (Tw_closes_b41 x1 0 G1)
noncomputable def Tw_gap_b81 (x1 : Int) (s0 : Int) (G : St) : Option ((St) ⊕ ((Int × St) ⊕ (Int × St))) :=
  ckB s0 4000 <| if (G 105 s0) = 10 then (ex (some (Sum.inl (x1, G))))
  else (ckI ((G 100 6) + 1) <| tk (up G 100 6 ((G 100 6) + 1)) fun G4 =>
  some (Sum.inl (G4)))
noncomputable def Tw_gap_s48 (x1 : Int) (G : St) : Option ((St) ⊕ ((Int × St) ⊕ (Int × St))) :=
  if (G 100 6) < (G 100 5) then (Tw_gap_b81 x1 (if (G 100 6) < 4000 then (G 100 6) else 0) G)
  else (ex (some (Sum.inl (x1, G))))
noncomputable def Tw_gap_l48 (x1 : Int) (G : St) : Option ((Int × St) ⊕ (Int × St)) :=
  wh (fun s => Tw_gap_s48 x1 s) (G)
theorem Tw_gap_l48_eq (x1 : Int) (G : St) : Tw_gap_l48 x1 G = (Tw_gap_s48 x1 G).bind (lk (fun s => Tw_gap_l48 x1 s) some) := by
  exact wh_eq _ _
noncomputable def Tw_gap_b41 (x2 : Int) (s0 : Int) (G : St) : Option ((Int × St) ⊕ (Int × St)) :=
  if x2 = 35 then (Tw_gap_l48 s0 G)
  else (if s0 = 0 then (some (Sum.inl (s0, G)))
  else (ckI ((G 100 6) + 1) <| tk (up G 100 6 ((G 100 6) + 1)) fun G3 =>
  some (Sum.inl (s0, G3))))
noncomputable def Tw_gap_s2 (x1 : Int) (G : St) : Option ((Int × St) ⊕ (Int × St)) :=
  if x1 = 0 then (ex (some (0, G)))
  else (bd (Tw_look0 0 G) fun z1 G2 =>
  Tw_gap_b41 z1 (if z1 = 32 then 1 else (if z1 = 9 then 1 else (if z1 = 10 then 1 else (if z1 = 35 then 1 else 0)))) G2)
noncomputable def Tw_gap_l2 (x1 : Int) (G : St) : Option (Int × St) :=
  wh (fun s => Tw_gap_s2 s.1 s.2) (x1, G)
theorem Tw_gap_l2_eq (x1 : Int) (G : St) : Tw_gap_l2 x1 G = (Tw_gap_s2 x1 G).bind (lk (fun s => Tw_gap_l2 s.1 s.2) some) := by
  exact wh_eq _ _
noncomputable def Tw_gap (G : St) : Option (Int × St) :=
  Tw_gap_l2 1 G
noncomputable def Tw_operator (G : St) : Option (Int × St) :=
  bd (Tw_look0 0 G) fun z1 G2 =>
  bd (Tw_look0 1 G2) fun z3 G4 =>
  bd (Tw_isPair G4) fun z5 G6 =>
  if z5 = 0 then (if z1 = 124 then (some (3, G6))
  else (if z1 = 94 then (some (4, G6))
  else (if z1 = 38 then (some (5, G6))
  else (if z1 = 60 then (some (8, G6))
  else (if z1 = 62 then (some (10, G6))
  else (some ((if z1 = 43 then 14 else (if z1 = 45 then 15 else (if z1 = 42 then 16 else (if z1 = 47 then 17 else (if z1 = 37 then 18 else 0))))), G6)))))))
  else (if z1 = 124 then (some (1, G6))
  else (some ((if z1 = 38 then 2 else (if z1 = 61 then 6 else (if z1 = 33 then 7 else (if z1 = 60 then (if z3 = 60 then 12 else 9) else (if z3 = 62 then 13 else 11))))), G6)))
noncomputable def Tw_push (x1 : Int) (x2 : Int) (x3 : Int) (G : St) : Option (Int × St) :=
  ckB (G 100 20) 4100 <| tk (up G 122 (G 100 20) x1) fun G1 =>
  ckB (G1 100 20) 4100 <| tk (up G1 123 (G1 100 20) x2) fun G2 =>
  ckB (G2 100 20) 4100 <| tk (up G2 124 (G2 100 20) x3) fun G3 =>
  ckB (G3 100 20) 4100 <| tk (up G3 125 (G3 100 20) 0) fun G4 =>
  ckI ((G4 100 20) + 1) <| tk (up G4 100 20 ((G4 100 20) + 1)) fun G5 =>
  some (0, G5)
noncomputable def Tw_isDigit (x0 : Int) (G : St) : Option (Int × St) :=
  ckB (if x0 < 48 then 0 else (if 57 < x0 then 0 else 1)) 2 (some ((if x0 < 48 then 0 else (if 57 < x0 then 0 else 1)), G))
noncomputable def Tw_isLetter_b12 (x0 : Int) (G : St) : Option (Int × St) :=
  ckB (if x0 < 65 then (if x0 = 95 then 1 else 0) else (if 90 < x0 then (if x0 = 95 then 1 else 0) else 1)) 2 (some ((if x0 < 65 then (if x0 = 95 then 1 else 0) else (if 90 < x0 then (if x0 = 95 then 1 else 0) else 1)), G))
noncomputable def Tw_isLetter (x0 : Int) (G : St) : Option (Int × St) :=
  if x0 < 97 then (Tw_isLetter_b12 x0 G)
  else (ckB (if 122 < x0 then (if x0 < 65 then (if x0 = 95 then 1 else 0) else (if 90 < x0 then (if x0 = 95 then 1 else 0) else 1)) else 1) 2 (some ((if 122 < x0 then (if x0 < 65 then (if x0 = 95 then 1 else 0) else (if 90 < x0 then (if x0 = 95 then 1 else 0) else 1)) else 1), G)))
noncomputable def Tw_wordEnd_b76 (x1 : Int) (G : St) : Option (Int × St) :=
  some (x1, G)
noncomputable def Tw_wordEnd_b70 (x1 : Int) (G : St) : Option ((Int × St) ⊕ (Int × St)) :=
  ckI (x1 + 1) <| some (Sum.inl (x1 + 1, G))
noncomputable def Tw_wordEnd_b63 (x1 : Int) (s0 : Int) (G : St) : Option ((Int × St) ⊕ (Int × St)) :=
  ckB s0 4000 <| bd (Tw_isDigit (G 105 s0) G) fun z7 G8 =>
  if z7 = 0 then (ex (Tw_wordEnd_b76 x1 G8))
  else (Tw_wordEnd_b70 x1 G8)
noncomputable def Tw_wordEnd_b40 (x1 : Int) (s0 : Int) (G : St) : Option ((Int × St) ⊕ (Int × St)) :=
  ckB s0 4000 <| bd (Tw_isLetter (G 105 s0) G) fun z5 G6 =>
  if z5 = 0 then (Tw_wordEnd_b63 x1 (if x1 < 4000 then x1 else 0) G6)
  else (Tw_wordEnd_b70 x1 G6)
noncomputable def Tw_wordEnd_s16 (x1 : Int) (G : St) : Option ((Int × St) ⊕ (Int × St)) :=
  if x1 < (G 100 5) then (Tw_wordEnd_b40 x1 (if x1 < 4000 then x1 else 0) G)
  else (ex (Tw_wordEnd_b76 x1 G))
noncomputable def Tw_wordEnd_l16 (x1 : Int) (G : St) : Option (Int × St) :=
  wh (fun s => Tw_wordEnd_s16 s.1 s.2) (x1, G)
theorem Tw_wordEnd_l16_eq (x1 : Int) (G : St) : Tw_wordEnd_l16 x1 G = (Tw_wordEnd_s16 x1 G).bind (lk (fun s => Tw_wordEnd_l16 s.1 s.2) some) := by
  exact wh_eq _ _
noncomputable def Tw_wordEnd (G : St) : Option (Int × St) :=
  bd (Tw_look0 0 G) fun z1 G2 =>
  bd (Tw_isLetter z1 G2) fun z3 G4 =>
  if z3 = 0 then (Tw_wordEnd_b76 (G 100 6) G4)
  else (Tw_wordEnd_l16 (G 100 6) G4)
noncomputable def Tw_isWord_b81 (x3 : Int) (G : St) : Option (Int × St) :=
  ckB x3 2 (some (x3, G))
noncomputable def Tw_isWord_b74 (x1 : Int) (x4 : Int) (s0 : Int) (G : St) : Option ((Int × Int × St) ⊕ (Int × St)) :=
  ckI (x4 + 1) <| some (Sum.inl (s0, x4 + 1, G))
noncomputable def Tw_isWord_s35 (x1 : Int) (x3 : Int) (x4 : Int) (G : St) : Option ((Int × Int × St) ⊕ (Int × St)) :=
  if x3 = 0 then (ex (Tw_isWord_b81 x3 G))
  else (bd (S_len x1 G) fun z5 G6 =>
  if x4 < z5 then (ckI ((G6 100 6) + x4) <| ckB ((G6 100 6) + x4) 4000 <| bd (S_chr x1 x4 G6) fun z7 G8 =>
  Tw_isWord_b74 x1 x4 (if (G6 105 ((G6 100 6) + x4)) = z7 then 1 else 0) G8)
  else (ex (Tw_isWord_b81 x3 G6)))
noncomputable def Tw_isWord_l35 (x1 : Int) (x3 : Int) (x4 : Int) (G : St) : Option (Int × St) :=
  wh (fun s => Tw_isWord_s35 x1 s.1 s.2.1 s.2.2) (x3, x4, G)
theorem Tw_isWord_l35_eq (x1 : Int) (x3 : Int) (x4 : Int) (G : St) : Tw_isWord_l35 x1 x3 x4 G = (Tw_isWord_s35 x1 x3 x4 G).bind (lk (fun s => Tw_isWord_l35 x1 s.1 s.2.1 s.2.2) some) := by
  exact wh_eq _ _
noncomputable def Tw_isWord_b31 (x1 : Int) (s0 : Int) (G : St) : Option (Int × St) :=
  Tw_isWord_l35 x1 s0 0 G
noncomputable def Tw_isWord (x1 : Int) (G : St) : Option (Int × St) :=
  bd (Tw_wordEnd G) fun z1 G2 =>
  ckI (z1 - (G2 100 6)) <| bd (S_len x1 G2) fun z3 G4 =>
  Tw_isWord_b31 x1 (if (z1 - (G2 100 6)) = z3 then (if (G4 100 6) < z1 then 1 else 0) else 0) G4
noncomputable def Tw_isKept (G : St) : Option (Int × St) :=
  bd (Tw_isWord 70 G) fun z1 G2 =>
  if z1 = 0 then (bd (Tw_isWord 71 G2) fun z3 G4 =>
  if z3 = 0 then (bd (Tw_isWord 72 G4) fun z5 G6 =>
  if z5 = 0 then (bd (Tw_isWord 73 G6) fun z7 G8 =>
  if z7 = 0 then (bd (Tw_isWord 74 G8) fun z9 G10 =>
  if z9 = 0 then (bd (Tw_isWord 75 G10) fun z11 G12 =>
  if z11 = 0 then (bd (Tw_isWord 76 G12) fun z13 G14 =>
  if z13 = 0 then (bd (Tw_isWord 77 G14) fun z15 G16 =>
  if z15 = 0 then (bd (Tw_isWord 78 G16) fun z17 G18 =>
  if z17 = 0 then (bd (Tw_isWord 79 G18) fun z19 G20 =>
  if z19 = 0 then (bd (Tw_isWord 80 G20) fun z21 G22 =>
  if z21 = 0 then (bd (Tw_isWord 81 G22) fun z23 G24 =>
  if z23 = 0 then (bd (Tw_isWord 82 G24) fun z25 G26 =>
  ckB (if z25 = 0 then 0 else 1) 2 (some ((if z25 = 0 then 0 else 1), G26)))
  else (ckB 1 2 (some (1, G24))))
  else (ckB 1 2 (some (1, G22))))
  else (ckB 1 2 (some (1, G20))))
  else (ckB 1 2 (some (1, G18))))
  else (ckB 1 2 (some (1, G16))))
  else (ckB 1 2 (some (1, G14))))
  else (ckB 1 2 (some (1, G12))))
  else (ckB 1 2 (some (1, G10))))
  else (ckB 1 2 (some (1, G8))))
  else (ckB 1 2 (some (1, G6))))
  else (ckB 1 2 (some (1, G4))))
  else (ckB 1 2 (some (1, G2)))
noncomputable def Tw_name_b24 (G : St) : Option (Int × St) :=
  bd (Tw_fail 1 (G 100 6) G) fun _ G6 =>
  some (0, G6)
noncomputable def Tw_name_b212 (x1 : Int) (x3 : Int) (G : St) : Option (Int × St) :=
  tk (up G 100 6 x1) fun G9 =>
  some (x3, G9)
noncomputable def Tw_name_b171 (x1 : Int) (x2 : Int) (x3 : Int) (G : St) : Option (Int × St) :=
  if x3 = (G 100 9) then (ckB (G 100 9) 2000 <| tk (up G 111 (G 100 9) (G 100 6)) fun G10 =>
  ckB (G10 100 9) 2000 <| tk (up G10 112 (G10 100 9) x2) fun G11 =>
  ckI ((G11 100 9) + 1) <| tk (up G11 100 9 ((G11 100 9) + 1)) fun G12 =>
  Tw_name_b212 x1 x3 G12)
  else (Tw_name_b212 x1 x3 G)
noncomputable def Tw_name_b166 (x1 : Int) (x2 : Int) (x4 : Int) (s0 : Int) (s1 : Int) (G : St) : Option ((Int × Int × St) ⊕ (Int × St)) :=
  ckI (s1 + s0) <| some (Sum.inl (s1 + s0, x4, G))
noncomputable def Tw_name_b155 (x1 : Int) (x2 : Int) (x3 : Int) (x4 : Int) (G : St) : Option ((Int × Int × St) ⊕ (Int × St)) :=
  Tw_name_b166 x1 x2 x4 (if x4 = 0 then 1 else 0) x3 G
noncomputable def Tw_name_b147 (x1 : Int) (x2 : Int) (x3 : Int) (x5 : Int) (s0 : Int) (G : St) : Option ((Int × Int × St) ⊕ ((Int × Int × St) ⊕ (Int × St))) :=
  ckI (x5 + 1) <| some (Sum.inl (s0, x5 + 1, G))
noncomputable def Tw_name_s102 (x1 : Int) (x2 : Int) (x3 : Int) (x4 : Int) (x5 : Int) (G : St) : Option ((Int × Int × St) ⊕ ((Int × Int × St) ⊕ (Int × St))) :=
  if x4 = 0 then (ex (Tw_name_b155 x1 x2 x3 x4 G))
  else (if x5 < x2 then (ckB x3 2000 <| ckI ((G 111 x3) + x5) <| ckB ((G 111 x3) + x5) 4000 <| ckI ((G 100 6) + x5) <| ckB ((G 100 6) + x5) 4000 <| Tw_name_b147 x1 x2 x3 x5 (if (G 105 ((G 111 x3) + x5)) = (G 105 ((G 100 6) + x5)) then 1 else 0) G)
  else (ex (Tw_name_b155 x1 x2 x3 x4 G)))
noncomputable def Tw_name_l102 (x1 : Int) (x2 : Int) (x3 : Int) (x4 : Int) (x5 : Int) (G : St) : Option ((Int × Int × St) ⊕ (Int × St)) :=
  wh (fun s => Tw_name_s102 x1 x2 x3 s.1 s.2.1 s.2.2) (x4, x5, G)
theorem Tw_name_l102_eq (x1 : Int) (x2 : Int) (x3 : Int) (x4 : Int) (x5 : Int) (G : St) : Tw_name_l102 x1 x2 x3 x4 x5 G = (Tw_name_s102 x1 x2 x3 x4 x5 G).bind (lk (fun s => Tw_name_l102 x1 x2 x3 s.1 s.2.1 s.2.2) some) := by
  exact wh_eq _ _
noncomputable def Tw_name_b97 (x1 : Int) (x2 : Int) (x3 : Int) (s0 : Int) (G : St) : Option ((Int × Int × St) ⊕ (Int × St)) :=
  Tw_name_l102 x1 x2 x3 s0 0 G
noncomputable def Tw_name_s69 (x1 : Int) (x2 : Int) (x3 : Int) (x4 : Int) (G : St) : Option ((Int × Int × St) ⊕ (Int × St)) :=
  if x3 < (G 100 9) then (if x4 = 0 then (ckB x3 2000 <| Tw_name_b97 x1 x2 x3 (if (G 112 x3) = x2 then 1 else 0) G)
  else (ex (Tw_name_b171 x1 x2 x3 G)))
  else (ex (Tw_name_b171 x1 x2 x3 G))
noncomputable def Tw_name_l69 (x1 : Int) (x2 : Int) (x3 : Int) (x4 : Int) (G : St) : Option (Int × St) :=
  wh (fun s => Tw_name_s69 x1 x2 s.1 s.2.1 s.2.2) (x3, x4, G)
theorem Tw_name_l69_eq (x1 : Int) (x2 : Int) (x3 : Int) (x4 : Int) (G : St) : Tw_name_l69 x1 x2 x3 x4 G = (Tw_name_s69 x1 x2 x3 x4 G).bind (lk (fun s => Tw_name_l69 x1 x2 s.1 s.2.1 s.2.2) some) := by
  exact wh_eq _ _
noncomputable def Tw_name (G : St) : Option (Int × St) :=
  bd (Tw_gap G) fun _ G2 =>
  bd (Tw_wordEnd G2) fun z3 G4 =>
  if z3 = (G4 100 6) then (Tw_name_b24 G4)
  else (bd (Tw_isKept G4) fun z7 G8 =>
  if z7 = 0 then (ckI (z3 - (G8 100 6)) <| if 16 < (z3 - (G8 100 6)) then (bd (Tw_fail 2 (G8 100 6) G8) fun _ G14 =>
  some (0, G14))
  else (ckI (z3 - (G8 100 6)) <| Tw_name_l69 z3 (z3 - (G8 100 6)) 0 0 G8))
  else (Tw_name_b24 G8))
noncomputable def Tw_number_b143 (x5 : Int) (G : St) : Option (Int × St) :=
  bd (Tw_fail 2 x5 G) fun _ G13 =>
  some (0, G13)
noncomputable def Tw_number_b86 (x1 : Int) (x3 : Int) (x5 : Int) (s0 : Int) (G : St) : Option ((St) ⊕ (Int × St)) :=
  tk (up G 100 12 s0) fun G14 =>
  ckI ((G14 100 6) + 1) <| tk (up G14 100 6 ((G14 100 6) + 1)) fun G15 =>
  some (Sum.inl (G15))
noncomputable def Tw_number_s36 (x1 : Int) (x3 : Int) (x5 : Int) (G : St) : Option ((St) ⊕ (Int × St)) :=
  bd (Tw_look0 0 G) fun z8 G9 =>
  bd (Tw_isDigit z8 G9) fun z10 G11 =>
  if z10 = 0 then (ex (ckI ((G11 100 6) - x5) <| if 10 < ((G11 100 6) - x5) then (Tw_number_b143 x5 G11)
  else (if 4294967295 < (G11 100 12) then (Tw_number_b143 x5 G11)
  else (if (G11 100 12) < x1 then (Tw_number_b143 x5 G11)
  else (if x3 < (G11 100 12) then (Tw_number_b143 x5 G11)
  else (some (0, G11)))))))
  else (ckI ((G11 100 6) - x5) <| if ((G11 100 6) - x5) < 10 then (ckL (10 * (G11 100 12)) <| bd (Tw_look0 0 G11) fun z16 G17 =>
  ckL ((10 * (G11 100 12)) + z16) <| ckL (((10 * (G11 100 12)) + z16) - 48) <| Tw_number_b86 x1 x3 x5 (((10 * (G11 100 12)) + z16) - 48) G17)
  else (Tw_number_b86 x1 x3 x5 (G11 100 12) G11))
noncomputable def Tw_number_l36 (x1 : Int) (x3 : Int) (x5 : Int) (G : St) : Option (Int × St) :=
  wh (fun s => Tw_number_s36 x1 x3 x5 s) (G)
theorem Tw_number_l36_eq (x1 : Int) (x3 : Int) (x5 : Int) (G : St) : Tw_number_l36 x1 x3 x5 G = (Tw_number_s36 x1 x3 x5 G).bind (lk (fun s => Tw_number_l36 x1 x3 x5 s) some) := by
  exact wh_eq _ _
noncomputable def Tw_number (x1 : Int) (x3 : Int) (G : St) : Option (Int × St) :=
  bd (Tw_gap G) fun _ G2 =>
  bd (Tw_look0 0 G2) fun z3 G4 =>
  bd (Tw_isDigit z3 G4) fun z5 G6 =>
  if z5 = 0 then (bd (Tw_fail 1 (G6 100 6) G6) fun _ G19 =>
  some (0, G19))
  else (tk (up G6 100 12 0) fun G7 =>
  Tw_number_l36 x1 x3 (G2 100 6) G7)
noncomputable def Tw_sign (x1 : Int) (G : St) : Option (Int × St) :=
  bd (Tw_gap G) fun _ G2 =>
  bd (Tw_isSign x1 G2) fun z3 G4 =>
  if z3 = 0 then (bd (Tw_fail 1 (G4 100 6) G4) fun _ G7 =>
  some (0, G7))
  else (ckI ((G4 100 6) + 1) <| tk (up G4 100 6 ((G4 100 6) + 1)) fun G5 =>
  some (0, G5))
noncomputable def Tw_takeOperand_b84 (P W : Int) (x1 : Int) (x2 : Int) (G : St) : Option (Int × St) :=
  bd (Tw_deeper x1 G) fun _ G10 =>
  bd (Tw_push 2 x2 x1 G10) fun _ G12 =>
  ckI ((G12 100 6) + 1) <| tk (up G12 100 6 ((G12 100 6) + 1)) fun G13 =>
  ckB 0 2 (some (0, G13))
noncomputable def Tw_takeOperand_b203 (P W : Int) (x1 : Int) (s0 : Int) (G : St) : Option (Int × St) :=
  bd (Tw_put s0 0 0 x1 G) fun z26 G27 =>
  bd (Tw_wordEnd G27) fun z28 G29 =>
  tk (up G29 100 6 z28) fun G30 =>
  ckB 1 2 (some (1, G30))
noncomputable def Tw_takeOperand_b178 (P W : Int) (x1 : Int) (G : St) : Option (Int × St) :=
  bd (Tw_put 1 0 0 x1 G) fun z22 G23 =>
  bd (Tw_isWord 81 G23) fun z24 G25 =>
  Tw_takeOperand_b203 P W x1 (if z24 = 0 then 4 else 3) G25
noncomputable def Tw_takeOperand_b309 (P W : Int) (x1 : Int) (s0 : Int) (G : St) : Option (Int × St) :=
  bd (Tw_push s0 0 x1 G) fun _ G45 =>
  ckB 0 2 (some (0, G45))
noncomputable def Tw_takeOperand_b297 (P W : Int) (x1 : Int) (x3 : Int) (G : St) : Option (Int × St) :=
  Tw_takeOperand_b309 P W x1 (if x3 = 0 then 9 else 8) G
noncomputable def Tw_takeOperand_b240 (P W : Int) (x1 : Int) (G : St) : Option (Int × St) :=
  bd (Tw_isWord 79 G) fun z35 G36 =>
  bd (Tw_put 1 0 0 x1 G36) fun z37 G38 =>
  ckI ((G38 100 6) + 3) <| tk (up G38 100 6 ((G38 100 6) + 3)) fun G39 =>
  bd (Tw_gap G39) fun _ G41 =>
  bd (Tw_sign 40 G41) fun _ G43 =>
  if (G43 100 7) = 0 then (bd (Tw_deeper (G41 100 6) G43) fun _ G47 =>
  Tw_takeOperand_b297 P W x1 z35 G47)
  else (Tw_takeOperand_b297 P W x1 z35 G43)
noncomputable def Tw_takeOperand (P W : Int) (G : St) : Option (Int × St) :=
  bd (Tw_gap G) fun _ G2 =>
  bd (Tw_look0 0 G2) fun z3 G4 =>
  bd (Tw_isSign 40 G4) fun z5 G6 =>
  if z5 = 0 then (bd (Tw_isSign 45 G6) fun z7 G8 =>
  if z7 = 0 then (bd (Tw_isSign 126 G8) fun z14 G15 =>
  if z14 = 0 then (bd (Tw_isSign 33 G15) fun z16 G17 =>
  if z16 = 0 then (bd (Tw_isDigit z3 G17) fun z18 G19 =>
  if z18 = 0 then (bd (Tw_isWord 81 G19) fun z20 G21 =>
  if z20 = 0 then (bd (Tw_isWord 82 G21) fun z31 G32 =>
  if z31 = 0 then (bd (Tw_isWord 79 G32) fun z33 G34 =>
  if z33 = 0 then (bd (Tw_isWord 80 G34) fun z48 G49 =>
  if z48 = 0 then (bd (Tw_name G49) fun z50 G51 =>
  if 0 < (G51 100 7) then (ckB 1 2 (some (1, G51)))
  else (bd (Tw_put 1 0 0 (G2 100 6) G51) fun z52 G53 =>
  bd (Tw_gap G53) fun _ G55 =>
  bd (Tw_isSign 91 G55) fun z56 G57 =>
  if z56 = 0 then (bd (Tw_isSign 40 G57) fun z58 G59 =>
  if z58 = 0 then (bd (Tw_put 5 z50 0 (G2 100 6) G59) fun z60 G61 =>
  ckB 1 2 (some (1, G61)))
  else (bd (Tw_deeper (G59 100 6) G59) fun _ G63 =>
  ckI ((G63 100 6) + 1) <| tk (up G63 100 6 ((G63 100 6) + 1)) fun G64 =>
  bd (Tw_put 8 z50 0 (G2 100 6) G64) fun z65 G66 =>
  bd (Tw_push 7 z65 (G2 100 6) G66) fun _ G68 =>
  bd (Tw_gap G68) fun _ G70 =>
  bd (Tw_isSign 41 G70) fun z71 G72 =>
  ckB z71 2 (some (z71, G72))))
  else (bd (Tw_deeper (G57 100 6) G57) fun _ G74 =>
  ckI ((G74 100 6) + 1) <| tk (up G74 100 6 ((G74 100 6) + 1)) fun G75 =>
  bd (Tw_put 6 z50 0 (G2 100 6) G75) fun z76 G77 =>
  bd (Tw_push 6 z50 (G2 100 6) G77) fun _ G79 =>
  ckB 0 2 (some (0, G79)))))
  else (Tw_takeOperand_b240 P W (G2 100 6) G49))
  else (Tw_takeOperand_b240 P W (G2 100 6) G34))
  else (Tw_takeOperand_b178 P W (G2 100 6) G32))
  else (Tw_takeOperand_b178 P W (G2 100 6) G21))
  else (bd (Tw_number 0 4294967295 G19) fun _ G81 =>
  bd (Tw_put 1 0 0 (G2 100 6) G81) fun z82 G83 =>
  bd (Tw_put 2 0 0 (G2 100 6) G83) fun z84 G85 =>
  ckB z84 12000 <| tk (up G85 119 z84 (j_lan (G85 100 12) (2 ^ W.toNat - 1))) fun G86 =>
  ckB 1 2 (some (1, G86))))
  else (Tw_takeOperand_b84 P W (G2 100 6) z3 G17))
  else (Tw_takeOperand_b84 P W (G2 100 6) z3 G15))
  else (Tw_takeOperand_b84 P W (G2 100 6) z3 G8))
  else (bd (Tw_put 1 0 0 (G2 100 6) G6) fun z87 G88 =>
  bd (Tw_deeper (G2 100 6) G88) fun _ G90 =>
  bd (Tw_push 5 0 (G2 100 6) G90) fun _ G92 =>
  ckI ((G92 100 6) + 1) <| tk (up G92 100 6 ((G92 100 6) + 1)) fun G93 =>
  ckB 0 2 (some (0, G93)))
noncomputable def Tw_expression_b259 (P W : Int) (x1 : Int) (G : St) : Option (Int × St) :=
  tk (up G 100 20 x1) fun G1 =>
  some (0, G1)
noncomputable def Tw_expression_b250 (P W : Int) (x1 : Int) (s0 : Int) (G : St) : Option ((Int × Int × St) ⊕ (Int × St)) :=
  some (Sum.inl (G 100 25, s0, G))
noncomputable def Tw_expression_b189 (P W : Int) (x1 : Int) (x3 : Int) (G : St) : Option ((Int × Int × St) ⊕ (Int × St)) :=
  bd (Tw_isSign 63 G) fun z6 G7 =>
  if z6 = 0 then (bd (Tw_closes x1 G7) fun z8 G9 =>
  Tw_expression_b250 P W x1 (if z8 = 0 then 1 else 0) G9)
  else (bd (Tw_reduce x1 0 G7) fun _ G11 =>
  bd (Tw_deeper (G11 100 6) G11) fun _ G13 =>
  bd (Tw_push 3 0 (G13 100 6) G13) fun _ G15 =>
  ckI ((G15 100 6) + 1) <| tk (up G15 100 6 ((G15 100 6) + 1)) fun G16 =>
  some (Sum.inl (1, x3, G16)))
noncomputable def Tw_expression_b180 (P W : Int) (x1 : Int) (x3 : Int) (s0 : Int) (s1 : Int) (G : St) : Option ((Int × Int × St) ⊕ (Int × St)) :=
  ckI (s1 + s0) <| tk (up G 100 6 (s1 + s0)) fun G25 =>
  some (Sum.inl (1, x3, G25))
noncomputable def Tw_expression_b142 (P W : Int) (x1 : Int) (x3 : Int) (x4 : Int) (G : St) : Option ((Int × Int × St) ⊕ (Int × St)) :=
  bd (Tw_rank x4 G) fun z17 G18 =>
  bd (Tw_reduce x1 z17 G18) fun _ G20 =>
  bd (Tw_push 1 x4 (G20 100 6) G20) fun _ G22 =>
  bd (Tw_isPair G22) fun z23 G24 =>
  Tw_expression_b180 P W x1 x3 (if z23 = 0 then 1 else 2) (G22 100 6) G24
noncomputable def Tw_expression_b77 (P W : Int) (x1 : Int) (x2 : Int) (x3 : Int) (s0 : Int) (G : St) : Option ((Int × Int × St) ⊕ (Int × St)) :=
  if x2 = 0 then (if s0 = 0 then (bd (Tw_signsOver x1 G) fun _ G31 =>
  some (Sum.inl (x2, x3, G31)))
  else (some (Sum.inl (x2, x3, G))))
  else (some (Sum.inl (x2, x3, G)))
noncomputable def Tw_expression_b42 (P W : Int) (x1 : Int) (x3 : Int) (x4 : Int) (s0 : Int) (G : St) : Option ((Int × Int × St) ⊕ (Int × St)) :=
  if s0 = 0 then (if x4 < (G 100 20) then (ckI ((G 100 20) - 1) <| ckB ((G 100 20) - 1) 4100 <| Tw_expression_b77 P W x1 s0 x3 (if (G 122 ((G 100 20) - 1)) = 7 then 1 else 0) G)
  else (Tw_expression_b77 P W x1 s0 x3 0 G))
  else (Tw_expression_b77 P W x1 s0 x3 0 G)
noncomputable def Tw_expression_s9 (P W : Int) (x1 : Int) (x2 : Int) (x3 : Int) (G : St) : Option ((Int × Int × St) ⊕ (Int × St)) :=
  if (G 100 7) = 0 then (if x3 = 0 then (if x2 = 0 then (bd (Tw_gap G) fun _ G3 =>
  bd (Tw_operator G3) fun z4 G5 =>
  if 0 < z4 then (if x1 < (G5 100 20) then (ckI ((G5 100 20) - 1) <| ckB ((G5 100 20) - 1) 4100 <| if (G5 122 ((G5 100 20) - 1)) = 7 then (bd (Tw_isFresh G5) fun z26 G27 =>
  if z26 = 0 then (Tw_expression_b142 P W x1 x3 z4 G27)
  else (Tw_expression_b189 P W x1 x3 G27))
  else (Tw_expression_b142 P W x1 x3 z4 G5))
  else (Tw_expression_b142 P W x1 x3 z4 G5))
  else (Tw_expression_b189 P W x1 x3 G5))
  else (bd (Tw_takeOperand P W G) fun z28 G29 =>
  Tw_expression_b42 P W x1 x3 (G 100 20) (if z28 = 0 then 1 else 0) G29))
  else (ex (Tw_expression_b259 P W x1 G)))
  else (ex (Tw_expression_b259 P W x1 G))
noncomputable def Tw_expression_l9 (P W : Int) (x1 : Int) (x2 : Int) (x3 : Int) (G : St) : Option (Int × St) :=
  wh (fun s => Tw_expression_s9 P W x1 s.1 s.2.1 s.2.2) (x2, x3, G)
theorem Tw_expression_l9_eq (P W : Int) (x1 : Int) (x2 : Int) (x3 : Int) (G : St) : Tw_expression_l9 P W x1 x2 x3 G = (Tw_expression_s9 P W x1 x2 x3 G).bind (lk (fun s => Tw_expression_l9 P W x1 s.1 s.2.1 s.2.2) some) := by
  exact wh_eq _ _
noncomputable def Tw_expression (P W : Int) (G : St) : Option (Int × St) :=
  Tw_expression_l9 P W (G 100 20) 1 0 G
noncomputable def Tw_assignment_b159 (P W : Int) (x1 : Int) (x2 : Int) (s0 : Int) (G : St) : Option (Int × St) :=
  bd (Tw_put s0 x2 0 x1 G) fun z11 G12 =>
  bd (Tw_sign 59 G12) fun _ G14 =>
  bd (Tw_put 21 0 0 x1 G14) fun z15 G16 =>
  some (0, G16)
noncomputable def Tw_assignment_b139 (P W : Int) (x1 : Int) (x2 : Int) (x4 : Int) (G : St) : Option (Int × St) :=
  if (G 100 7) = 0 then (Tw_assignment_b159 P W x1 x2 (if x4 = 0 then 32 else 34) G)
  else (some (0, G))
noncomputable def Tw_assignment_b128 (P W : Int) (x1 : Int) (x2 : Int) (x4 : Int) (G : St) : Option (Int × St) :=
  if (G 100 7) = 0 then (bd (Tw_expression P W G) fun _ G18 =>
  Tw_assignment_b139 P W x1 x2 x4 G18)
  else (Tw_assignment_b139 P W x1 x2 x4 G)
noncomputable def Tw_assignment_b115 (P W : Int) (x1 : Int) (x2 : Int) (x4 : Int) (G : St) : Option (Int × St) :=
  if (G 100 7) = 0 then (bd (Tw_sign 61 G) fun _ G20 =>
  Tw_assignment_b128 P W x1 x2 x4 G20)
  else (Tw_assignment_b128 P W x1 x2 x4 G)
noncomputable def Tw_assignment_b48 (P W : Int) (x1 : Int) (x2 : Int) (x4 : Int) (s0 : Int) (G : St) : Option (Int × St) :=
  bd (Tw_put s0 x2 0 x1 G) fun z9 G10 =>
  if x4 = 0 then (Tw_assignment_b115 P W x1 x2 x4 G10)
  else (bd (Tw_deeper (G10 100 6) G10) fun _ G22 =>
  ckI ((G22 100 6) + 1) <| tk (up G22 100 6 ((G22 100 6) + 1)) fun G23 =>
  bd (Tw_expression P W G23) fun _ G25 =>
  if (G25 100 7) = 0 then (bd (Tw_put 42 x2 0 x1 G25) fun z26 G27 =>
  bd (Tw_sign 93 G27) fun _ G29 =>
  ckI ((G29 100 19) - 1) <| tk (up G29 100 19 ((G29 100 19) - 1)) fun G30 =>
  Tw_assignment_b115 P W x1 x2 x4 G30)
  else (Tw_assignment_b115 P W x1 x2 x4 G25))
noncomputable def Tw_assignment (P W : Int) (x1 : Int) (G : St) : Option (Int × St) :=
  bd (Tw_name G) fun z1 G2 =>
  if 0 < (G2 100 7) then (some (0, G2))
  else (bd (Tw_put 20 0 0 x1 G2) fun z3 G4 =>
  bd (Tw_gap G4) fun _ G6 =>
  bd (Tw_isSign 91 G6) fun z7 G8 =>
  Tw_assignment_b48 P W x1 z1 z7 (if z7 = 0 then 31 else 33) G8)
noncomputable def Tw_endIf_b46 (x1 : Int) (G : St) : Option (Int × St) :=
  ckB x1 12000 <| bd (Tw_put 21 0 0 (G 118 x1) G) fun z4 G5 =>
  some (0, G5)
noncomputable def Tw_endIf (x1 : Int) (G : St) : Option (Int × St) :=
  ckB x1 12000 <| bd (Tw_put 37 x1 0 (G 118 x1) G) fun z1 G2 =>
  ckB x1 12000 <| if (G2 117 x1) = 0 then (ckB x1 12000 <| tk (up G2 117 x1 z1) fun G6 =>
  Tw_endIf_b46 x1 G6)
  else (ckB x1 12000 <| ckB (G2 117 x1) 12000 <| tk (up G2 117 (G2 117 x1) z1) fun G3 =>
  Tw_endIf_b46 x1 G3)
noncomputable def Tw_openBlock (x1 : Int) (x2 : Int) (G : St) : Option (Int × St) :=
  bd (Tw_gap G) fun _ G2 =>
  bd (Tw_isSign 123 G2) fun z3 G4 =>
  if z3 = 0 then (bd (Tw_fail 1 (G4 100 6) G4) fun _ G12 =>
  some (0, G12))
  else (bd (Tw_deeper (G4 100 6) G4) fun _ G6 =>
  ckI ((G6 100 6) + 1) <| tk (up G6 100 6 ((G6 100 6) + 1)) fun G7 =>
  ckB (G7 100 26) 70 <| tk (up G7 128 (G7 100 26) x1) fun G8 =>
  ckB (G8 100 26) 70 <| tk (up G8 129 (G8 100 26) x2) fun G9 =>
  ckI ((G9 100 26) + 1) <| tk (up G9 100 26 ((G9 100 26) + 1)) fun G10 =>
  some (0, G10))
noncomputable def Tw_ifStatement_b81 (P W : Int) (x1 : Int) (G : St) : Option (Int × St) :=
  if (G 100 7) = 0 then (bd (Tw_put 35 0 0 x1 G) fun z8 G9 =>
  bd (Tw_openBlock 1 z8 G9) fun _ G11 =>
  some (0, G11))
  else (some (0, G))
noncomputable def Tw_ifStatement_b58 (P W : Int) (x1 : Int) (G : St) : Option (Int × St) :=
  if (G 100 7) = 0 then (bd (Tw_sign 41 G) fun _ G13 =>
  ckI ((G13 100 19) - 1) <| tk (up G13 100 19 ((G13 100 19) - 1)) fun G14 =>
  Tw_ifStatement_b81 P W x1 G14)
  else (Tw_ifStatement_b81 P W x1 G)
noncomputable def Tw_ifStatement_b47 (P W : Int) (x1 : Int) (G : St) : Option (Int × St) :=
  if (G 100 7) = 0 then (bd (Tw_expression P W G) fun _ G16 =>
  Tw_ifStatement_b58 P W x1 G16)
  else (Tw_ifStatement_b58 P W x1 G)
noncomputable def Tw_ifStatement (P W : Int) (x1 : Int) (G : St) : Option (Int × St) :=
  bd (Tw_put 20 0 0 x1 G) fun z1 G2 =>
  ckI ((G2 100 6) + 2) <| tk (up G2 100 6 ((G2 100 6) + 2)) fun G3 =>
  bd (Tw_gap G3) fun _ G5 =>
  bd (Tw_sign 40 G5) fun _ G7 =>
  if (G7 100 7) = 0 then (bd (Tw_deeper (G5 100 6) G7) fun _ G18 =>
  Tw_ifStatement_b47 P W x1 G18)
  else (Tw_ifStatement_b47 P W x1 G7)
noncomputable def Tw_closeBlock_s220 (P W : Int) (G : St) : Option ((St) ⊕ (Int × St)) :=
  if 0 < (G 100 26) then (ckI ((G 100 26) - 1) <| ckB ((G 100 26) - 1) 70 <| if (G 128 ((G 100 26) - 1)) = 12 then (ckI ((G 100 26) - 1) <| tk (up G 100 26 ((G 100 26) - 1)) fun G6 =>
  ckI ((G6 100 19) - 1) <| tk (up G6 100 19 ((G6 100 19) - 1)) fun G7 =>
  ckB (G7 100 26) 70 <| bd (Tw_endIf (G7 129 (G7 100 26)) G7) fun _ G9 =>
  some (Sum.inl (G9)))
  else (ex (some (0, G))))
  else (ex (some (0, G)))
noncomputable def Tw_closeBlock_l220 (P W : Int) (G : St) : Option (Int × St) :=
  wh (fun s => Tw_closeBlock_s220 P W s) (G)
theorem Tw_closeBlock_l220_eq (P W : Int) (G : St) : Tw_closeBlock_l220 P W G = (Tw_closeBlock_s220 P W G).bind (lk (fun s => Tw_closeBlock_l220 P W s) some) := by
  exact wh_eq _ _
noncomputable def Tw_closeBlock_b215 (P W : Int) (x2 : Int) (G : St) : Option (Int × St) :=
  bd (Tw_endIf x2 G) fun _ G5 =>
  Tw_closeBlock_l220 P W G5
noncomputable def Tw_closeBlock (P W : Int) (G : St) : Option (Int × St) :=
  ckI ((G 100 6) + 1) <| tk (up G 100 6 ((G 100 6) + 1)) fun G1 =>
  ckI ((G1 100 19) - 1) <| tk (up G1 100 19 ((G1 100 19) - 1)) fun G2 =>
  ckI ((G2 100 26) - 1) <| tk (up G2 100 26 ((G2 100 26) - 1)) fun G3 =>
  ckB (G3 100 26) 70 <| ckB (G3 100 26) 70 <| if (G3 128 (G3 100 26)) = 3 then (ckB (G3 129 (G3 100 26)) 12000 <| bd (Tw_put 40 (G3 129 (G3 100 26)) 0 (G3 118 (G3 129 (G3 100 26))) G3) fun z31 G32 =>
  ckB (G3 129 (G3 100 26)) 12000 <| tk (up G32 117 (G3 129 (G3 100 26)) z31) fun G33 =>
  ckB (G3 129 (G3 100 26)) 12000 <| bd (Tw_put 21 0 0 (G33 118 (G3 129 (G3 100 26))) G33) fun z34 G35 =>
  some (0, G35))
  else (if (G3 128 (G3 100 26)) = 1 then (bd (Tw_gap G3) fun _ G11 =>
  bd (Tw_isWord 77 G11) fun z12 G13 =>
  if z12 = 0 then (Tw_closeBlock_b215 P W (G3 129 (G3 100 26)) G13)
  else (ckI ((G13 100 6) + 4) <| tk (up G13 100 6 ((G13 100 6) + 4)) fun G14 =>
  ckB (G3 129 (G3 100 26)) 12000 <| bd (Tw_put 36 (G3 129 (G3 100 26)) 0 (G14 118 (G3 129 (G3 100 26))) G14) fun z15 G16 =>
  ckB (G3 129 (G3 100 26)) 12000 <| tk (up G16 117 (G3 129 (G3 100 26)) z15) fun G17 =>
  bd (Tw_gap G17) fun _ G19 =>
  bd (Tw_isWord 76 G19) fun z20 G21 =>
  if z20 = 0 then (bd (Tw_openBlock 2 (G3 129 (G3 100 26)) G21) fun _ G23 =>
  some (0, G23))
  else (bd (Tw_deeper (G21 100 6) G21) fun _ G25 =>
  ckB (G25 100 26) 70 <| tk (up G25 128 (G25 100 26) 12) fun G26 =>
  ckB (G26 100 26) 70 <| tk (up G26 129 (G26 100 26) (G3 129 (G3 100 26))) fun G27 =>
  ckI ((G27 100 26) + 1) <| tk (up G27 100 26 ((G27 100 26) + 1)) fun G28 =>
  bd (Tw_ifStatement P W (G28 100 6) G28) fun _ G30 =>
  some (0, G30))))
  else (Tw_closeBlock_b215 P W (G3 129 (G3 100 26)) G3))
noncomputable def Tw_sortWord_b53 (G : St) : Option (Int × St) :=
  ckI ((G 100 6) + 3) <| tk (up G 100 6 ((G 100 6) + 3)) fun G8 =>
  some (0, G8)
noncomputable def Tw_sortWord_b20 (s0 : Int) (G : St) : Option (Int × St) :=
  tk (up G 100 32 s0) fun G5 =>
  bd (Tw_isWord 79 G5) fun z6 G7 =>
  if z6 = 0 then (bd (Tw_isWord 80 G7) fun z9 G10 =>
  if z9 = 0 then (bd (Tw_fail 1 (G10 100 6) G10) fun _ G12 =>
  some (0, G12))
  else (Tw_sortWord_b53 G10))
  else (Tw_sortWord_b53 G7)
noncomputable def Tw_sortWord (G : St) : Option (Int × St) :=
  bd (Tw_gap G) fun _ G2 =>
  bd (Tw_isWord 80 G2) fun z3 G4 =>
  Tw_sortWord_b20 (if z3 = 0 then 0 else 1) G4
noncomputable def Tw_defItem_b252 (P W : Int) (x1 : Int) (x2 : Int) (x3 : Int) (x4 : Int) (x6 : Int) (G : St) : Option (Int × St) :=
  if 0 < (G 100 7) then (some (0, G))
  else (bd (Tw_put 28 0 0 x1 G) fun z12 G13 =>
  bd (Tw_expression P W G13) fun _ G15 =>
  if 0 < (G15 100 7) then (some (0, G15))
  else (bd (Tw_put 29 x3 x6 x2 G15) fun z16 G17 =>
  ckB x4 12000 <| tk (up G17 119 x4 z16) fun G18 =>
  bd (Tw_sign 59 G18) fun _ G20 =>
  some (0, G20)))
noncomputable def Tw_defItem_b233 (P W : Int) (x1 : Int) (x2 : Int) (x3 : Int) (x4 : Int) (G : St) : Option (Int × St) :=
  if (G 100 7) = 0 then (bd (Tw_sign 61 G) fun _ G22 =>
  Tw_defItem_b252 P W x1 x2 x3 x4 (G 100 32) G22)
  else (Tw_defItem_b252 P W x1 x2 x3 x4 (G 100 32) G)
noncomputable def Tw_defItem_b222 (P W : Int) (x1 : Int) (x2 : Int) (x3 : Int) (x4 : Int) (G : St) : Option (Int × St) :=
  if (G 100 7) = 0 then (bd (Tw_sortWord G) fun _ G24 =>
  Tw_defItem_b233 P W x1 x2 x3 x4 G24)
  else (Tw_defItem_b233 P W x1 x2 x3 x4 G)
noncomputable def Tw_defItem_b209 (P W : Int) (x1 : Int) (x2 : Int) (x3 : Int) (x4 : Int) (G : St) : Option (Int × St) :=
  if (G 100 7) = 0 then (bd (Tw_sign 58 G) fun _ G26 =>
  Tw_defItem_b222 P W x1 x2 x3 x4 G26)
  else (Tw_defItem_b222 P W x1 x2 x3 x4 G)
noncomputable def Tw_defItem_b196 (P W : Int) (x1 : Int) (x2 : Int) (x3 : Int) (x4 : Int) (G : St) : Option (Int × St) :=
  if (G 100 7) = 0 then (bd (Tw_sign 41 G) fun _ G28 =>
  Tw_defItem_b209 P W x1 x2 x3 x4 G28)
  else (Tw_defItem_b209 P W x1 x2 x3 x4 G)
noncomputable def Tw_defItem_b189 (P W : Int) (x1 : Int) (x2 : Int) (x3 : Int) (x4 : Int) (x5 : Int) (s0 : Int) (s1 : Int) (G : St) : Option ((Int × St) ⊕ (Int × St)) :=
  ckI (s1 + s0) <| tk (up G 100 6 (s1 + s0)) fun G40 =>
  some (Sum.inl (x5, G40))
noncomputable def Tw_defItem_b128 (P W : Int) (x1 : Int) (x2 : Int) (x3 : Int) (x4 : Int) (x5 : Int) (x6 : Int) (x7 : Int) (G : St) : Option ((Int × St) ⊕ (Int × St)) :=
  if (G 100 7) = 0 then (bd (Tw_put 27 x7 (G 100 32) x6 G) fun z33 G34 =>
  ckB x4 12000 <| ckI ((G34 117 x4) + 1) <| ckB x4 12000 <| tk (up G34 117 x4 ((G34 117 x4) + 1)) fun G35 =>
  bd (Tw_gap G35) fun _ G37 =>
  bd (Tw_isSign 44 G37) fun z38 G39 =>
  Tw_defItem_b189 P W x1 x2 x3 x4 z38 (if z38 = 0 then 0 else 1) (G39 100 6) G39)
  else (some (Sum.inl (x5, G)))
noncomputable def Tw_defItem_b117 (P W : Int) (x1 : Int) (x2 : Int) (x3 : Int) (x4 : Int) (x5 : Int) (x6 : Int) (x7 : Int) (G : St) : Option ((Int × St) ⊕ (Int × St)) :=
  if (G 100 7) = 0 then (bd (Tw_sortWord G) fun _ G42 =>
  Tw_defItem_b128 P W x1 x2 x3 x4 x5 x6 x7 G42)
  else (Tw_defItem_b128 P W x1 x2 x3 x4 x5 x6 x7 G)
noncomputable def Tw_defItem_s76 (P W : Int) (x1 : Int) (x2 : Int) (x3 : Int) (x4 : Int) (x5 : Int) (G : St) : Option ((Int × St) ⊕ (Int × St)) :=
  if x5 = 0 then (ex (Tw_defItem_b196 P W x1 x2 x3 x4 G))
  else (if (G 100 7) = 0 then (bd (Tw_gap G) fun _ G30 =>
  bd (Tw_name G30) fun z31 G32 =>
  if (G32 100 7) = 0 then (bd (Tw_sign 58 G32) fun _ G44 =>
  Tw_defItem_b117 P W x1 x2 x3 x4 x5 (G30 100 6) z31 G44)
  else (Tw_defItem_b117 P W x1 x2 x3 x4 x5 (G30 100 6) z31 G32))
  else (ex (Tw_defItem_b196 P W x1 x2 x3 x4 G)))
noncomputable def Tw_defItem_l76 (P W : Int) (x1 : Int) (x2 : Int) (x3 : Int) (x4 : Int) (x5 : Int) (G : St) : Option (Int × St) :=
  wh (fun s => Tw_defItem_s76 P W x1 x2 x3 x4 s.1 s.2) (x5, G)
theorem Tw_defItem_l76_eq (P W : Int) (x1 : Int) (x2 : Int) (x3 : Int) (x4 : Int) (x5 : Int) (G : St) : Tw_defItem_l76 P W x1 x2 x3 x4 x5 G = (Tw_defItem_s76 P W x1 x2 x3 x4 x5 G).bind (lk (fun s => Tw_defItem_l76 P W x1 x2 x3 x4 s.1 s.2) some) := by
  exact wh_eq _ _
noncomputable def Tw_defItem_b74 (P W : Int) (x1 : Int) (x2 : Int) (x3 : Int) (x4 : Int) (s0 : Int) (G : St) : Option (Int × St) :=
  Tw_defItem_l76 P W x1 x2 x3 x4 s0 G
noncomputable def Tw_defItem_b37 (P W : Int) (x1 : Int) (x2 : Int) (x3 : Int) (G : St) : Option (Int × St) :=
  if 0 < (G 100 7) then (some (0, G))
  else (bd (Tw_put 26 x3 0 x2 G) fun z6 G7 =>
  bd (Tw_gap G7) fun _ G9 =>
  bd (Tw_isSign 41 G9) fun z10 G11 =>
  Tw_defItem_b74 P W x1 x2 x3 z6 (if z10 = 0 then 1 else 0) G11)
noncomputable def Tw_defItem (P W : Int) (x1 : Int) (G : St) : Option (Int × St) :=
  ckI ((G 100 6) + 3) <| tk (up G 100 6 ((G 100 6) + 3)) fun G1 =>
  bd (Tw_gap G1) fun _ G3 =>
  bd (Tw_name G3) fun z4 G5 =>
  if (G5 100 7) = 0 then (bd (Tw_sign 40 G5) fun _ G46 =>
  Tw_defItem_b37 P W x1 (G3 100 6) z4 G46)
  else (Tw_defItem_b37 P W x1 (G3 100 6) z4 G5)
noncomputable def Tw_keyword (x1 : Int) (G : St) : Option (Int × St) :=
  bd (Tw_gap G) fun _ G2 =>
  bd (Tw_isWord x1 G2) fun z3 G4 =>
  if z3 = 0 then (bd (Tw_fail 1 (G4 100 6) G4) fun _ G9 =>
  some (0, G9))
  else (bd (S_len x1 G4) fun z5 G6 =>
  ckI ((G4 100 6) + z5) <| tk (up G6 100 6 ((G4 100 6) + z5)) fun G7 =>
  some (0, G7))
noncomputable def Tw_forStatement_b106 (P W : Int) (x1 : Int) (x4 : Int) (G : St) : Option (Int × St) :=
  if (G 100 7) = 0 then (bd (Tw_put 41 0 0 x1 G) fun z12 G13 =>
  bd (Tw_put 39 x4 0 x1 G13) fun z14 G15 =>
  bd (Tw_openBlock 3 z14 G15) fun _ G17 =>
  some (0, G17))
  else (some (0, G))
noncomputable def Tw_forStatement_b95 (P W : Int) (x1 : Int) (x4 : Int) (G : St) : Option (Int × St) :=
  if (G 100 7) = 0 then (bd (Tw_expression P W G) fun _ G19 =>
  Tw_forStatement_b106 P W x1 x4 G19)
  else (Tw_forStatement_b106 P W x1 x4 G)
noncomputable def Tw_forStatement_b71 (P W : Int) (x1 : Int) (x4 : Int) (G : St) : Option (Int × St) :=
  if (G 100 7) = 0 then (bd (Tw_put 41 0 0 x1 G) fun z20 G21 =>
  bd (Tw_keyword 75 G21) fun _ G23 =>
  Tw_forStatement_b95 P W x1 x4 G23)
  else (Tw_forStatement_b95 P W x1 x4 G)
noncomputable def Tw_forStatement (P W : Int) (x1 : Int) (G : St) : Option (Int × St) :=
  bd (Tw_put 20 0 0 x1 G) fun z1 G2 =>
  ckI ((G2 100 6) + 3) <| tk (up G2 100 6 ((G2 100 6) + 3)) fun G3 =>
  bd (Tw_gap G3) fun _ G5 =>
  bd (Tw_name G5) fun z6 G7 =>
  if 0 < (G7 100 7) then (some (0, G7))
  else (bd (Tw_put 38 z6 0 (G5 100 6) G7) fun z8 G9 =>
  bd (Tw_sign 61 G9) fun _ G11 =>
  if (G11 100 7) = 0 then (bd (Tw_expression P W G11) fun _ G25 =>
  Tw_forStatement_b71 P W x1 z6 G25)
  else (Tw_forStatement_b71 P W x1 z6 G11))
noncomputable def Tw_type (G : St) : Option (Int × St) :=
  bd (Tw_sortWord G) fun _ G2 =>
  tk (up G2 100 31 0) fun G3 =>
  if 0 < (G3 100 7) then (some (0, G3))
  else (bd (Tw_gap G3) fun _ G5 =>
  bd (Tw_isSign 91 G5) fun z6 G7 =>
  if z6 = 0 then (some (0, G7))
  else (ckI ((G7 100 6) + 1) <| tk (up G7 100 6 ((G7 100 6) + 1)) fun G8 =>
  bd (Tw_number 1 64 G8) fun _ G10 =>
  tk (up G10 100 31 (w32 (G10 100 12))) fun G11 =>
  if (G11 100 7) = 0 then (bd (Tw_sign 93 G11) fun _ G13 =>
  some (0, G13))
  else (some (0, G11))))
noncomputable def Tw_inputItem_b111 (P W : Int) (x2 : Int) (x3 : Int) (x4 : Int) (s0 : Int) (G : St) : Option (Int × St) :=
  ckI ((G 100 29) + s0) <| if 256 < ((G 100 29) + s0) then (bd (Tw_fail 2 x2 G) fun _ G15 =>
  some (0, G15))
  else (bd (Tw_put 22 x3 0 x2 G) fun z6 G7 =>
  bd (Tw_put 23 x3 (G7 100 32) x2 G7) fun z8 G9 =>
  ckL (256 * x4) <| ckL ((256 * x4) + (G9 100 31)) <| ckB z8 12000 <| tk (up G9 119 z8 ((256 * x4) + (G9 100 31))) fun G10 =>
  ckI ((G10 100 29) + s0) <| tk (up G10 100 29 ((G10 100 29) + s0)) fun G11 =>
  bd (Tw_sign 59 G11) fun _ G13 =>
  some (0, G13))
noncomputable def Tw_inputItem_b88 (P W : Int) (x2 : Int) (x3 : Int) (x4 : Int) (G : St) : Option (Int × St) :=
  if 0 < (G 100 7) then (some (0, G))
  else (Tw_inputItem_b111 P W x2 x3 x4 (if (G 100 31) = 0 then 1 else (G 100 31)) G)
noncomputable def Tw_inputItem_b77 (P W : Int) (x2 : Int) (x3 : Int) (x4 : Int) (G : St) : Option (Int × St) :=
  if (G 100 7) = 0 then (bd (Tw_type G) fun _ G17 =>
  Tw_inputItem_b88 P W x2 x3 x4 G17)
  else (Tw_inputItem_b88 P W x2 x3 x4 G)
noncomputable def Tw_inputItem_b57 (P W : Int) (x2 : Int) (x3 : Int) (G : St) : Option (Int × St) :=
  if (G 100 7) = 0 then (bd (Tw_sign 58 G) fun _ G19 =>
  Tw_inputItem_b77 P W x2 x3 (w32 (G 100 12)) G19)
  else (Tw_inputItem_b77 P W x2 x3 (w32 (G 100 12)) G)
noncomputable def Tw_inputItem_b38 (P W : Int) (x2 : Int) (x3 : Int) (G : St) : Option (Int × St) :=
  if (G 100 7) = 0 then (ckL (P - 1) <| bd (Tw_number 0 (P - 1) G) fun _ G21 =>
  Tw_inputItem_b57 P W x2 x3 G21)
  else (Tw_inputItem_b57 P W x2 x3 G)
noncomputable def Tw_inputItem (P W : Int) (x1 : Int) (G : St) : Option (Int × St) :=
  ckI ((G 100 6) + 5) <| tk (up G 100 6 ((G 100 6) + 5)) fun G1 =>
  bd (Tw_gap G1) fun _ G3 =>
  bd (Tw_name G3) fun z4 G5 =>
  if (G5 100 7) = 0 then (bd (Tw_keyword 71 G5) fun _ G23 =>
  Tw_inputItem_b38 P W (G3 100 6) z4 G23)
  else (Tw_inputItem_b38 P W (G3 100 6) z4 G5)
noncomputable def Tw_outputItem (P W : Int) (x1 : Int) (G : St) : Option (Int × St) :=
  ckI ((G 100 6) + 6) <| tk (up G 100 6 ((G 100 6) + 6)) fun G1 =>
  bd (Tw_put 20 0 0 x1 G1) fun z2 G3 =>
  bd (Tw_expression P W G3) fun _ G5 =>
  if (G5 100 7) = 0 then (bd (Tw_put 30 0 0 x1 G5) fun z6 G7 =>
  bd (Tw_sign 59 G7) fun _ G9 =>
  bd (Tw_put 21 0 0 x1 G9) fun z10 G11 =>
  some (0, G11))
  else (some (0, G5))
noncomputable def Tw_varStatement_b195 (P W : Int) (x1 : Int) (x2 : Int) (x5 : Int) (x6 : Int) (x7 : Int) (s0 : Int) (s1 : Int) (G : St) : Option (Int × St) :=
  ckL (256 * x7) <| ckL (s0 + (256 * x7)) <| ckB s1 12000 <| tk (up G 119 s1 (s0 + (256 * x7))) fun G16 =>
  ckB x2 12000 <| tk (up G16 117 x2 x6) fun G17 =>
  ckB x2 12000 <| tk (up G17 134 x2 (G17 100 30)) fun G18 =>
  ckI ((G18 100 30) + x5) <| tk (up G18 100 30 ((G18 100 30) + x5)) fun G19 =>
  bd (Tw_sign 59 G19) fun _ G21 =>
  bd (Tw_put 21 0 0 x1 G21) fun z22 G23 =>
  some (0, G23)
noncomputable def Tw_varStatement_b158 (P W : Int) (x1 : Int) (x3 : Int) (x4 : Int) (x5 : Int) (x6 : Int) (x7 : Int) (x8 : Int) (G : St) : Option (Int × St) :=
  if 0 < (G 100 7) then (some (0, G))
  else (bd (Tw_put 25 x4 x6 x3 G) fun z14 G15 =>
  Tw_varStatement_b195 P W x1 z14 x5 x6 x7 (if x8 = 0 then 0 else 65536) z14 G15)
noncomputable def Tw_varStatement_b82 (P W : Int) (x1 : Int) (x3 : Int) (x4 : Int) (s0 : Int) (G : St) : Option (Int × St) :=
  ckI ((G 100 30) + s0) <| if 256 < ((G 100 30) + s0) then (bd (Tw_fail 2 x3 G) fun _ G28 =>
  some (0, G28))
  else (bd (Tw_put 24 x4 0 x3 G) fun z8 G9 =>
  bd (Tw_gap G9) fun _ G11 =>
  bd (Tw_isSign 61 G11) fun z12 G13 =>
  if z12 = 0 then (Tw_varStatement_b158 P W x1 x3 x4 s0 (G 100 32) (G 100 31) z12 G13)
  else (ckI ((G13 100 6) + 1) <| tk (up G13 100 6 ((G13 100 6) + 1)) fun G24 =>
  bd (Tw_expression P W G24) fun _ G26 =>
  Tw_varStatement_b158 P W x1 x3 x4 s0 (G 100 32) (G 100 31) z12 G26))
noncomputable def Tw_varStatement_b59 (P W : Int) (x1 : Int) (x3 : Int) (x4 : Int) (G : St) : Option (Int × St) :=
  if 0 < (G 100 7) then (some (0, G))
  else (Tw_varStatement_b82 P W x1 x3 x4 (if (G 100 31) = 0 then 1 else (G 100 31)) G)
noncomputable def Tw_varStatement_b48 (P W : Int) (x1 : Int) (x3 : Int) (x4 : Int) (G : St) : Option (Int × St) :=
  if (G 100 7) = 0 then (bd (Tw_type G) fun _ G30 =>
  Tw_varStatement_b59 P W x1 x3 x4 G30)
  else (Tw_varStatement_b59 P W x1 x3 x4 G)
noncomputable def Tw_varStatement (P W : Int) (x1 : Int) (G : St) : Option (Int × St) :=
  bd (Tw_put 20 0 0 x1 G) fun z1 G2 =>
  ckI ((G2 100 6) + 3) <| tk (up G2 100 6 ((G2 100 6) + 3)) fun G3 =>
  bd (Tw_gap G3) fun _ G5 =>
  bd (Tw_name G5) fun z6 G7 =>
  if (G7 100 7) = 0 then (bd (Tw_sign 58 G7) fun _ G32 =>
  Tw_varStatement_b48 P W x1 (G5 100 6) z6 G32)
  else (Tw_varStatement_b48 P W x1 (G5 100 6) z6 G7)
noncomputable def Tw_program_b246 (P W : Int) (x1 : Int) (x2 : Int) (G : St) : Option ((Int × St) ⊕ (Int × St)) :=
  bd (Tw_assignment P W x2 G) fun _ G20 =>
  some (Sum.inl (x1, G20))
noncomputable def Tw_program_b221 (P W : Int) (x1 : Int) (x2 : Int) (G : St) : Option ((Int × St) ⊕ (Int × St)) :=
  if (G 100 26) = 0 then (bd (Tw_isWord 78 G) fun z21 G22 =>
  if z21 = 0 then (Tw_program_b246 P W x1 x2 G22)
  else (bd (Tw_outputItem P W x2 G22) fun _ G24 =>
  some (Sum.inl (x1, G24))))
  else (Tw_program_b246 P W x1 x2 G)
noncomputable def Tw_program_b196 (P W : Int) (x1 : Int) (x2 : Int) (G : St) : Option ((Int × St) ⊕ (Int × St)) :=
  if (G 100 26) = 0 then (bd (Tw_isWord 73 G) fun z25 G26 =>
  if z25 = 0 then (Tw_program_b221 P W x1 x2 G26)
  else (bd (Tw_defItem P W x2 G26) fun _ G28 =>
  some (Sum.inl (x1, G28))))
  else (Tw_program_b221 P W x1 x2 G)
noncomputable def Tw_program_b117 (P W : Int) (x1 : Int) (x2 : Int) (G : St) : Option ((Int × St) ⊕ (Int × St)) :=
  bd (Tw_isWord 72 G) fun z13 G14 =>
  if z13 = 0 then (bd (Tw_isWord 76 G14) fun z15 G16 =>
  if z15 = 0 then (bd (Tw_isWord 74 G16) fun z17 G18 =>
  if z17 = 0 then (if (G18 100 26) = 0 then (bd (Tw_isWord 70 G18) fun z29 G30 =>
  if z29 = 0 then (Tw_program_b196 P W x1 x2 G30)
  else (bd (Tw_inputItem P W x2 G30) fun _ G32 =>
  some (Sum.inl (x1, G32))))
  else (Tw_program_b196 P W x1 x2 G18))
  else (bd (Tw_forStatement P W x2 G18) fun _ G34 =>
  some (Sum.inl (x1, G34))))
  else (bd (Tw_ifStatement P W x2 G16) fun _ G36 =>
  some (Sum.inl (x1, G36))))
  else (bd (Tw_varStatement P W x2 G14) fun _ G38 =>
  some (Sum.inl (x1, G38)))
noncomputable def Tw_program_b89 (P W : Int) (G : St) : Option ((Int × St) ⊕ (Int × St)) :=
  some (Sum.inl (0, G))
noncomputable def Tw_program_s42 (P W : Int) (x1 : Int) (G : St) : Option ((Int × St) ⊕ (Int × St)) :=
  if x1 = 0 then (ex (some (0, G)))
  else (if (G 100 7) = 0 then (bd (Tw_gap G) fun _ G10 =>
  if (G10 100 6) = (G10 100 5) then (if 0 < (G10 100 26) then (bd (Tw_fail 1 (G10 100 6) G10) fun _ G42 =>
  Tw_program_b89 P W G42)
  else (Tw_program_b89 P W G10))
  else (bd (Tw_isSign 125 G10) fun z11 G12 =>
  if z11 = 0 then (Tw_program_b117 P W x1 (G10 100 6) G12)
  else (if 0 < (G12 100 26) then (bd (Tw_closeBlock P W G12) fun _ G40 =>
  some (Sum.inl (x1, G40)))
  else (Tw_program_b117 P W x1 (G10 100 6) G12))))
  else (ex (some (0, G))))
noncomputable def Tw_program_l42 (P W : Int) (x1 : Int) (G : St) : Option (Int × St) :=
  wh (fun s => Tw_program_s42 P W s.1 s.2) (x1, G)
theorem Tw_program_l42_eq (P W : Int) (x1 : Int) (G : St) : Tw_program_l42 P W x1 G = (Tw_program_s42 P W x1 G).bind (lk (fun s => Tw_program_l42 P W s.1 s.2) some) := by
  exact wh_eq _ _
noncomputable def Tw_program (P W : Int) (G : St) : Option (Int × St) :=
  tk (up G 100 6 0) fun G1 =>
  tk (up G1 100 13 0) fun G2 =>
  tk (up G2 100 9 0) fun G3 =>
  tk (up G3 100 26 0) fun G4 =>
  tk (up G4 100 20 0) fun G5 =>
  tk (up G5 100 19 0) fun G6 =>
  tk (up G6 100 29 0) fun G7 =>
  tk (up G7 100 30 0) fun G8 =>
  Tw_program_l42 P W 1 G8
noncomputable def Tw_mustPublic (G : St) : Option (Int × St) :=
  if (G 100 7) = 0 then (ckI ((G 100 43) - 1) <| ckB ((G 100 43) - 1) 4200 <| if (G 147 ((G 100 43) - 1)) = 0 then (ckI ((G 100 43) - 1) <| ckB ((G 100 43) - 1) 4200 <| bd (Tw_fail 6 (G 146 ((G 100 43) - 1)) G) fun _ G2 =>
  some (0, G2))
  else (some (0, G)))
  else (some (0, G))
noncomputable def Tw_binarySort_b283 (s0 : Int) (s1 : Int) (G : St) : Option (Int × St) :=
  ckB s1 4200 <| tk (up G 145 s1 s0) fun G7 =>
  some (0, G7)
noncomputable def Tw_binarySort_b250 (x2 : Int) (x3 : Int) (x6 : Int) (s0 : Int) (s1 : Int) (G : St) : Option (Int × St) :=
  ckB s1 4200 <| ckB s0 2 <| tk (up G 147 s1 s0) fun G6 =>
  ckI ((G6 100 43) - 1) <| Tw_binarySort_b283 (if x2 < 6 then (if x6 = 0 then x3 else 1) else (if 11 < x2 then (if x6 = 0 then x3 else 1) else 1)) ((G6 100 43) - 1) G6
noncomputable def Tw_binarySort_b192 (x1 : Int) (x2 : Int) (x3 : Int) (x6 : Int) (G : St) : Option (Int × St) :=
  ckB x1 12000 <| tk (up G 117 x1 x3) fun G4 =>
  ckI ((G4 100 43) - 1) <| tk (up G4 100 43 ((G4 100 43) - 1)) fun G5 =>
  ckI ((G5 100 43) - 1) <| ckI ((G5 100 43) - 1) <| ckB ((G5 100 43) - 1) 4200 <| if (G5 147 ((G5 100 43) - 1)) = 0 then (Tw_binarySort_b250 x2 x3 x6 0 ((G5 100 43) - 1) G5)
  else (ckB (G5 100 43) 4200 <| Tw_binarySort_b250 x2 x3 x6 (if (G5 147 (G5 100 43)) = 0 then 0 else 1) ((G5 100 43) - 1) G5)
noncomputable def Tw_binarySort_b171 (x1 : Int) (x2 : Int) (x3 : Int) (x6 : Int) (G : St) : Option (Int × St) :=
  bd (Tw_mustPublic G) fun _ G2 =>
  ckI ((G2 100 43) - 1) <| ckB ((G2 100 43) - 1) 4200 <| ckB x1 12000 <| tk (up G2 155 x1 (G2 146 ((G2 100 43) - 1))) fun G3 =>
  Tw_binarySort_b192 x1 x2 x3 x6 G3
noncomputable def Tw_binarySort_b140 (x1 : Int) (x2 : Int) (x3 : Int) (x6 : Int) (s0 : Int) (G : St) : Option (Int × St) :=
  if s0 = 0 then (ckB x1 12000 <| bd (Tw_fail 5 (G 118 x1) G) fun _ G9 =>
  some (0, G9))
  else (if x2 = 12 then (Tw_binarySort_b171 x1 x2 x3 x6 G)
  else (if x2 = 13 then (Tw_binarySort_b171 x1 x2 x3 x6 G)
  else (Tw_binarySort_b192 x1 x2 x3 x6 G)))
noncomputable def Tw_binarySort_b81 (x1 : Int) (x2 : Int) (x3 : Int) (x4 : Int) (x5 : Int) (s0 : Int) (G : St) : Option (Int × St) :=
  Tw_binarySort_b140 x1 x2 x3 s0 (if x5 = 0 then (if s0 = 0 then (if x3 = 0 then (if x4 = 0 then 1 else 0) else 0) else (if x3 = 1 then (if x4 = 1 then 1 else 0) else 0)) else (if x3 = x4 then 1 else 0)) G
noncomputable def Tw_binarySort_b64 (x1 : Int) (x2 : Int) (x3 : Int) (x4 : Int) (s0 : Int) (G : St) : Option (Int × St) :=
  Tw_binarySort_b81 x1 x2 x3 x4 s0 (if x2 = 1 then 1 else (if x2 = 2 then 1 else 0)) G
noncomputable def Tw_binarySort (x1 : Int) (G : St) : Option (Int × St) :=
  ckB x1 12000 <| ckI ((G 100 43) - 2) <| ckB ((G 100 43) - 2) 4200 <| ckI ((G 100 43) - 1) <| ckB ((G 100 43) - 1) 4200 <| Tw_binarySort_b64 x1 (G 116 x1) (G 145 ((G 100 43) - 2)) (G 145 ((G 100 43) - 1)) (if (G 116 x1) = 3 then 1 else (if (G 116 x1) = 4 then 1 else (if (G 116 x1) = 5 then 1 else (if (G 116 x1) = 6 then 1 else (if (G 116 x1) = 7 then 1 else 0))))) G
noncomputable def Tw_must (x1 : Int) (G : St) : Option (Int × St) :=
  if (G 100 7) = 0 then (ckI ((G 100 43) - 1) <| ckB ((G 100 43) - 1) 4200 <| if (G 145 ((G 100 43) - 1)) = x1 then (some (0, G))
  else (ckI ((G 100 43) - 1) <| ckB ((G 100 43) - 1) 4200 <| bd (Tw_fail 5 (G 146 ((G 100 43) - 1)) G) fun _ G2 =>
  some (0, G2)))
  else (some (0, G))
noncomputable def Tw_bitSort (x1 : Int) (G : St) : Option (Int × St) :=
  bd (Tw_must 0 G) fun _ G2 =>
  bd (Tw_mustPublic G2) fun _ G4 =>
  if 0 < (G4 100 7) then (some (0, G4))
  else (ckI ((G4 100 43) - 1) <| ckB ((G4 100 43) - 1) 4200 <| ckB x1 12000 <| tk (up G4 155 x1 (G4 146 ((G4 100 43) - 1))) fun G5 =>
  ckI ((G5 100 43) - 1) <| tk (up G5 100 43 ((G5 100 43) - 1)) fun G6 =>
  ckI ((G6 100 43) - 1) <| ckB ((G6 100 43) - 1) 4200 <| tk (up G6 145 ((G6 100 43) - 1) 1) fun G7 =>
  ckI ((G7 100 43) - 1) <| ckB x1 12000 <| ckB ((G7 100 43) - 1) 4200 <| tk (up G7 146 ((G7 100 43) - 1) (G7 118 x1)) fun G8 =>
  some (0, G8))
noncomputable def Tw_pile (x1 : Int) (x2 : Int) (x3 : Int) (G : St) : Option (Int × St) :=
  ckB (G 100 43) 4200 <| tk (up G 145 (G 100 43) x1) fun G1 =>
  ckB (G1 100 43) 4200 <| tk (up G1 146 (G1 100 43) x2) fun G2 =>
  ckB (G2 100 43) 4200 <| ckB x3 2 <| tk (up G2 147 (G2 100 43) x3) fun G3 =>
  ckI ((G3 100 43) + 1) <| tk (up G3 100 43 ((G3 100 43) + 1)) fun G4 =>
  some (0, G4)
noncomputable def Tw_refer (x1 : Int) (x2 : Int) (G : St) : Option (Int × St) :=
  ckB x2 2500 <| ckB x1 12000 <| tk (up G 151 x1 (G 137 x2)) fun G1 =>
  ckB x2 2500 <| ckB x1 12000 <| tk (up G1 152 x1 (G1 140 x2)) fun G2 =>
  ckB x2 2500 <| ckB x1 12000 <| tk (up G2 153 x1 (G2 139 x2)) fun G3 =>
  ckB x2 2500 <| ckB x1 12000 <| tk (up G3 154 x1 (G3 138 x2)) fun G4 =>
  some (0, G4)
noncomputable def Tw_selectSort_b40 (x1 : Int) (G : St) : Option (Int × St) :=
  ckB x1 12000 <| bd (Tw_fail 5 (G 118 x1) G) fun _ G2 =>
  some (0, G2)
noncomputable def Tw_selectSort_b99 (x1 : Int) (s0 : Int) (G : St) : Option (Int × St) :=
  ckI ((G 100 43) - 2) <| tk (up G 100 43 ((G 100 43) - 2)) fun G3 =>
  ckI ((G3 100 43) - 1) <| ckB (G3 100 43) 4200 <| ckB ((G3 100 43) - 1) 4200 <| tk (up G3 145 ((G3 100 43) - 1) (G3 145 (G3 100 43))) fun G4 =>
  ckI ((G4 100 43) - 1) <| ckB ((G4 100 43) - 1) 4200 <| ckB s0 2 <| tk (up G4 147 ((G4 100 43) - 1) s0) fun G5 =>
  ckB (G5 100 43) 4200 <| ckB x1 12000 <| tk (up G5 117 x1 (G5 145 (G5 100 43))) fun G6 =>
  some (0, G6)
noncomputable def Tw_selectSort (x1 : Int) (G : St) : Option (Int × St) :=
  ckI ((G 100 43) - 3) <| ckB ((G 100 43) - 3) 4200 <| if (G 145 ((G 100 43) - 3)) = 1 then (ckI ((G 100 43) - 2) <| ckB ((G 100 43) - 2) 4200 <| ckI ((G 100 43) - 1) <| ckB ((G 100 43) - 1) 4200 <| if (G 145 ((G 100 43) - 2)) = (G 145 ((G 100 43) - 1)) then (ckI ((G 100 43) - 3) <| ckB ((G 100 43) - 3) 4200 <| if (G 147 ((G 100 43) - 3)) = 0 then (Tw_selectSort_b99 x1 0 G)
  else (ckI ((G 100 43) - 2) <| ckB ((G 100 43) - 2) 4200 <| if (G 147 ((G 100 43) - 2)) = 0 then (Tw_selectSort_b99 x1 0 G)
  else (ckI ((G 100 43) - 1) <| ckB ((G 100 43) - 1) 4200 <| Tw_selectSort_b99 x1 (if (G 147 ((G 100 43) - 1)) = 0 then 0 else 1) G)))
  else (Tw_selectSort_b40 x1 G))
  else (Tw_selectSort_b40 x1 G)
noncomputable def Tw_unarySort_b43 (x1 : Int) (G : St) : Option (Int × St) :=
  ckI ((G 100 43) - 1) <| ckB x1 12000 <| ckB ((G 100 43) - 1) 4200 <| tk (up G 146 ((G 100 43) - 1) (G 118 x1)) fun G1 =>
  some (0, G1)
noncomputable def Tw_unarySort_b16 (x1 : Int) (s0 : Int) (G : St) : Option (Int × St) :=
  ckI ((G 100 43) - 1) <| ckB ((G 100 43) - 1) 4200 <| if (G 145 ((G 100 43) - 1)) = s0 then (Tw_unarySort_b43 x1 G)
  else (ckB x1 12000 <| bd (Tw_fail 5 (G 118 x1) G) fun _ G3 =>
  Tw_unarySort_b43 x1 G3)
noncomputable def Tw_unarySort (x1 : Int) (G : St) : Option (Int × St) :=
  ckB x1 12000 <| Tw_unarySort_b16 x1 (if (G 116 x1) = 33 then 1 else 0) G
noncomputable def Tw_visible_b75 (x1 : Int) (x3 : Int) (s0 : Int) (G : St) : Option ((Int × Int × St) ⊕ (Int × St)) :=
  ckI (x3 + 1) <| some (Sum.inl (s0, x3 + 1, G))
noncomputable def Tw_visible_b63 (x1 : Int) (x2 : Int) (x3 : Int) (s0 : Int) (G : St) : Option ((Int × Int × St) ⊕ (Int × St)) :=
  Tw_visible_b75 x1 x3 (if s0 = 0 then x2 else x3) G
noncomputable def Tw_visible_s4 (x1 : Int) (x2 : Int) (x3 : Int) (G : St) : Option ((Int × Int × St) ⊕ (Int × St)) :=
  if x3 < (G 100 34) then (ckB x3 2500 <| if (G 141 x3) = 0 then (Tw_visible_b63 x1 x2 x3 0 G)
  else (ckB x3 2500 <| if (G 136 x3) = x1 then (if (G 100 47) = 0 then (Tw_visible_b63 x1 x2 x3 1 G)
  else (ckB x3 2500 <| if (G 137 x3) = 5 then (Tw_visible_b63 x1 x2 x3 1 G)
  else (ckB x3 2500 <| Tw_visible_b63 x1 x2 x3 (if (G 137 x3) = 4 then 1 else 0) G)))
  else (Tw_visible_b63 x1 x2 x3 0 G)))
  else (ex (some (x2, G)))
noncomputable def Tw_visible_l4 (x1 : Int) (x2 : Int) (x3 : Int) (G : St) : Option (Int × St) :=
  wh (fun s => Tw_visible_s4 x1 s.1 s.2.1 s.2.2) (x2, x3, G)
theorem Tw_visible_l4_eq (x1 : Int) (x2 : Int) (x3 : Int) (G : St) : Tw_visible_l4 x1 x2 x3 G = (Tw_visible_s4 x1 x2 x3 G).bind (lk (fun s => Tw_visible_l4 x1 s.1 s.2.1 s.2.2) some) := by
  exact wh_eq _ _
noncomputable def Tw_visible (x1 : Int) (G : St) : Option (Int × St) :=
  Tw_visible_l4 x1 (-1) 0 G
noncomputable def Tw_used_b27 (x2 : Int) (G : St) : Option (Int × St) :=
  some (x2, G)
noncomputable def Tw_used (x1 : Int) (G : St) : Option (Int × St) :=
  ckB x1 12000 <| bd (Tw_visible (G 116 x1) G) fun z1 G2 =>
  if z1 = (-1) then (ckB x1 12000 <| bd (Tw_fail 4 (G2 118 x1) G2) fun _ G4 =>
  Tw_used_b27 z1 G4)
  else (Tw_used_b27 z1 G2)
noncomputable def Tw_operandSort_b88 (x2 : Int) (G : St) : Option (Int × St) :=
  bd (Tw_pile 0 x2 1 G) fun _ G2 =>
  some (0, G2)
noncomputable def Tw_operandSort_b98 (x2 : Int) (G : St) : Option (Int × St) :=
  bd (Tw_pile 1 x2 1 G) fun _ G4 =>
  some (0, G4)
noncomputable def Tw_operandSort_b182 (s0 : Int) (s1 : Int) (s2 : Int) (G : St) : Option (Int × St) :=
  bd (Tw_pile s2 s1 s0 G) fun _ G10 =>
  some (0, G10)
noncomputable def Tw_operandSort_b146 (x1 : Int) (x2 : Int) (x3 : Int) (G : St) : Option (Int × St) :=
  if (G 100 7) = 0 then (bd (Tw_refer x1 x3 G) fun _ G8 =>
  ckB x3 2500 <| ckB x3 2500 <| Tw_operandSort_b182 (if (G8 137 x3) = 3 then 1 else 0) x2 (G8 138 x3) G8)
  else (some (0, G))
noncomputable def Tw_operandSort_b140 (x1 : Int) (x2 : Int) (x3 : Int) (G : St) : Option (Int × St) :=
  bd (Tw_fail 5 x2 G) fun _ G12 =>
  Tw_operandSort_b146 x1 x2 x3 G12
noncomputable def Tw_operandSort_b108 (x1 : Int) (x2 : Int) (G : St) : Option (Int × St) :=
  bd (Tw_used x1 G) fun z5 G6 =>
  if (G6 100 7) = 0 then (ckB z5 2500 <| if 0 < (G6 139 z5) then (Tw_operandSort_b140 x1 x2 z5 G6)
  else (ckB z5 2500 <| if (G6 137 z5) = 5 then (Tw_operandSort_b140 x1 x2 z5 G6)
  else (Tw_operandSort_b146 x1 x2 z5 G6)))
  else (Tw_operandSort_b146 x1 x2 z5 G6)
noncomputable def Tw_operandSort_b188 (x1 : Int) (x2 : Int) (G : St) : Option (Int × St) :=
  bd (Tw_used x1 G) fun z13 G14 =>
  if (G14 100 7) = 0 then (ckB z13 2500 <| if (G14 139 z13) = 0 then (bd (Tw_fail 5 x2 G14) fun _ G16 =>
  some (0, G16))
  else (some (0, G14)))
  else (some (0, G14))
noncomputable def Tw_operandSort_b219 (x1 : Int) (x2 : Int) (G : St) : Option (Int × St) :=
  bd (Tw_must 0 G) fun _ G18 =>
  ckB x1 12000 <| bd (Tw_visible (G18 116 x1) G18) fun z19 G20 =>
  if (G20 100 7) = 0 then (bd (Tw_refer x1 z19 G20) fun _ G22 =>
  ckI ((G22 100 43) - 1) <| ckB ((G22 100 43) - 1) 4200 <| ckB x1 12000 <| tk (up G22 155 x1 (G22 146 ((G22 100 43) - 1))) fun G23 =>
  ckI ((G23 100 43) - 1) <| ckB ((G23 100 43) - 1) 4200 <| ckB x1 12000 <| ckB (G23 147 ((G23 100 43) - 1)) 2 <| tk (up G23 156 x1 (G23 147 ((G23 100 43) - 1))) fun G24 =>
  ckI ((G24 100 43) - 1) <| tk (up G24 100 43 ((G24 100 43) - 1)) fun G25 =>
  ckB z19 2500 <| bd (Tw_pile (G25 138 z19) x2 0 G25) fun _ G27 =>
  some (0, G27))
  else (some (0, G20))
noncomputable def Tw_operandSort_b351 (x3 : Int) (G : St) : Option (Int × St) :=
  if (G 100 7) = 0 then (ckB (G 100 56) 400 <| tk (up G 158 (G 100 56) x3) fun G30 =>
  ckB (G30 100 56) 400 <| tk (up G30 159 (G30 100 56) (G30 100 43)) fun G31 =>
  ckI ((G31 100 56) + 1) <| tk (up G31 100 56 ((G31 100 56) + 1)) fun G32 =>
  some (0, G32))
  else (some (0, G))
noncomputable def Tw_operandSort_b345 (x2 : Int) (x3 : Int) (G : St) : Option (Int × St) :=
  bd (Tw_fail 5 x2 G) fun _ G34 =>
  Tw_operandSort_b351 x3 G34
noncomputable def Tw_operandSort_b307 (x1 : Int) (x2 : Int) (G : St) : Option (Int × St) :=
  bd (Tw_used x1 G) fun z28 G29 =>
  if (G29 100 7) = 0 then (ckB z28 2500 <| if (G29 137 z28) = 5 then (ckB z28 2500 <| ckB x1 12000 <| if (G29 143 z28) = (G29 117 x1) then (Tw_operandSort_b351 z28 G29)
  else (Tw_operandSort_b345 x2 z28 G29))
  else (Tw_operandSort_b345 x2 z28 G29))
  else (Tw_operandSort_b351 z28 G29)
noncomputable def Tw_operandSort_b467 (x1 : Int) (x2 : Int) (G : St) : Option (Int × St) :=
  ckI ((G 100 56) - 1) <| tk (up G 100 56 ((G 100 56) - 1)) fun G35 =>
  ckB (G35 100 56) 400 <| bd (Tw_refer x1 (G35 158 (G35 100 56)) G35) fun _ G37 =>
  ckB (G37 100 56) 400 <| tk (up G37 100 43 (G37 159 (G37 100 56))) fun G38 =>
  ckB (G35 158 (G35 100 56)) 2500 <| bd (Tw_pile (G38 138 (G35 158 (G35 100 56))) x2 0 G38) fun _ G40 =>
  some (0, G40)
noncomputable def Tw_operandSort_b521 (x2 : Int) (G : St) : Option (Int × St) :=
  bd (Tw_must 1 G) fun _ G42 =>
  ckI ((G42 100 43) - 1) <| ckB ((G42 100 43) - 1) 4200 <| tk (up G42 146 ((G42 100 43) - 1) x2) fun G43 =>
  ckI ((G43 100 43) - 1) <| ckB ((G43 100 43) - 1) 4200 <| tk (up G43 145 ((G43 100 43) - 1) 0) fun G44 =>
  some (0, G44)
noncomputable def Tw_operandSort_b553 (x1 : Int) (G : St) : Option (Int × St) :=
  bd (Tw_bitSort x1 G) fun _ G46 =>
  some (0, G46)
noncomputable def Tw_operandSort_b561 (x1 : Int) (G : St) : Option (Int × St) :=
  bd (Tw_unarySort x1 G) fun _ G48 =>
  some (0, G48)
noncomputable def Tw_operandSort_b569 (x1 : Int) (G : St) : Option (Int × St) :=
  bd (Tw_binarySort x1 G) fun _ G50 =>
  some (0, G50)
noncomputable def Tw_operandSort_b577 (x1 : Int) (G : St) : Option (Int × St) :=
  bd (Tw_selectSort x1 G) fun _ G52 =>
  some (0, G52)
noncomputable def Tw_operandSort_b585 (x2 : Int) (G : St) : Option (Int × St) :=
  ckI ((G 100 43) - 1) <| ckB ((G 100 43) - 1) 4200 <| tk (up G 146 ((G 100 43) - 1) x2) fun G53 =>
  some (0, G53)
noncomputable def Tw_operandSort_b461 (s0 : Int) (G : St) : Option (Int × St) :=
  bd (Tw_must s0 G) fun _ G55 =>
  some (0, G55)
noncomputable def Tw_operandSort_b411 (x1 : Int) (s0 : Int) (G : St) : Option (Int × St) :=
  ckI ((G 100 43) - 1) <| ckB s0 400 <| ckI (((G 100 43) - 1) - (G 159 s0)) <| ckB x1 12000 <| if (G 116 x1) = (-1) then (Tw_operandSort_b461 0 G)
  else (ckB s0 400 <| ckB (G 158 s0) 2500 <| ckI ((G 142 (G 158 s0)) + (((G 100 43) - 1) - (G 159 s0))) <| ckB ((G 142 (G 158 s0)) + (((G 100 43) - 1) - (G 159 s0))) 1000 <| Tw_operandSort_b461 (G 165 ((G 142 (G 158 s0)) + (((G 100 43) - 1) - (G 159 s0)))) G)
noncomputable def Tw_operandSort_b394 (x1 : Int) (G : St) : Option (Int × St) :=
  if 0 < (G 100 56) then (ckI ((G 100 56) - 1) <| Tw_operandSort_b411 x1 ((G 100 56) - 1) G)
  else (Tw_operandSort_b411 x1 0 G)
noncomputable def Tw_operandSort (x1 : Int) (G : St) : Option (Int × St) :=
  ckB x1 12000 <| ckB x1 12000 <| swt (G 115 x1) 2 [Tw_operandSort_b88 (G 118 x1) G, Tw_operandSort_b98 (G 118 x1) G, Tw_operandSort_b98 (G 118 x1) G, Tw_operandSort_b108 x1 (G 118 x1) G, Tw_operandSort_b188 x1 (G 118 x1) G, Tw_operandSort_b219 x1 (G 118 x1) G, Tw_operandSort_b307 x1 (G 118 x1) G, Tw_operandSort_b467 x1 (G 118 x1) G, Tw_operandSort_b521 (G 118 x1) G, Tw_operandSort_b553 x1 G, Tw_operandSort_b561 x1 G, Tw_operandSort_b569 x1 G, Tw_operandSort_b577 x1 G, Tw_operandSort_b585 (G 118 x1) G, Tw_operandSort_b394 x1 G] (some (0, G))
noncomputable def Tw_assigned_b59 (x1 : Int) (G : St) : Option (Int × St) :=
  ckB x1 12000 <| bd (Tw_fail 5 (G 118 x1) G) fun _ G4 =>
  some (0, G4)
noncomputable def Tw_assigned_b56 (x1 : Int) (s0 : Int) (s1 : Int) (G : St) : Option (Int × St) :=
  if s1 = s0 then (some (0, G))
  else (Tw_assigned_b59 x1 G)
noncomputable def Tw_assigned_b28 (x1 : Int) (x2 : Int) (s0 : Int) (G : St) : Option (Int × St) :=
  ckB x2 2500 <| if (G 137 x2) = 2 then (ckB x1 12000 <| Tw_assigned_b56 x1 (if (G 115 x1) = 33 then 1 else 0) s0 G)
  else (Tw_assigned_b59 x1 G)
noncomputable def Tw_assigned (x1 : Int) (G : St) : Option (Int × St) :=
  bd (Tw_used x1 G) fun z1 G2 =>
  if 0 < (G2 100 7) then (some (0, G2))
  else (ckB z1 2500 <| Tw_assigned_b28 x1 z1 (if 0 < (G2 139 z1) then 1 else 0) G2)
noncomputable def Tw_comes (x1 : Int) (G : St) : Option (Int × St) :=
  ckB x1 12000 <| bd (Tw_visible (G 116 x1) G) fun z1 G2 =>
  if z1 = (-1) then (some (0, G2))
  else (ckB x1 12000 <| bd (Tw_fail 4 (G2 118 x1) G2) fun _ G4 =>
  some (0, G4))
noncomputable def Tw_elementSort (x1 : Int) (G : St) : Option (Int × St) :=
  ckB x1 12000 <| bd (Tw_visible (G 116 x1) G) fun z1 G2 =>
  ckB z1 2500 <| bd (Tw_must (G2 138 z1) G2) fun _ G4 =>
  ckI ((G4 100 43) - 2) <| tk (up G4 100 43 ((G4 100 43) - 2)) fun G5 =>
  bd (Tw_refer x1 z1 G5) fun _ G7 =>
  ckB (G7 100 43) 4200 <| ckB x1 12000 <| ckB (G7 147 (G7 100 43)) 2 <| tk (up G7 156 x1 (G7 147 (G7 100 43))) fun G8 =>
  some (0, G8)
noncomputable def Tw_symbol (x1 : Int) (x2 : Int) (x3 : Int) (x4 : Int) (x5 : Int) (G : St) : Option (Int × St) :=
  ckB (G 100 34) 2500 <| tk (up G 136 (G 100 34) x1) fun G1 =>
  ckB (G1 100 34) 2500 <| tk (up G1 137 (G1 100 34) x2) fun G2 =>
  ckB (G2 100 34) 2500 <| tk (up G2 138 (G2 100 34) x3) fun G3 =>
  ckB (G3 100 34) 2500 <| tk (up G3 139 (G3 100 34) x4) fun G4 =>
  ckB (G4 100 34) 2500 <| tk (up G4 140 (G4 100 34) x5) fun G5 =>
  ckB (G5 100 34) 2500 <| ckB 1 2 <| tk (up G5 141 (G5 100 34) 1) fun G6 =>
  ckI ((G6 100 34) + 1) <| tk (up G6 100 34 ((G6 100 34) + 1)) fun G7 =>
  ckI ((G7 100 34) - 1) <| some ((G7 100 34) - 1, G7)
noncomputable def Tw_paramSort_b121 (x1 : Int) (G : St) : Option (Int × St) :=
  ckB x1 12000 <| bd (Tw_fail 4 (G 118 x1) G) fun _ G2 =>
  some (0, G2)
noncomputable def Tw_paramSort_b106 (x1 : Int) (x2 : Int) (x4 : Int) (s0 : Int) (G : St) : Option ((Int × Int × St) ⊕ (Int × St)) :=
  ckI (x4 + 1) <| some (Sum.inl (s0, x4 + 1, G))
noncomputable def Tw_paramSort_s51 (x1 : Int) (x2 : Int) (x3 : Int) (x4 : Int) (G : St) : Option ((Int × Int × St) ⊕ (Int × St)) :=
  if x4 < (G 100 62) then (if x3 = 0 then (ckB x4 2500 <| if (G 141 x4) = 0 then (Tw_paramSort_b106 x1 x2 x4 0 G)
  else (ckB x4 2500 <| if (G 137 x4) = 5 then (ckB x4 2500 <| ckB x1 12000 <| Tw_paramSort_b106 x1 x2 x4 (if (G 136 x4) = (G 116 x1) then 1 else 0) G)
  else (Tw_paramSort_b106 x1 x2 x4 0 G)))
  else (Tw_paramSort_b106 x1 x2 x4 1 G))
  else (ex (if x2 = 0 then (if x3 = 0 then (ckB x1 12000 <| ckB (G 100 60) 1000 <| tk (up G 165 (G 100 60) (G 117 x1)) fun G3 =>
  ckI ((G3 100 60) + 1) <| tk (up G3 100 60 ((G3 100 60) + 1)) fun G4 =>
  ckB x1 12000 <| ckB x1 12000 <| ckI ((G4 100 60) - 1) <| ckI (((G4 100 60) - 1) - (G4 100 61)) <| bd (Tw_symbol (G4 116 x1) 4 (G4 117 x1) 0 (((G4 100 60) - 1) - (G4 100 61)) G4) fun z5 G6 =>
  ckB z5 2500 <| ckB 0 2 <| tk (up G6 141 z5 0) fun G7 =>
  some (0, G7))
  else (Tw_paramSort_b121 x1 G))
  else (Tw_paramSort_b121 x1 G)))
noncomputable def Tw_paramSort_l51 (x1 : Int) (x2 : Int) (x3 : Int) (x4 : Int) (G : St) : Option (Int × St) :=
  wh (fun s => Tw_paramSort_s51 x1 x2 s.1 s.2.1 s.2.2) (x3, x4, G)
theorem Tw_paramSort_l51_eq (x1 : Int) (x2 : Int) (x3 : Int) (x4 : Int) (G : St) : Tw_paramSort_l51 x1 x2 x3 x4 G = (Tw_paramSort_s51 x1 x2 x3 x4 G).bind (lk (fun s => Tw_paramSort_l51 x1 x2 s.1 s.2.1 s.2.2) some) := by
  exact wh_eq _ _
noncomputable def Tw_paramSort_b39 (x1 : Int) (x3 : Int) (s0 : Int) (G : St) : Option ((Int × Int × St) ⊕ (Int × St)) :=
  ckI (x3 + 1) <| some (Sum.inl (s0, x3 + 1, G))
noncomputable def Tw_paramSort_s7 (x1 : Int) (x2 : Int) (x3 : Int) (G : St) : Option ((Int × Int × St) ⊕ (Int × St)) :=
  if x3 < (G 100 34) then (if x2 = 0 then (ckB x3 2500 <| ckB x1 12000 <| Tw_paramSort_b39 x1 x3 (if (G 136 x3) = (G 116 x1) then 1 else 0) G)
  else (Tw_paramSort_b39 x1 x3 1 G))
  else (ex (Tw_paramSort_l51 x1 x2 0 0 G))
noncomputable def Tw_paramSort_l7 (x1 : Int) (x2 : Int) (x3 : Int) (G : St) : Option (Int × St) :=
  wh (fun s => Tw_paramSort_s7 x1 s.1 s.2.1 s.2.2) (x2, x3, G)
theorem Tw_paramSort_l7_eq (x1 : Int) (x2 : Int) (x3 : Int) (G : St) : Tw_paramSort_l7 x1 x2 x3 G = (Tw_paramSort_s7 x1 x2 x3 G).bind (lk (fun s => Tw_paramSort_l7 x1 s.1 s.2.1 s.2.2) some) := by
  exact wh_eq _ _
noncomputable def Tw_paramSort (x1 : Int) (G : St) : Option (Int × St) :=
  Tw_paramSort_l7 x1 0 (G 100 62) G
noncomputable def Tw_statementSort_b104 (x1 : Int) (G : St) : Option (Int × St) :=
  bd (Tw_comes x1 G) fun _ G2 =>
  ckB x1 12000 <| if (G2 115 x1) = 26 then (tk (up G2 100 61 (G2 100 60)) fun G3 =>
  tk (up G3 100 62 (G3 100 34)) fun G4 =>
  tk (up G4 100 63 x1) fun G5 =>
  some (0, G5))
  else (some (0, G2))
noncomputable def Tw_statementSort_b211 (s0 : Int) (s1 : Int) (G : St) : Option (Int × St) :=
  ckI (s1 + s0) <| tk (up G 100 59 (s1 + s0)) fun G9 =>
  some (0, G9)
noncomputable def Tw_statementSort_b152 (x1 : Int) (G : St) : Option (Int × St) :=
  ckB x1 12000 <| ckB x1 12000 <| ckB x1 12000 <| bd (Tw_symbol (G 116 x1) 1 (G 117 x1) (w32 (j_lan (G 119 x1) 255)) (G 100 59) G) fun z6 G7 =>
  ckB x1 12000 <| tk (up G7 134 x1 (G7 100 59)) fun G8 =>
  Tw_statementSort_b211 (if (w32 (j_lan (G 119 x1) 255)) = 0 then 1 else (w32 (j_lan (G 119 x1) 255))) (G8 100 59) G8
noncomputable def Tw_statementSort_b251 (x1 : Int) (G : St) : Option (Int × St) :=
  if (G 100 7) = 0 then (ckB x1 12000 <| ckB x1 12000 <| ckB x1 12000 <| ckB x1 12000 <| bd (Tw_symbol (G 116 x1) 2 (G 117 x1) (w32 (j_lan (j_lsr (G 119 x1) 8) 255)) (G 134 x1) G) fun z10 G11 =>
  some (0, G11))
  else (some (0, G))
noncomputable def Tw_statementSort_b218 (x1 : Int) (G : St) : Option (Int × St) :=
  ckB x1 12000 <| if (G 119 x1) < 65536 then (Tw_statementSort_b251 x1 G)
  else (ckB x1 12000 <| bd (Tw_must (G 117 x1) G) fun _ G13 =>
  ckI ((G13 100 43) - 1) <| tk (up G13 100 43 ((G13 100 43) - 1)) fun G14 =>
  Tw_statementSort_b251 x1 G14)
noncomputable def Tw_statementSort_b144 (x1 : Int) (G : St) : Option (Int × St) :=
  bd (Tw_paramSort x1 G) fun _ G16 =>
  some (0, G16)
noncomputable def Tw_statementSort_s309 (x2 : Int) (G : St) : Option ((Int × St) ⊕ (Int × St)) :=
  if x2 < (G 100 34) then (ckB x2 2500 <| ckB 1 2 <| tk (up G 141 x2 1) fun G18 =>
  ckI (x2 + 1) <| some (Sum.inl (x2 + 1, G18)))
  else (ex (some (0, G)))
noncomputable def Tw_statementSort_l309 (x2 : Int) (G : St) : Option (Int × St) :=
  wh (fun s => Tw_statementSort_s309 s.1 s.2) (x2, G)
theorem Tw_statementSort_l309_eq (x2 : Int) (G : St) : Tw_statementSort_l309 x2 G = (Tw_statementSort_s309 x2 G).bind (lk (fun s => Tw_statementSort_l309 s.1 s.2) some) := by
  exact wh_eq _ _
noncomputable def Tw_statementSort_b299 (G : St) : Option (Int × St) :=
  ckB 1 2 <| tk (up G 100 47 1) fun G17 =>
  Tw_statementSort_l309 (G17 100 62) G17
noncomputable def Tw_statementSort_b333 (x1 : Int) (G : St) : Option (Int × St) :=
  ckB x1 12000 <| bd (Tw_must (G 117 x1) G) fun _ G20 =>
  ckI ((G20 100 43) - 1) <| tk (up G20 100 43 ((G20 100 43) - 1)) fun G21 =>
  ckB 0 2 <| tk (up G21 100 47 0) fun G22 =>
  tk (up G22 100 34 (G22 100 62)) fun G23 =>
  if (G23 100 7) = 0 then (ckB x1 12000 <| ckB x1 12000 <| bd (Tw_symbol (G23 116 x1) 5 (G23 117 x1) 0 (G23 100 63) G23) fun z24 G25 =>
  ckB z24 2500 <| tk (up G25 142 z24 (G25 100 61)) fun G26 =>
  ckI ((G26 100 60) - (G26 100 61)) <| ckB z24 2500 <| tk (up G26 143 z24 ((G26 100 60) - (G26 100 61))) fun G27 =>
  some (0, G27))
  else (some (0, G23))
noncomputable def Tw_statementSort_b424 (x1 : Int) (G : St) : Option (Int × St) :=
  ckI ((G 100 43) - 1) <| ckB ((G 100 43) - 1) 4200 <| ckB x1 12000 <| tk (up G 117 x1 (G 145 ((G 100 43) - 1))) fun G28 =>
  ckI ((G28 100 43) - 1) <| tk (up G28 100 43 ((G28 100 43) - 1)) fun G29 =>
  some (0, G29)
noncomputable def Tw_statementSort_b454 (x1 : Int) (G : St) : Option (Int × St) :=
  bd (Tw_assigned x1 G) fun _ G31 =>
  some (0, G31)
noncomputable def Tw_statementSort_b462 (x1 : Int) (G : St) : Option (Int × St) :=
  ckB x1 12000 <| bd (Tw_visible (G 116 x1) G) fun z32 G33 =>
  bd (Tw_refer x1 z32 G33) fun _ G35 =>
  ckB x1 12000 <| bd (Tw_must (G35 154 x1) G35) fun _ G37 =>
  ckI ((G37 100 43) - 1) <| tk (up G37 100 43 ((G37 100 43) - 1)) fun G38 =>
  some (0, G38)
noncomputable def Tw_statementSort_b500 (x1 : Int) (G : St) : Option (Int × St) :=
  bd (Tw_elementSort x1 G) fun _ G40 =>
  some (0, G40)
noncomputable def Tw_statementSort_b565 (G : St) : Option (Int × St) :=
  bd (Tw_must 1 G) fun _ G42 =>
  ckI ((G42 100 43) - 1) <| tk (up G42 100 43 ((G42 100 43) - 1)) fun G43 =>
  ckB (G43 100 49) 70 <| tk (up G43 149 (G43 100 49) (G43 100 34)) fun G44 =>
  ckI ((G44 100 49) + 1) <| tk (up G44 100 49 ((G44 100 49) + 1)) fun G45 =>
  some (0, G45)
noncomputable def Tw_statementSort_b606 (G : St) : Option (Int × St) :=
  ckI ((G 100 49) - 1) <| ckB ((G 100 49) - 1) 70 <| tk (up G 100 34 (G 149 ((G 100 49) - 1))) fun G46 =>
  some (0, G46)
noncomputable def Tw_statementSort_b695 (G : St) : Option (Int × St) :=
  ckI ((G 100 49) - 1) <| tk (up G 100 49 ((G 100 49) - 1)) fun G47 =>
  ckB (G47 100 49) 70 <| tk (up G47 100 34 (G47 149 (G47 100 49))) fun G48 =>
  some (0, G48)
noncomputable def Tw_statementSort_b624 (x1 : Int) (G : St) : Option (Int × St) :=
  bd (Tw_comes x1 G) fun _ G50 =>
  some (0, G50)
noncomputable def Tw_statementSort_b644 (x1 : Int) (G : St) : Option (Int × St) :=
  ckI ((G 100 43) - 2) <| tk (up G 100 43 ((G 100 43) - 2)) fun G51 =>
  ckB (G51 100 49) 70 <| tk (up G51 149 (G51 100 49) (G51 100 34)) fun G52 =>
  ckI ((G52 100 49) + 1) <| tk (up G52 100 49 ((G52 100 49) + 1)) fun G53 =>
  ckB x1 12000 <| bd (Tw_symbol (G53 116 x1) 3 0 0 x1 G53) fun z54 G55 =>
  some (0, G55)
noncomputable def Tw_statementSort_b632 (G : St) : Option (Int × St) :=
  bd (Tw_must 0 G) fun _ G57 =>
  bd (Tw_mustPublic G57) fun _ G59 =>
  some (0, G59)
noncomputable def Tw_statementSort_b508 (x1 : Int) (G : St) : Option (Int × St) :=
  bd (Tw_must 0 G) fun _ G61 =>
  ckB x1 12000 <| bd (Tw_visible (G61 116 x1) G61) fun z62 G63 =>
  bd (Tw_refer x1 z62 G63) fun _ G65 =>
  ckI ((G65 100 43) - 1) <| ckB ((G65 100 43) - 1) 4200 <| ckB x1 12000 <| tk (up G65 155 x1 (G65 146 ((G65 100 43) - 1))) fun G66 =>
  ckI ((G66 100 43) - 1) <| ckB ((G66 100 43) - 1) 4200 <| ckB x1 12000 <| ckB (G66 147 ((G66 100 43) - 1)) 2 <| tk (up G66 156 x1 (G66 147 ((G66 100 43) - 1))) fun G67 =>
  some (0, G67)
noncomputable def Tw_statementSort (x1 : Int) (G : St) : Option (Int × St) :=
  ckB x1 12000 <| swt (G 115 x1) 22 [Tw_statementSort_b104 x1 G, Tw_statementSort_b152 x1 G, Tw_statementSort_b104 x1 G, Tw_statementSort_b218 x1 G, Tw_statementSort_b104 x1 G, Tw_statementSort_b144 x1 G, Tw_statementSort_b299 G, Tw_statementSort_b333 x1 G, Tw_statementSort_b424 x1 G, Tw_statementSort_b454 x1 G, Tw_statementSort_b462 x1 G, Tw_statementSort_b454 x1 G, Tw_statementSort_b500 x1 G, Tw_statementSort_b565 G, Tw_statementSort_b606 G, Tw_statementSort_b695 G, Tw_statementSort_b624 x1 G, Tw_statementSort_b644 x1 G, Tw_statementSort_b695 G, Tw_statementSort_b632 G, Tw_statementSort_b508 x1 G] (some (0, G))
noncomputable def Tw_sorts_b76 (x1 : Int) (G : St) : Option ((Int × St) ⊕ (Int × St)) :=
  ckI (x1 + 1) <| some (Sum.inl (x1 + 1, G))
noncomputable def Tw_sorts_s37 (x1 : Int) (G : St) : Option ((Int × St) ⊕ (Int × St)) :=
  if x1 < (G 100 13) then (if (G 100 7) = 0 then (ckB x1 12000 <| if (G 115 x1) < 20 then (bd (Tw_operandSort x1 G) fun _ G11 =>
  Tw_sorts_b76 x1 G11)
  else (bd (Tw_statementSort x1 G) fun _ G9 =>
  Tw_sorts_b76 x1 G9))
  else (ex (some (0, G))))
  else (ex (some (0, G)))
noncomputable def Tw_sorts_l37 (x1 : Int) (G : St) : Option (Int × St) :=
  wh (fun s => Tw_sorts_s37 s.1 s.2) (x1, G)
theorem Tw_sorts_l37_eq (x1 : Int) (G : St) : Tw_sorts_l37 x1 G = (Tw_sorts_s37 x1 G).bind (lk (fun s => Tw_sorts_l37 s.1 s.2) some) := by
  exact wh_eq _ _
noncomputable def Tw_sorts (G : St) : Option (Int × St) :=
  tk (up G 100 34 0) fun G1 =>
  tk (up G1 100 43 0) fun G2 =>
  tk (up G2 100 49 0) fun G3 =>
  tk (up G3 100 56 0) fun G4 =>
  tk (up G4 100 60 0) fun G5 =>
  ckB 0 2 <| tk (up G5 100 47 0) fun G6 =>
  tk (up G6 100 59 0) fun G7 =>
  Tw_sorts_l37 0 G7
noncomputable def Tw_compile_b167 (P W : Int) (G : St) : Option (Int × St) :=
  some (G 100 7, G)
noncomputable def Tw_compile_s133 (P W : Int) (x1 : Int) (G : St) : Option ((Int × St) ⊕ (Int × St)) :=
  if x1 < (G 100 75) then (ckB x1 256 <| ckB (G 177 x1) 16 <| ckB x1 256 <| ckI ((G 245 (G 177 x1)) + (G 178 x1)) <| ckB (G 177 x1) 16 <| tk (up G 245 (G 177 x1) ((G 245 (G 177 x1)) + (G 178 x1))) fun G12 =>
  ckI (x1 + 1) <| some (Sum.inl (x1 + 1, G12)))
  else (ex (Tw_compile_b167 P W G))
noncomputable def Tw_compile_l133 (P W : Int) (x1 : Int) (G : St) : Option (Int × St) :=
  wh (fun s => Tw_compile_s133 P W s.1 s.2) (x1, G)
theorem Tw_compile_l133_eq (P W : Int) (x1 : Int) (G : St) : Tw_compile_l133 P W x1 G = (Tw_compile_s133 P W x1 G).bind (lk (fun s => Tw_compile_l133 P W s.1 s.2) some) := by
  exact wh_eq _ _
noncomputable def Tw_compile_s110 (P W : Int) (x1 : Int) (G : St) : Option ((Int × St) ⊕ (Int × St)) :=
  if x1 < P then (ckB x1 16 <| tk (up G 245 x1 0) fun G13 =>
  ckI (x1 + 1) <| some (Sum.inl (x1 + 1, G13)))
  else (ex (Tw_compile_l133 P W 0 G))
noncomputable def Tw_compile_l110 (P W : Int) (x1 : Int) (G : St) : Option (Int × St) :=
  wh (fun s => Tw_compile_s110 P W s.1 s.2) (x1, G)
theorem Tw_compile_l110_eq (P W : Int) (x1 : Int) (G : St) : Tw_compile_l110 P W x1 G = (Tw_compile_s110 P W x1 G).bind (lk (fun s => Tw_compile_l110 P W s.1 s.2) some) := by
  exact wh_eq _ _
noncomputable def Tw_compile_s79 (P W : Int) (x1 : Int) (G : St) : Option ((Int × St) ⊕ (Int × St)) :=
  if x1 < (G 100 69) then (ckB x1 500 <| ckI ((G 100 145) + (G 182 x1)) <| tk (up G 100 145 ((G 100 145) + (G 182 x1))) fun G14 =>
  ckI (x1 + 1) <| some (Sum.inl (x1 + 1, G14)))
  else (ex (Tw_compile_l110 P W 0 G))
noncomputable def Tw_compile_l79 (P W : Int) (x1 : Int) (G : St) : Option (Int × St) :=
  wh (fun s => Tw_compile_s79 P W s.1 s.2) (x1, G)
theorem Tw_compile_l79_eq (P W : Int) (x1 : Int) (G : St) : Tw_compile_l79 P W x1 G = (Tw_compile_s79 P W x1 G).bind (lk (fun s => Tw_compile_l79 P W s.1 s.2) some) := by
  exact wh_eq _ _
noncomputable def Tw_compile_b53 (P W : Int) (s0 : Int) (G : St) : Option (Int × St) :=
  ckB s0 2 <| tk (up G 100 83 s0) fun G7 =>
  tk (up G7 100 5 0) fun G8 =>
  if (G8 100 83) = 0 then (Tw_compile_b167 P W G8)
  else (bd (Tw_levels G8) fun _ G10 =>
  tk (up G10 100 145 0) fun G11 =>
  Tw_compile_l79 P W 0 G11)
noncomputable def Tw_compile_b40 (P W : Int) (G : St) : Option (Int × St) :=
  Tw_compile_b53 P W (if (G 100 7) = 0 then 1 else 0) G
noncomputable def Tw_compile_b29 (P W : Int) (G : St) : Option (Int × St) :=
  if (G 100 7) = 0 then (bd (Tw_build P W G) fun _ G16 =>
  Tw_compile_b40 P W G16)
  else (Tw_compile_b40 P W G)
noncomputable def Tw_compile (P W : Int) (G : St) : Option (Int × St) :=
  tk (up G 100 7 0) fun G1 =>
  tk (up G1 100 8 (-1)) fun G2 =>
  bd (Tw_forget G2) fun _ G4 =>
  bd (Tw_program P W G4) fun _ G6 =>
  if (G6 100 7) = 0 then (bd (Tw_sorts G6) fun _ G18 =>
  Tw_compile_b29 P W G18)
  else (Tw_compile_b29 P W G6)
noncomputable def Tw_done_b40 (P W : Int) (x2 : Int) (s0 : Int) (s1 : Int) (G : St) : Option ((Int × Int × St) ⊕ (Int × St)) :=
  ckI (s1 + s0) <| ckI (x2 + 1) <| some (Sum.inl (s1 + s0, x2 + 1, G))
noncomputable def Tw_done_s4 (P W : Int) (x1 : Int) (x2 : Int) (G : St) : Option ((Int × Int × St) ⊕ (Int × St)) :=
  if x2 < P then (if (G 100 124) = 0 then (Tw_done_b40 P W x2 0 x1 G)
  else (ckB x2 16 <| ckI ((G 100 68) + 2) <| Tw_done_b40 P W x2 (if (G 233 x2) = ((G 100 68) + 2) then 1 else 0) x1 G))
  else (ex (some (x1, G)))
noncomputable def Tw_done_l4 (P W : Int) (x1 : Int) (x2 : Int) (G : St) : Option (Int × St) :=
  wh (fun s => Tw_done_s4 P W s.1 s.2.1 s.2.2) (x1, x2, G)
theorem Tw_done_l4_eq (P W : Int) (x1 : Int) (x2 : Int) (G : St) : Tw_done_l4 P W x1 x2 G = (Tw_done_s4 P W x1 x2 G).bind (lk (fun s => Tw_done_l4 P W s.1 s.2.1 s.2.2) some) := by
  exact wh_eq _ _
noncomputable def Tw_done (P W : Int) (G : St) : Option (Int × St) :=
  Tw_done_l4 P W 0 0 G
noncomputable def Tw_look_b96 (P W : Int) (G : St) : Option (Int × St) :=
  some (G 100 8, G)
noncomputable def Tw_look_b101 (P W : Int) (G : St) : Option (Int × St) :=
  some (G 100 66, G)
noncomputable def Tw_look_b106 (P W : Int) (G : St) : Option (Int × St) :=
  some (G 100 67, G)
noncomputable def Tw_look_b111 (P W : Int) (G : St) : Option (Int × St) :=
  some (G 100 68, G)
noncomputable def Tw_look_b116 (P W : Int) (G : St) : Option (Int × St) :=
  some (G 100 65, G)
noncomputable def Tw_look_b121 (P W : Int) (G : St) : Option (Int × St) :=
  some (G 100 75, G)
noncomputable def Tw_look_b126 (P W : Int) (G : St) : Option (Int × St) :=
  some (G 100 69, G)
noncomputable def Tw_look_b131 (P W : Int) (G : St) : Option (Int × St) :=
  ckI (P - 1) <| ckI ((G 100 65) * (P - 1)) <| ckI (3 * P) <| ckI ((3 * P) - 1) <| ckI ((G 100 67) * ((3 * P) - 1)) <| ckI (((G 100 65) * (P - 1)) + ((G 100 67) * ((3 * P) - 1))) <| some (((G 100 65) * (P - 1)) + ((G 100 67) * ((3 * P) - 1)), G)
noncomputable def Tw_look_b157 (P W : Int) (G : St) : Option (Int × St) :=
  some (G 100 70, G)
noncomputable def Tw_look_b162 (P W : Int) (G : St) : Option (Int × St) :=
  some (G 100 139, G)
noncomputable def Tw_look_b167 (P W : Int) (G : St) : Option (Int × St) :=
  some (G 100 140, G)
noncomputable def Tw_look_b172 (P W : Int) (G : St) : Option (Int × St) :=
  bd (Tw_done P W G) fun z1 G2 =>
  some (z1, G2)
noncomputable def Tw_look_b177 (P W : Int) (G : St) : Option (Int × St) :=
  some ((if (G 100 83) = 0 then 0 else (if (G 100 124) = 0 then 1 else 2)), G)
noncomputable def Tw_look_b201 (P W : Int) (G : St) : Option (Int × St) :=
  some (G 100 121, G)
noncomputable def Tw_look_b206 (P W : Int) (G : St) : Option (Int × St) :=
  some (G 100 120, G)
noncomputable def Tw_look_b19 (P W : Int) (x1 : Int) (G : St) : Option (Int × St) :=
  swt x1 0 [Tw_look_b96 P W G, Tw_look_b101 P W G, Tw_look_b106 P W G, Tw_look_b111 P W G, Tw_look_b116 P W G, Tw_look_b121 P W G, Tw_look_b126 P W G, Tw_look_b131 P W G, Tw_look_b157 P W G, Tw_look_b162 P W G, Tw_look_b167 P W G, Tw_look_b172 P W G, Tw_look_b177 P W G, Tw_look_b201 P W G, Tw_look_b206 P W G] (some ((-1), G))
noncomputable def Tw_look (P W : Int) (x1 : Int) (G : St) : Option (Int × St) :=
  if 0 < x1 then (if x1 < 9 then (if (G 100 83) = 0 then (some ((-1), G))
  else (Tw_look_b19 P W x1 G))
  else (Tw_look_b19 P W x1 G))
  else (Tw_look_b19 P W x1 G)
noncomputable def Tw_gate (x1 : Int) (x2 : Int) (G : St) : Option (Int × St) :=
  if (G 100 83) = 0 then (some ((-1), G))
  else (if x1 < 0 then (some ((-1), G))
  else (if x1 < (G 100 66) then (if x2 < 0 then (some ((-1), G))
  else (if 3 < x2 then (some ((-1), G))
  else (if x2 = 0 then (ckB x1 40000 <| some (G 172 x1, G))
  else (if x2 = 1 then (ckB x1 40000 <| some (G 173 x1, G))
  else (if x2 = 2 then (ckB x1 40000 <| some (G 174 x1, G))
  else (ckB x1 40000 <| some (G 175 x1, G)))))))
  else (some ((-1), G))))
noncomputable def Tw_literal_b44 (x1 : Int) (x2 : Int) (s0 : Int) (s2 : Int) (G : St) : Option (Int × St) :=
  ckB s0 500 <| if s2 < (G 182 s0) then (ckI (32 * x1) <| ckI ((32 * x1) + x2) <| ckB ((32 * x1) + x2) 16000 <| some (G 183 ((32 * x1) + x2), G))
  else (some ((-3), G))
noncomputable def Tw_literal (x1 : Int) (x2 : Int) (G : St) : Option (Int × St) :=
  if (G 100 83) = 0 then (some ((-3), G))
  else (if x1 < 0 then (some ((-3), G))
  else (if x1 < (G 100 69) then (if x2 < 0 then (some ((-3), G))
  else (Tw_literal_b44 x1 x2 (if x1 < 0 then 0 else (if x1 < 500 then x1 else 0)) x2 G))
  else (some ((-3), G))))
noncomputable def Tw_input_b28 (G : St) : Option (Int × St) :=
  some ((-1), G)
noncomputable def Tw_input (x1 : Int) (x2 : Int) (G : St) : Option (Int × St) :=
  if (G 100 83) = 0 then (Tw_input_b28 G)
  else (if x1 < 0 then (Tw_input_b28 G)
  else (if x1 < (G 100 75) then (if x2 < 0 then (Tw_input_b28 G)
  else (if 2 < x2 then (Tw_input_b28 G)
  else (if x2 = 0 then (ckB x1 256 <| some (G 177 x1, G))
  else (if x2 = 1 then (ckB x1 256 <| some (G 178 x1, G))
  else (ckB x1 256 <| some (G 180 x1, G))))))
  else (Tw_input_b28 G)))
noncomputable def Tw_give_b60 (s0 : Int) (G : St) : Option (Int × St) :=
  ckB s0 2 <| tk (up G 100 119 s0) fun G2 =>
  ckB 1 2 (some (1, G2))
noncomputable def Tw_give (x1 : Int) (x2 : Int) (G : St) : Option (Int × St) :=
  if (G 100 83) = 0 then (ckB 0 2 (some (0, G)))
  else (if x1 < 0 then (ckB 0 2 (some (0, G)))
  else (if x1 < (G 100 75) then (ckB x1 256 <| ckL ((j_lsl 1 (G 178 x1)) - 1) <| ckB x1 256 <| tk (up G 180 x1 (j_lan x2 ((j_lsl 1 (G 178 x1)) - 1))) fun G1 =>
  Tw_give_b60 (if (G1 100 119) = 0 then 0 else (if (G1 100 124) = 0 then 0 else 1)) G1)
  else (ckB 0 2 (some (0, G)))))
noncomputable def Tw_seed (x1 : Int) (G : St) : Option (Int × St) :=
  tk (up G 100 120 x1) fun G1 =>
  some (0, G1)
noncomputable def Tw_draws_s27 (x1 : Int) (x3 : Int) (x4 : Int) (G : St) : Option ((Int × St) ⊕ (Int × St)) :=
  if x4 < x3 then (ckI ((G 100 122) + (G 100 121)) <| ckD ((G 100 122) + (G 100 121)) 2000 <| ckB (((G 100 122) + (G 100 121)) % 2000) 2000 <| tk (up G 224 (((G 100 122) + (G 100 121)) % 2000) (w32 (j_lan (j_lus x1 x4) 1))) fun G1 =>
  ckI ((G1 100 121) + 1) <| tk (up G1 100 121 ((G1 100 121) + 1)) fun G2 =>
  ckI (x4 + 1) <| some (Sum.inl (x4 + 1, G2)))
  else (ex (some (G 100 121, G)))
noncomputable def Tw_draws_l27 (x1 : Int) (x3 : Int) (x4 : Int) (G : St) : Option (Int × St) :=
  wh (fun s => Tw_draws_s27 x1 x3 s.1 s.2) (x4, G)
theorem Tw_draws_l27_eq (x1 : Int) (x3 : Int) (x4 : Int) (G : St) : Tw_draws_l27 x1 x3 x4 G = (Tw_draws_s27 x1 x3 x4 G).bind (lk (fun s => Tw_draws_l27 x1 x3 s.1 s.2) some) := by
  exact wh_eq _ _
noncomputable def Tw_draws (x1 : Int) (x3 : Int) (G : St) : Option (Int × St) :=
  if x3 < 0 then (some ((-1), G))
  else (if 64 < x3 then (some ((-1), G))
  else (ckI ((G 100 121) + x3) <| if 2000 < ((G 100 121) + x3) then (some ((-1), G))
  else (Tw_draws_l27 x1 x3 0 G)))
noncomputable def Tw_sendRound_b70 (P W : Int) (x1 : Int) (x2 : Int) (G : St) : Option ((Int × St) ⊕ (Int × St)) :=
  ckI (x2 + 1) <| some (Sum.inl (x2 + 1, G))
noncomputable def Tw_sendRound_s2 (P W : Int) (x1 : Int) (x2 : Int) (G : St) : Option ((Int × St) ⊕ (Int × St)) :=
  if x2 < P then (if x2 = x1 then (Tw_sendRound_b70 P W x1 x2 G)
  else (ckB (G 100 139) 1000 <| tk (up G 242 (G 100 139) x1) fun G1 =>
  ckB (G1 100 139) 1000 <| tk (up G1 243 (G1 100 139) x2) fun G2 =>
  ckB x1 16 <| ckB (G2 100 139) 1000 <| tk (up G2 244 (G2 100 139) (G2 233 x1)) fun G3 =>
  ckI ((G3 100 139) + 1) <| tk (up G3 100 139 ((G3 100 139) + 1)) fun G4 =>
  ckI ((G4 100 131) + 1) <| tk (up G4 100 131 ((G4 100 131) + 1)) fun G5 =>
  Tw_sendRound_b70 P W x1 x2 G5))
  else (ex (some (0, G)))
noncomputable def Tw_sendRound_l2 (P W : Int) (x1 : Int) (x2 : Int) (G : St) : Option (Int × St) :=
  wh (fun s => Tw_sendRound_s2 P W x1 s.1 s.2) (x2, G)
theorem Tw_sendRound_l2_eq (P W : Int) (x1 : Int) (x2 : Int) (G : St) : Tw_sendRound_l2 P W x1 x2 G = (Tw_sendRound_s2 P W x1 x2 G).bind (lk (fun s => Tw_sendRound_l2 P W x1 s.1 s.2) some) := by
  exact wh_eq _ _
noncomputable def Tw_sendRound (P W : Int) (x1 : Int) (G : St) : Option (Int × St) :=
  Tw_sendRound_l2 P W x1 0 G
noncomputable def Tw_draw (G : St) : Option (Int × St) :=
  if 0 < (G 100 121) then (ckB (G 100 122) 2000 <| ckD (w32 ((G 100 122) + 1)) 2000 <| tk (up G 100 122 ((w32 ((G 100 122) + 1)) % 2000)) fun G2 =>
  tk (up G2 100 121 (w32 ((G2 100 121) - 1))) fun G3 =>
  some (G 224 (G 100 122), G3))
  else (tk (up G 100 120 (w32 ((w32 ((G 100 120) * 1103515245)) + 12345))) fun G1 =>
  some (j_an (j_us (G1 100 120) 16) 1, G1))
noncomputable def In_bitCount (x0 : Int) (G : St) : Option (Int × St) :=
  vl (w32 (x0 - (j_an (j_us x0 1) 1431655765))) fun v1 =>
  vl (w32 ((j_an v1 858993459) + (j_an (j_us v1 2) 858993459))) fun v2 =>
  vl (j_an (w32 (v2 + (j_us v2 4))) 252645135) fun v3 =>
  vl (w32 ((w32 (v3 + (j_us v3 8))) + (j_us (w32 (v3 + (j_us v3 8))) 16))) fun v4 =>
  some (j_an v4 63, G)
noncomputable def Tw_parity (x0 : Int) (G : St) : Option (Int × St) :=
  bd (In_bitCount x0 G) fun z1 G2 =>
  some (j_an z1 1, G2)
noncomputable def Tw_shareOf (x1 : Int) (G : St) : Option (Int × St) :=
  if x1 < 0 then (some (j_an x1 1, G))
  else (ckB (j_sr x1 1) 48192 <| some (j_xo (G 226 (j_sr x1 1)) (j_an x1 1), G))
noncomputable def Tw_shareAll_b421 (P W : Int) (x1 : Int) (G : St) : Option ((Int × St) ⊕ (Int × St)) :=
  ckI (x1 + 1) <| some (Sum.inl (x1 + 1, G))
noncomputable def Tw_shareAll_b413 (P W : Int) (x1 : Int) (x4 : Int) (x5 : Int) (s0 : Int) (s1 : Int) (s2 : Int) (G : St) : Option ((Int × St) ⊕ (Int × St)) :=
  ckB s2 48192 <| tk (up G 226 s2 (j_xo (j_xo s1 s0) (j_an x4 x5))) fun G9 =>
  Tw_shareAll_b421 P W x1 G9
noncomputable def Tw_shareAll_b396 (P W : Int) (x1 : Int) (x4 : Int) (x5 : Int) (s0 : Int) (s1 : Int) (s2 : Int) (G : St) : Option ((Int × St) ⊕ (Int × St)) :=
  if x5 = 1 then (ckB x1 40000 <| Tw_shareAll_b413 P W x1 x4 x5 (G 227 x1) (j_xo s1 s0) s2 G)
  else (Tw_shareAll_b413 P W x1 x4 x5 0 (j_xo s1 s0) s2 G)
noncomputable def Tw_shareAll_s282 (P W : Int) (x1 : Int) (G : St) : Option ((Int × St) ⊕ (Int × St)) :=
  if x1 < (G 100 66) then (ckB x1 40000 <| bd (Tw_shareOf (G 174 x1) G) fun z1 G2 =>
  ckB x1 40000 <| bd (Tw_shareOf (G2 175 x1) G2) fun z3 G4 =>
  ckB x1 40000 <| if (G4 172 x1) = 0 then (ckI ((G4 100 65) + x1) <| ckB ((G4 100 65) + x1) 48192 <| tk (up G4 226 ((G4 100 65) + x1) (j_xo z1 z3)) fun G10 =>
  Tw_shareAll_b421 P W x1 G10)
  else (ckB x1 40000 <| bd (Tw_parity (j_xo z1 (G4 227 x1)) G4) fun z5 G6 =>
  ckB x1 40000 <| bd (Tw_parity (j_xo z3 (G6 228 x1)) G6) fun z7 G8 =>
  ckI ((G8 100 65) + x1) <| ckB x1 40000 <| if z5 = 1 then (ckB x1 40000 <| Tw_shareAll_b396 P W x1 z5 z7 (G8 228 x1) (G8 229 x1) ((G8 100 65) + x1) G8)
  else (Tw_shareAll_b396 P W x1 z5 z7 0 (G8 229 x1) ((G8 100 65) + x1) G8)))
  else (ex (some (0, G)))
noncomputable def Tw_shareAll_l282 (P W : Int) (x1 : Int) (G : St) : Option (Int × St) :=
  wh (fun s => Tw_shareAll_s282 P W s.1 s.2) (x1, G)
theorem Tw_shareAll_l282_eq (P W : Int) (x1 : Int) (G : St) : Tw_shareAll_l282 P W x1 G = (Tw_shareAll_s282 P W x1 G).bind (lk (fun s => Tw_shareAll_l282 P W s.1 s.2) some) := by
  exact wh_eq _ _
noncomputable def Tw_shareAll_b274 (P W : Int) (x1 : Int) (G : St) : Option ((Int × St) ⊕ (Int × St)) :=
  ckI (x1 + 1) <| some (Sum.inl (x1 + 1, G))
noncomputable def Tw_shareAll_s209 (P W : Int) (x1 : Int) (x2 : Int) (x3 : Int) (x4 : Int) (x5 : Int) (G : St) : Option ((Int × Int × St) ⊕ ((Int × St) ⊕ (Int × St))) :=
  if x5 < P then (bd (Tw_draw G) fun z20 G21 =>
  ckI (x5 + 1) <| some (Sum.inl (j_or x4 (j_sl z20 x5), x5 + 1, G21)))
  else (ex (ckB x1 40000 <| tk (up G 227 x1 x2) fun G11 =>
  ckB x1 40000 <| tk (up G11 228 x1 x3) fun G12 =>
  bd (Tw_parity x4 G12) fun z13 G14 =>
  bd (Tw_parity x2 G14) fun z15 G16 =>
  bd (Tw_parity x3 G16) fun z17 G18 =>
  ckB x1 40000 <| tk (up G18 229 x1 (j_or x4 (j_xo z13 (j_an z15 z17)))) fun G19 =>
  Tw_shareAll_b274 P W x1 G19))
noncomputable def Tw_shareAll_l209 (P W : Int) (x1 : Int) (x2 : Int) (x3 : Int) (x4 : Int) (x5 : Int) (G : St) : Option ((Int × St) ⊕ (Int × St)) :=
  wh (fun s => Tw_shareAll_s209 P W x1 x2 x3 s.1 s.2.1 s.2.2) (x4, x5, G)
theorem Tw_shareAll_l209_eq (P W : Int) (x1 : Int) (x2 : Int) (x3 : Int) (x4 : Int) (x5 : Int) (G : St) : Tw_shareAll_l209 P W x1 x2 x3 x4 x5 G = (Tw_shareAll_s209 P W x1 x2 x3 x4 x5 G).bind (lk (fun s => Tw_shareAll_l209 P W x1 x2 x3 s.1 s.2.1 s.2.2) some) := by
  exact wh_eq _ _
noncomputable def Tw_shareAll_s181 (P W : Int) (x1 : Int) (x2 : Int) (x4 : Int) (x3 : Int) (x5 : Int) (G : St) : Option ((Int × Int × St) ⊕ ((Int × St) ⊕ (Int × St))) :=
  if x5 < P then (bd (Tw_draw G) fun z22 G23 =>
  ckI (x5 + 1) <| some (Sum.inl (j_or x3 (j_sl z22 x5), x5 + 1, G23)))
  else (ex (Tw_shareAll_l209 P W x1 x2 x3 x4 1 G))
noncomputable def Tw_shareAll_l181 (P W : Int) (x1 : Int) (x2 : Int) (x4 : Int) (x3 : Int) (x5 : Int) (G : St) : Option ((Int × St) ⊕ (Int × St)) :=
  wh (fun s => Tw_shareAll_s181 P W x1 x2 x4 s.1 s.2.1 s.2.2) (x3, x5, G)
theorem Tw_shareAll_l181_eq (P W : Int) (x1 : Int) (x2 : Int) (x4 : Int) (x3 : Int) (x5 : Int) (G : St) : Tw_shareAll_l181 P W x1 x2 x4 x3 x5 G = (Tw_shareAll_s181 P W x1 x2 x4 x3 x5 G).bind (lk (fun s => Tw_shareAll_l181 P W x1 x2 x4 s.1 s.2.1 s.2.2) some) := by
  exact wh_eq _ _
noncomputable def Tw_shareAll_s153 (P W : Int) (x1 : Int) (x3 : Int) (x4 : Int) (x2 : Int) (x5 : Int) (G : St) : Option ((Int × Int × St) ⊕ ((Int × St) ⊕ (Int × St))) :=
  if x5 < P then (bd (Tw_draw G) fun z24 G25 =>
  ckI (x5 + 1) <| some (Sum.inl (j_or x2 (j_sl z24 x5), x5 + 1, G25)))
  else (ex (Tw_shareAll_l181 P W x1 x2 x4 x3 0 G))
noncomputable def Tw_shareAll_l153 (P W : Int) (x1 : Int) (x3 : Int) (x4 : Int) (x2 : Int) (x5 : Int) (G : St) : Option ((Int × St) ⊕ (Int × St)) :=
  wh (fun s => Tw_shareAll_s153 P W x1 x3 x4 s.1 s.2.1 s.2.2) (x2, x5, G)
theorem Tw_shareAll_l153_eq (P W : Int) (x1 : Int) (x3 : Int) (x4 : Int) (x2 : Int) (x5 : Int) (G : St) : Tw_shareAll_l153 P W x1 x3 x4 x2 x5 G = (Tw_shareAll_s153 P W x1 x3 x4 x2 x5 G).bind (lk (fun s => Tw_shareAll_l153 P W x1 x3 x4 s.1 s.2.1 s.2.2) some) := by
  exact wh_eq _ _
noncomputable def Tw_shareAll_s125 (P W : Int) (x1 : Int) (G : St) : Option ((Int × St) ⊕ (Int × St)) :=
  if x1 < (G 100 66) then (ckB x1 40000 <| if (G 172 x1) = 1 then (Tw_shareAll_l153 P W x1 0 0 0 0 G)
  else (Tw_shareAll_b274 P W x1 G))
  else (ex (Tw_shareAll_l282 P W 0 G))
noncomputable def Tw_shareAll_l125 (P W : Int) (x1 : Int) (G : St) : Option (Int × St) :=
  wh (fun s => Tw_shareAll_s125 P W s.1 s.2) (x1, G)
theorem Tw_shareAll_l125_eq (P W : Int) (x1 : Int) (G : St) : Tw_shareAll_l125 P W x1 G = (Tw_shareAll_s125 P W x1 G).bind (lk (fun s => Tw_shareAll_l125 P W s.1 s.2) some) := by
  exact wh_eq _ _
noncomputable def Tw_shareAll_b63 (P W : Int) (x1 : Int) (x2 : Int) (x3 : Int) (x5 : Int) (s0 : Int) (s1 : Int) (G : St) : Option ((Int × Int × St) ⊕ ((Int × St) ⊕ ((Int × St) ⊕ (Int × St)))) :=
  ckI (x5 + 1) <| some (Sum.inl (j_or s1 s0, x5 + 1, G))
noncomputable def Tw_shareAll_s35 (P W : Int) (x1 : Int) (x2 : Int) (x3 : Int) (x4 : Int) (x5 : Int) (G : St) : Option ((Int × Int × St) ⊕ ((Int × St) ⊕ ((Int × St) ⊕ (Int × St)))) :=
  if x5 < P then (if x5 = x3 then (Tw_shareAll_b63 P W x1 x2 x3 x5 0 x4 G)
  else (bd (Tw_draw G) fun z30 G31 =>
  Tw_shareAll_b63 P W x1 x2 x3 x5 (j_sl z30 x5) x4 G31))
  else (ex (ckB x1 256 <| vl (w32 (j_lan (j_lsr (G 181 x1) x2) 1)) fun v26 =>
  ckB x1 256 <| ckI ((G 179 x1) + x2) <| bd (Tw_parity x4 G) fun z27 G28 =>
  ckB ((G 179 x1) + x2) 48192 <| tk (up G28 226 ((G 179 x1) + x2) (j_or x4 (j_sl (j_xo z27 v26) x3))) fun G29 =>
  ckI (x2 + 1) <| some (Sum.inl (x2 + 1, G29))))
noncomputable def Tw_shareAll_l35 (P W : Int) (x1 : Int) (x2 : Int) (x3 : Int) (x4 : Int) (x5 : Int) (G : St) : Option ((Int × St) ⊕ ((Int × St) ⊕ (Int × St))) :=
  wh (fun s => Tw_shareAll_s35 P W x1 x2 x3 s.1 s.2.1 s.2.2) (x4, x5, G)
theorem Tw_shareAll_l35_eq (P W : Int) (x1 : Int) (x2 : Int) (x3 : Int) (x4 : Int) (x5 : Int) (G : St) : Tw_shareAll_l35 P W x1 x2 x3 x4 x5 G = (Tw_shareAll_s35 P W x1 x2 x3 x4 x5 G).bind (lk (fun s => Tw_shareAll_l35 P W x1 x2 x3 s.1 s.2.1 s.2.2) some) := by
  exact wh_eq _ _
noncomputable def Tw_shareAll_s12 (P W : Int) (x1 : Int) (x2 : Int) (G : St) : Option ((Int × St) ⊕ ((Int × St) ⊕ (Int × St))) :=
  ckB x1 256 <| if x2 < (G 178 x1) then (ckB x1 256 <| Tw_shareAll_l35 P W x1 x2 (G 177 x1) 0 0 G)
  else (ex (ckI (x1 + 1) <| some (Sum.inl (x1 + 1, G))))
noncomputable def Tw_shareAll_l12 (P W : Int) (x1 : Int) (x2 : Int) (G : St) : Option ((Int × St) ⊕ (Int × St)) :=
  wh (fun s => Tw_shareAll_s12 P W x1 s.1 s.2) (x2, G)
theorem Tw_shareAll_l12_eq (P W : Int) (x1 : Int) (x2 : Int) (G : St) : Tw_shareAll_l12 P W x1 x2 G = (Tw_shareAll_s12 P W x1 x2 G).bind (lk (fun s => Tw_shareAll_l12 P W x1 s.1 s.2) some) := by
  exact wh_eq _ _
noncomputable def Tw_shareAll_s2 (P W : Int) (x1 : Int) (G : St) : Option ((Int × St) ⊕ (Int × St)) :=
  if x1 < (G 100 75) then (Tw_shareAll_l12 P W x1 0 G)
  else (ex (Tw_shareAll_l125 P W 0 G))
noncomputable def Tw_shareAll_l2 (P W : Int) (x1 : Int) (G : St) : Option (Int × St) :=
  wh (fun s => Tw_shareAll_s2 P W s.1 s.2) (x1, G)
theorem Tw_shareAll_l2_eq (P W : Int) (x1 : Int) (G : St) : Tw_shareAll_l2 P W x1 G = (Tw_shareAll_s2 P W x1 G).bind (lk (fun s => Tw_shareAll_l2 P W s.1 s.2) some) := by
  exact wh_eq _ _
noncomputable def Tw_shareAll (P W : Int) (G : St) : Option (Int × St) :=
  Tw_shareAll_l2 P W 0 G
noncomputable def Tw_deal_s103 (P W : Int) (x1 : Int) (G : St) : Option ((Int × St) ⊕ (Int × St)) :=
  if x1 < P then (bd (Tw_sendRound P W x1 G) fun _ G7 =>
  ckI (x1 + 1) <| some (Sum.inl (x1 + 1, G7)))
  else (ex (ckB 1 2 (some (1, G))))
noncomputable def Tw_deal_l103 (P W : Int) (x1 : Int) (G : St) : Option (Int × St) :=
  wh (fun s => Tw_deal_s103 P W s.1 s.2) (x1, G)
theorem Tw_deal_l103_eq (P W : Int) (x1 : Int) (G : St) : Tw_deal_l103 P W x1 G = (Tw_deal_s103 P W x1 G).bind (lk (fun s => Tw_deal_l103 P W s.1 s.2) some) := by
  exact wh_eq _ _
noncomputable def Tw_deal_s52 (P W : Int) (x1 : Int) (G : St) : Option ((Int × St) ⊕ (Int × St)) :=
  if x1 < P then (ckB x1 16 <| tk (up G 233 x1 0) fun G8 =>
  ckB x1 16 <| tk (up G8 234 x1 0) fun G9 =>
  ckB x1 16 <| tk (up G9 235 x1 0) fun G10 =>
  ckB x1 16 <| tk (up G10 236 x1 0) fun G11 =>
  ckB x1 16 <| tk (up G11 237 x1 0) fun G12 =>
  ckI (x1 + 1) <| some (Sum.inl (x1 + 1, G12)))
  else (ex (Tw_deal_l103 P W 0 G))
noncomputable def Tw_deal_l52 (P W : Int) (x1 : Int) (G : St) : Option (Int × St) :=
  wh (fun s => Tw_deal_s52 P W s.1 s.2) (x1, G)
theorem Tw_deal_l52_eq (P W : Int) (x1 : Int) (G : St) : Tw_deal_l52 P W x1 G = (Tw_deal_s52 P W x1 G).bind (lk (fun s => Tw_deal_l52 P W s.1 s.2) some) := by
  exact wh_eq _ _
noncomputable def Tw_deal_s20 (P W : Int) (x1 : Int) (G : St) : Option ((Int × St) ⊕ (Int × St)) :=
  if x1 < (G 100 75) then (ckB x1 256 <| ckB x1 256 <| tk (up G 181 x1 (G 180 x1)) fun G13 =>
  ckI (x1 + 1) <| some (Sum.inl (x1 + 1, G13)))
  else (ex (bd (Tw_shareAll P W G) fun _ G5 =>
  Tw_deal_l52 P W 0 G5))
noncomputable def Tw_deal_l20 (P W : Int) (x1 : Int) (G : St) : Option (Int × St) :=
  wh (fun s => Tw_deal_s20 P W s.1 s.2) (x1, G)
theorem Tw_deal_l20_eq (P W : Int) (x1 : Int) (G : St) : Tw_deal_l20 P W x1 G = (Tw_deal_s20 P W x1 G).bind (lk (fun s => Tw_deal_l20 P W s.1 s.2) some) := by
  exact wh_eq _ _
noncomputable def Tw_deal (P W : Int) (G : St) : Option (Int × St) :=
  if (G 100 83) = 0 then (ckB 0 2 (some (0, G)))
  else (bd (Tw_forget G) fun _ G2 =>
  ckB 1 2 <| tk (up G2 100 124 1) fun G3 =>
  Tw_deal_l20 P W 0 G3)
noncomputable def Tw_lengthOf (x1 : Int) (x2 : Int) (G : St) : Option (Int × St) :=
  if x2 = 0 then (ckB x1 16 <| some (G 245 x1, G))
  else (if (G 100 68) < x2 then (some (G 100 145, G))
  else (ckI (x2 + 1) <| ckB (x2 + 1) 2003 <| ckB x2 2003 <| ckI ((G 230 (x2 + 1)) - (G 230 x2)) <| ckI (2 * ((G 230 (x2 + 1)) - (G 230 x2))) <| some (2 * ((G 230 (x2 + 1)) - (G 230 x2)), G)))
noncomputable def Tw_sentBit_s177 (x1 : Int) (x5 : Int) (x6 : Int) (G : St) : Option ((Int × Int × St) ⊕ (Int × St)) :=
  ckB x5 500 <| if x6 < (G 182 x5) then (ex (ckI (32 * x5) <| ckI ((32 * x5) + x6) <| ckB ((32 * x5) + x6) 16000 <| bd (Tw_shareOf (G 183 ((32 * x5) + x6)) G) fun z1 G2 =>
  some (j_an (j_sr z1 x1) 1, G2)))
  else (ckB x5 500 <| ckI (x6 - (G 182 x5)) <| ckI (x5 + 1) <| some (Sum.inl (x5 + 1, x6 - (G 182 x5), G)))
noncomputable def Tw_sentBit_l177 (x1 : Int) (x5 : Int) (x6 : Int) (G : St) : Option (Int × St) :=
  wh (fun s => Tw_sentBit_s177 x1 s.1 s.2.1 s.2.2) (x5, x6, G)
theorem Tw_sentBit_l177_eq (x1 : Int) (x5 : Int) (x6 : Int) (G : St) : Tw_sentBit_l177 x1 x5 x6 G = (Tw_sentBit_s177 x1 x5 x6 G).bind (lk (fun s => Tw_sentBit_l177 x1 s.1 s.2.1 s.2.2) some) := by
  exact wh_eq _ _
noncomputable def Tw_sentBit_b161 (x1 : Int) (s0 : Int) (G : St) : Option (Int × St) :=
  some (j_an (j_sr s0 x1) 1, G)
noncomputable def Tw_sentBit_b58 (x1 : Int) (x2 : Int) (x5 : Int) (s0 : Int) (s1 : Int) (G : St) : Option ((Int × Int × St) ⊕ (Int × St)) :=
  ckI (s1 - s0) <| ckI (x5 + 1) <| some (Sum.inl (x5 + 1, s1 - s0, G))
noncomputable def Tw_sentBit_b34 (x1 : Int) (x2 : Int) (x5 : Int) (x6 : Int) (G : St) : Option ((Int × Int × St) ⊕ (Int × St)) :=
  ckB x5 256 <| if (G 177 x5) = x1 then (ckB x5 256 <| Tw_sentBit_b58 x1 x2 x5 (G 178 x5) x6 G)
  else (Tw_sentBit_b58 x1 x2 x5 0 x6 G)
noncomputable def Tw_sentBit_s11 (x1 : Int) (x2 : Int) (x5 : Int) (x6 : Int) (G : St) : Option ((Int × Int × St) ⊕ (Int × St)) :=
  ckB x5 256 <| if (G 177 x5) = x1 then (ckB x5 256 <| if x6 < (G 178 x5) then (ex (ckB x5 256 <| ckI ((G 179 x5) + x6) <| ckB ((G 179 x5) + x6) 48192 <| some (j_an (j_sr (G 226 ((G 179 x5) + x6)) x2) 1, G)))
  else (Tw_sentBit_b34 x1 x2 x5 x6 G))
  else (Tw_sentBit_b34 x1 x2 x5 x6 G)
noncomputable def Tw_sentBit_l11 (x1 : Int) (x2 : Int) (x5 : Int) (x6 : Int) (G : St) : Option (Int × St) :=
  wh (fun s => Tw_sentBit_s11 x1 x2 s.1 s.2.1 s.2.2) (x5, x6, G)
theorem Tw_sentBit_l11_eq (x1 : Int) (x2 : Int) (x5 : Int) (x6 : Int) (G : St) : Tw_sentBit_l11 x1 x2 x5 x6 G = (Tw_sentBit_s11 x1 x2 x5 x6 G).bind (lk (fun s => Tw_sentBit_l11 x1 x2 s.1 s.2.1 s.2.2) some) := by
  exact wh_eq _ _
noncomputable def Tw_sentBit (x1 : Int) (x2 : Int) (x3 : Int) (x4 : Int) (G : St) : Option (Int × St) :=
  if x3 = 0 then (Tw_sentBit_l11 x1 x2 0 x4 G)
  else (if (G 100 68) < x3 then (Tw_sentBit_l177 x1 0 x4 G)
  else (ckB x3 2003 <| ckD x4 2 <| ckI ((G 230 x3) + (x4 / 2)) <| ckB ((G 230 x3) + (x4 / 2)) 40000 <| ckD x4 2 <| if (x4 % 2) = 0 then (ckB (G 231 ((G 230 x3) + (x4 / 2))) 40000 <| bd (Tw_shareOf (G 174 (G 231 ((G 230 x3) + (x4 / 2)))) G) fun z5 G6 =>
  ckB (G 231 ((G 230 x3) + (x4 / 2))) 40000 <| Tw_sentBit_b161 x1 (j_xo z5 (G6 227 (G 231 ((G 230 x3) + (x4 / 2))))) G6)
  else (ckB (G 231 ((G 230 x3) + (x4 / 2))) 40000 <| bd (Tw_shareOf (G 175 (G 231 ((G 230 x3) + (x4 / 2)))) G) fun z3 G4 =>
  ckB (G 231 ((G 230 x3) + (x4 / 2))) 40000 <| Tw_sentBit_b161 x1 (j_xo z3 (G4 228 (G 231 ((G 230 x3) + (x4 / 2))))) G4)))
noncomputable def Tw_message (x1 : Int) (x2 : Int) (G : St) : Option (Int × St) :=
  if x1 < 0 then (some ((-1), G))
  else (if x1 < (G 100 139) then (if x2 < 0 then (some ((-1), G))
  else (ckB x1 1000 <| ckB x1 1000 <| bd (Tw_lengthOf (G 242 x1) (G 244 x1) G) fun z1 G2 =>
  if x2 < 4 then (if x2 = 0 then (ckB x1 1000 <| some (G2 242 x1, G2))
  else (if x2 = 1 then (ckB x1 1000 <| some (G2 243 x1, G2))
  else (if x2 = 2 then (ckB x1 1000 <| some (G2 244 x1, G2))
  else (some (z1, G2)))))
  else (ckI (x2 - 4) <| if (x2 - 4) < z1 then (ckB x1 1000 <| ckB x1 1000 <| ckB x1 1000 <| ckI (x2 - 4) <| bd (Tw_sentBit (G2 242 x1) (G2 243 x1) (G2 244 x1) (x2 - 4) G2) fun z3 G4 =>
  some (z3, G4))
  else (some ((-1), G2)))))
  else (some ((-1), G)))
noncomputable def Tw_takeMessage_b308 (P W : Int) (G : St) : Option (Int × St) :=
  some (G 100 131, G)
noncomputable def Tw_takeMessage_s226 (P W : Int) (x3 : Int) (G : St) : Option ((St) ⊕ (Int × St)) :=
  ckB x3 16 <| ckI ((G 100 68) + 1) <| if ((G 100 68) + 1) < (G 233 x3) then (ex (Tw_takeMessage_b308 P W G))
  else (ckB x3 16 <| ckI (P - 1) <| if (G 234 x3) = (P - 1) then (ckB x3 16 <| ckI ((G 233 x3) + 1) <| ckB x3 16 <| tk (up G 233 x3 ((G 233 x3) + 1)) fun G12 =>
  ckB x3 16 <| ckB x3 16 <| tk (up G12 234 x3 (G12 235 x3)) fun G13 =>
  ckB x3 16 <| tk (up G13 235 x3 0) fun G14 =>
  ckB x3 16 <| ckI ((G14 100 68) + 1) <| if ((G14 100 68) + 1) < (G14 233 x3) then (some (Sum.inl (G14)))
  else (bd (Tw_sendRound P W x3 G14) fun _ G16 =>
  some (Sum.inl (G16))))
  else (ex (Tw_takeMessage_b308 P W G)))
noncomputable def Tw_takeMessage_l226 (P W : Int) (x3 : Int) (G : St) : Option (Int × St) :=
  wh (fun s => Tw_takeMessage_s226 P W x3 s) (G)
theorem Tw_takeMessage_l226_eq (P W : Int) (x3 : Int) (G : St) : Tw_takeMessage_l226 P W x3 G = (Tw_takeMessage_s226 P W x3 G).bind (lk (fun s => Tw_takeMessage_l226 P W x3 s) some) := by
  exact wh_eq _ _
noncomputable def Tw_takeMessage_b219 (P W : Int) (x3 : Int) (s0 : Int) (s1 : Int) (s2 : Int) (G : St) : Option (Int × St) :=
  ckI (s1 + s0) <| ckB s2 16 <| tk (up G 235 s2 (s1 + s0)) fun G10 =>
  tk (up G10 100 131 0) fun G11 =>
  Tw_takeMessage_l226 P W x3 G11
noncomputable def Tw_takeMessage_b194 (P W : Int) (x3 : Int) (x4 : Int) (s0 : Int) (s1 : Int) (s2 : Int) (G : St) : Option (Int × St) :=
  ckI (s1 + s0) <| ckB s2 16 <| tk (up G 234 s2 (s1 + s0)) fun G9 =>
  ckB x3 16 <| ckB x3 16 <| Tw_takeMessage_b219 P W x3 (if x4 = (G9 233 x3) then 0 else 1) (G9 235 x3) x3 G9
noncomputable def Tw_takeMessage_s35 (P W : Int) (x2 : Int) (x3 : Int) (x4 : Int) (x5 : Int) (G : St) : Option ((Int × St) ⊕ (Int × St)) :=
  if x5 < (G 100 139) then (ckI (x5 + 1) <| ckB (x5 + 1) 1000 <| ckB x5 1000 <| tk (up G 242 x5 (G 242 (x5 + 1))) fun G17 =>
  ckI (x5 + 1) <| ckB (x5 + 1) 1000 <| ckB x5 1000 <| tk (up G17 243 x5 (G17 243 (x5 + 1))) fun G18 =>
  ckI (x5 + 1) <| ckB (x5 + 1) 1000 <| ckB x5 1000 <| tk (up G18 244 x5 (G18 244 (x5 + 1))) fun G19 =>
  ckI (x5 + 1) <| some (Sum.inl (x5 + 1, G19)))
  else (ex (ckI (30060 * x3) <| ckB x3 16 <| ckI ((30060 * x3) + (G 236 x3)) <| ckB ((30060 * x3) + (G 236 x3)) 481000 <| tk (up G 238 ((30060 * x3) + (G 236 x3)) x2) fun G2 =>
  ckI (30060 * x3) <| ckB x3 16 <| ckI ((30060 * x3) + (G2 236 x3)) <| ckB ((30060 * x3) + (G2 236 x3)) 481000 <| tk (up G2 239 ((30060 * x3) + (G2 236 x3)) x4) fun G3 =>
  ckB x3 16 <| ckI ((G3 236 x3) + 1) <| ckB x3 16 <| tk (up G3 236 x3 ((G3 236 x3) + 1)) fun G4 =>
  ckB x3 16 <| bd (Tw_lengthOf x2 x4 G4) fun z5 G6 =>
  ckI ((G4 237 x3) + z5) <| ckB x3 16 <| tk (up G6 237 x3 ((G4 237 x3) + z5)) fun G7 =>
  ckI ((G7 100 140) + 1) <| tk (up G7 100 140 ((G7 100 140) + 1)) fun G8 =>
  ckB x3 16 <| ckB x3 16 <| Tw_takeMessage_b194 P W x3 x4 (if x4 = (G8 233 x3) then 1 else 0) (G8 234 x3) x3 G8))
noncomputable def Tw_takeMessage_l35 (P W : Int) (x2 : Int) (x3 : Int) (x4 : Int) (x5 : Int) (G : St) : Option (Int × St) :=
  wh (fun s => Tw_takeMessage_s35 P W x2 x3 x4 s.1 s.2) (x5, G)
theorem Tw_takeMessage_l35_eq (P W : Int) (x2 : Int) (x3 : Int) (x4 : Int) (x5 : Int) (G : St) : Tw_takeMessage_l35 P W x2 x3 x4 x5 G = (Tw_takeMessage_s35 P W x2 x3 x4 x5 G).bind (lk (fun s => Tw_takeMessage_l35 P W x2 x3 x4 s.1 s.2) some) := by
  exact wh_eq _ _
noncomputable def Tw_takeMessage (P W : Int) (x1 : Int) (G : St) : Option (Int × St) :=
  ckB x1 1000 <| ckB x1 1000 <| ckB x1 1000 <| ckI ((G 100 139) - 1) <| tk (up G 100 139 ((G 100 139) - 1)) fun G1 =>
  Tw_takeMessage_l35 P W (G 242 x1) (G 243 x1) (G 244 x1) x1 G1
noncomputable def Tw_deliver (P W : Int) (x1 : Int) (G : St) : Option (Int × St) :=
  if x1 < 0 then (some ((-1), G))
  else (if x1 < (G 100 139) then (bd (Tw_takeMessage P W x1 G) fun z1 G2 =>
  some (z1, G2))
  else (some ((-1), G)))
noncomputable def Tw_rush_b59 (P W : Int) (x3 : Int) (G : St) : Option (Int × St) :=
  some (x3, G)
noncomputable def Tw_rush_b54 (P W : Int) (x1 : Int) (x2 : Int) (s0 : Int) (s1 : Int) (G : St) : Option ((Int × St) ⊕ (Int × St)) :=
  ckI (s1 + s0) <| some (Sum.inl (s1 + s0, G))
noncomputable def Tw_rush_s19 (P W : Int) (x1 : Int) (x2 : Int) (x3 : Int) (G : St) : Option ((Int × St) ⊕ (Int × St)) :=
  if x3 < x1 then (if 0 < (G 100 139) then (ckD x2 (G 100 139) <| bd (Tw_takeMessage P W (x2 % (G 100 139)) G) fun z1 G2 =>
  Tw_rush_b54 P W x1 x2 (if z1 < 0 then 0 else 1) x3 G2)
  else (ex (Tw_rush_b59 P W x3 G)))
  else (ex (Tw_rush_b59 P W x3 G))
noncomputable def Tw_rush_l19 (P W : Int) (x1 : Int) (x2 : Int) (x3 : Int) (G : St) : Option (Int × St) :=
  wh (fun s => Tw_rush_s19 P W x1 x2 s.1 s.2) (x3, G)
theorem Tw_rush_l19_eq (P W : Int) (x1 : Int) (x2 : Int) (x3 : Int) (G : St) : Tw_rush_l19 P W x1 x2 x3 G = (Tw_rush_s19 P W x1 x2 x3 G).bind (lk (fun s => Tw_rush_l19 P W x1 x2 s.1 s.2) some) := by
  exact wh_eq _ _
noncomputable def Tw_rush (P W : Int) (x1 : Int) (x2 : Int) (G : St) : Option (Int × St) :=
  if x1 < 0 then (some ((-1), G))
  else (if x2 < 0 then (some ((-1), G))
  else (if 100000 < x1 then (some ((-1), G))
  else (Tw_rush_l19 P W x1 x2 0 G)))
noncomputable def Tw_viewBits (P W : Int) (x1 : Int) (G : St) : Option (Int × St) :=
  ckB x1 16 <| ckI ((G 245 x1) * P) <| ckI (3 * (G 100 67)) <| ckI (((G 245 x1) * P) + (3 * (G 100 67))) <| ckB x1 16 <| ckI ((((G 245 x1) * P) + (3 * (G 100 67))) + (G 237 x1)) <| some ((((G 245 x1) * P) + (3 * (G 100 67))) + (G 237 x1), G)
noncomputable def Tw_party (P W : Int) (x1 : Int) (x2 : Int) (G : St) : Option (Int × St) :=
  if (G 100 124) = 0 then (some ((-1), G))
  else (if x1 < 0 then (some ((-1), G))
  else (if x1 < P then (if x2 < 0 then (some ((-1), G))
  else (if 2 < x2 then (some ((-1), G))
  else (if x2 = 0 then (ckB x1 16 <| some (G 233 x1, G))
  else (if x2 = 1 then (ckB x1 16 <| some (G 236 x1, G))
  else (bd (Tw_viewBits P W x1 G) fun z1 G2 =>
  some (z1, G2))))))
  else (some ((-1), G))))
noncomputable def Tw_dealt_b86 (P W : Int) (x1 : Int) (s0 : Int) (G : St) : Option (Int × St) :=
  some (j_an (j_sr s0 x1) 1, G)
noncomputable def Tw_dealt (P W : Int) (x1 : Int) (x2 : Int) (x3 : Int) (G : St) : Option (Int × St) :=
  if (G 100 124) = 0 then (some ((-1), G))
  else (if x1 < 0 then (some ((-1), G))
  else (if x1 < P then (if x2 < 0 then (some ((-1), G))
  else (if x2 < (G 100 66) then (if x3 < 0 then (some ((-1), G))
  else (if 2 < x3 then (some ((-1), G))
  else (ckB x2 40000 <| if (G 172 x2) = 0 then (some ((-1), G))
  else (if x3 = 0 then (ckB x2 40000 <| Tw_dealt_b86 P W x1 (G 227 x2) G)
  else (if x3 = 1 then (ckB x2 40000 <| Tw_dealt_b86 P W x1 (G 228 x2) G)
  else (ckB x2 40000 <| Tw_dealt_b86 P W x1 (G 229 x2) G))))))
  else (some ((-1), G))))
  else (some ((-1), G))))
noncomputable def Tw_share_b61 (P W : Int) (x1 : Int) (x2 : Int) (s0 : Int) (G : St) : Option (Int × St) :=
  ckB x1 16 <| if s0 < (G 233 x1) then (ckB x2 48192 <| some (j_an (j_sr (G 226 x2) x1) 1, G))
  else (some ((-1), G))
noncomputable def Tw_share (P W : Int) (x1 : Int) (x2 : Int) (G : St) : Option (Int × St) :=
  if (G 100 124) = 0 then (some ((-1), G))
  else (if x1 < 0 then (some ((-1), G))
  else (if x1 < P then (if x2 < 0 then (some ((-1), G))
  else (ckI ((G 100 65) + (G 100 66)) <| if x2 < ((G 100 65) + (G 100 66)) then (if x2 < (G 100 65) then (Tw_share_b61 P W x1 x2 0 G)
  else (ckI (x2 - (G 100 65)) <| ckB (x2 - (G 100 65)) 40000 <| Tw_share_b61 P W x1 x2 (G 173 (x2 - (G 100 65))) G))
  else (some ((-1), G))))
  else (some ((-1), G))))
noncomputable def Tw_view_s357 (P W : Int) (x1 : Int) (x3 : Int) (x5 : Int) (G : St) : Option ((Int × Int × St) ⊕ (Int × St)) :=
  ckB x5 481000 <| ckB x5 481000 <| bd (Tw_lengthOf (G 238 x5) (G 239 x5) G) fun z4 G5 =>
  if x3 < z4 then (ex (ckB x5 481000 <| ckB x5 481000 <| bd (Tw_sentBit (G5 238 x5) x1 (G5 239 x5) x3 G5) fun z6 G7 =>
  some (z6, G7)))
  else (ckB x5 481000 <| ckB x5 481000 <| bd (Tw_lengthOf (G5 238 x5) (G5 239 x5) G5) fun z8 G9 =>
  ckI (x3 - z8) <| ckI (x5 + 1) <| some (Sum.inl (x3 - z8, x5 + 1, G9)))
noncomputable def Tw_view_l357 (P W : Int) (x1 : Int) (x3 : Int) (x5 : Int) (G : St) : Option (Int × St) :=
  wh (fun s => Tw_view_s357 P W x1 s.1 s.2.1 s.2.2) (x3, x5, G)
theorem Tw_view_l357_eq (P W : Int) (x1 : Int) (x3 : Int) (x5 : Int) (G : St) : Tw_view_l357 P W x1 x3 x5 G = (Tw_view_s357 P W x1 x3 x5 G).bind (lk (fun s => Tw_view_l357 P W x1 s.1 s.2.1 s.2.2) some) := by
  exact wh_eq _ _
noncomputable def Tw_view_b278 (P W : Int) (x1 : Int) (x3 : Int) (x5 : Int) (x6 : Int) (G : St) : Option ((Int × Int × St) ⊕ (Int × St)) :=
  ckB x5 40000 <| ckI (x6 + (G 172 x5)) <| ckI (x5 + 1) <| some (Sum.inl (x5 + 1, x6 + (G 172 x5), G))
noncomputable def Tw_view_b336 (P W : Int) (x1 : Int) (s0 : Int) (G : St) : Option (Int × St) :=
  some (j_an (j_sr s0 x1) 1, G)
noncomputable def Tw_view_s260 (P W : Int) (x1 : Int) (x3 : Int) (x5 : Int) (x6 : Int) (G : St) : Option ((Int × Int × St) ⊕ (Int × St)) :=
  ckB x5 40000 <| if (G 172 x5) = 0 then (Tw_view_b278 P W x1 x3 x5 x6 G)
  else (ckD x3 3 <| if x6 < (x3 / 3) then (Tw_view_b278 P W x1 x3 x5 x6 G)
  else (ex (ckD x3 3 <| if (x3 % 3) = 0 then (ckB x5 40000 <| Tw_view_b336 P W x1 (G 227 x5) G)
  else (ckD x3 3 <| if (x3 % 3) = 1 then (ckB x5 40000 <| Tw_view_b336 P W x1 (G 228 x5) G)
  else (ckB x5 40000 <| Tw_view_b336 P W x1 (G 229 x5) G)))))
noncomputable def Tw_view_l260 (P W : Int) (x1 : Int) (x3 : Int) (x5 : Int) (x6 : Int) (G : St) : Option (Int × St) :=
  wh (fun s => Tw_view_s260 P W x1 x3 s.1 s.2.1 s.2.2) (x5, x6, G)
theorem Tw_view_l260_eq (P W : Int) (x1 : Int) (x3 : Int) (x5 : Int) (x6 : Int) (G : St) : Tw_view_l260 P W x1 x3 x5 x6 G = (Tw_view_s260 P W x1 x3 x5 x6 G).bind (lk (fun s => Tw_view_l260 P W x1 x3 s.1 s.2.1 s.2.2) some) := by
  exact wh_eq _ _
noncomputable def Tw_view_b156 (P W : Int) (x1 : Int) (x3 : Int) (x4 : Int) (x5 : Int) (x7 : Int) (s0 : Int) (s1 : Int) (G : St) : Option ((Int × Int × St) ⊕ (Int × St)) :=
  ckI (s1 - s0) <| ckI (x7 + 1) <| some (Sum.inl (s1 - s0, x7 + 1, G))
noncomputable def Tw_view_b132 (P W : Int) (x1 : Int) (x3 : Int) (x4 : Int) (x5 : Int) (x6 : Int) (x7 : Int) (G : St) : Option ((Int × Int × St) ⊕ (Int × St)) :=
  ckB x7 256 <| if (G 177 x7) = x1 then (ckB x7 256 <| Tw_view_b156 P W x1 x3 x4 x5 x7 (G 178 x7) x6 G)
  else (Tw_view_b156 P W x1 x3 x4 x5 x7 0 x6 G)
noncomputable def Tw_view_b210 (P W : Int) (x6 : Int) (x7 : Int) (s0 : Int) (s1 : Int) (G : St) : Option (Int × St) :=
  ckI (s1 + s0) <| ckB x7 256 <| ckI ((G 179 x7) + x6) <| ckB ((G 179 x7) + x6) 48192 <| some (j_an (j_sr (G 226 ((G 179 x7) + x6)) (s1 + s0)) 1, G)
noncomputable def Tw_view_s109 (P W : Int) (x1 : Int) (x3 : Int) (x4 : Int) (x5 : Int) (x6 : Int) (x7 : Int) (G : St) : Option ((Int × Int × St) ⊕ (Int × St)) :=
  ckB x7 256 <| if (G 177 x7) = x1 then (ckB x7 256 <| if x6 < (G 178 x7) then (ex (if x5 = 0 then (ckB x7 256 <| some (w32 (j_lan (j_lsr (G 181 x7) x6) 1), G))
  else (ckI (x3 - x4) <| ckI (P - 1) <| ckD (x3 - x4) (P - 1) <| Tw_view_b210 P W x6 x7 (if ((x3 - x4) % (P - 1)) < x1 then 0 else 1) ((x3 - x4) % (P - 1)) G)))
  else (Tw_view_b132 P W x1 x3 x4 x5 x6 x7 G))
  else (Tw_view_b132 P W x1 x3 x4 x5 x6 x7 G)
noncomputable def Tw_view_l109 (P W : Int) (x1 : Int) (x3 : Int) (x4 : Int) (x5 : Int) (x6 : Int) (x7 : Int) (G : St) : Option (Int × St) :=
  wh (fun s => Tw_view_s109 P W x1 x3 x4 x5 s.1 s.2.1 s.2.2) (x6, x7, G)
theorem Tw_view_l109_eq (P W : Int) (x1 : Int) (x3 : Int) (x4 : Int) (x5 : Int) (x6 : Int) (x7 : Int) (G : St) : Tw_view_l109 P W x1 x3 x4 x5 x6 x7 G = (Tw_view_s109 P W x1 x3 x4 x5 x6 x7 G).bind (lk (fun s => Tw_view_l109 P W x1 x3 x4 x5 s.1 s.2.1 s.2.2) some) := by
  exact wh_eq _ _
noncomputable def Tw_view_b104 (P W : Int) (x1 : Int) (x3 : Int) (x4 : Int) (x5 : Int) (s0 : Int) (G : St) : Option (Int × St) :=
  Tw_view_l109 P W x1 x3 x4 x5 s0 0 G
noncomputable def Tw_view_b82 (P W : Int) (x1 : Int) (x3 : Int) (x4 : Int) (s0 : Int) (G : St) : Option (Int × St) :=
  if s0 = 0 then (Tw_view_b104 P W x1 x3 x4 s0 x3 G)
  else (ckI (x3 - x4) <| ckI (P - 1) <| ckD (x3 - x4) (P - 1) <| Tw_view_b104 P W x1 x3 x4 s0 ((x3 - x4) / (P - 1)) G)
noncomputable def Tw_view_b42 (P W : Int) (x1 : Int) (x2 : Int) (s0 : Int) (s2 : Int) (G : St) : Option (Int × St) :=
  bd (Tw_viewBits P W s0 G) fun z1 G2 =>
  if s2 < z1 then (ckB x1 16 <| ckI ((G2 245 x1) * P) <| if x2 < ((G2 245 x1) * P) then (Tw_view_b82 P W x1 x2 (G2 245 x1) (if x2 < (G2 245 x1) then 0 else 1) G2)
  else (ckI ((G2 245 x1) * P) <| ckI (x2 - ((G2 245 x1) * P)) <| ckI (3 * (G2 100 67)) <| if (x2 - ((G2 245 x1) * P)) < (3 * (G2 100 67)) then (Tw_view_l260 P W x1 (x2 - ((G2 245 x1) * P)) 0 0 G2)
  else (ckI (3 * (G2 100 67)) <| ckI ((x2 - ((G2 245 x1) * P)) - (3 * (G2 100 67))) <| vl ((x2 - ((G2 245 x1) * P)) - (3 * (G2 100 67))) fun v3 =>
  ckI (30060 * x1) <| Tw_view_l357 P W x1 v3 (30060 * x1) G2)))
  else (some ((-1), G2))
noncomputable def Tw_view (P W : Int) (x1 : Int) (x2 : Int) (G : St) : Option (Int × St) :=
  if (G 100 124) = 0 then (some ((-1), G))
  else (if x1 < 0 then (some ((-1), G))
  else (if x1 < P then (if x2 < 0 then (some ((-1), G))
  else (Tw_view_b42 P W x1 x2 (if x1 < 0 then 0 else (if x1 < P then x1 else 0)) x2 G))
  else (some ((-1), G))))
noncomputable def Tw_told_b31 (P W : Int) (G : St) : Option (Int × St) :=
  some ((-1), G)
noncomputable def Tw_told_s59 (P W : Int) (x2 : Int) (x3 : Int) (x5 : Int) (G : St) : Option ((Int × Int × St) ⊕ (Int × St)) :=
  ckB x2 500 <| if x5 < (G 182 x2) then (ckI (32 * x2) <| ckI ((32 * x2) + x5) <| ckB ((32 * x2) + x5) 16000 <| bd (Tw_shareOf (G 183 ((32 * x2) + x5)) G) fun z1 G2 =>
  bd (Tw_parity z1 G2) fun z3 G4 =>
  ckL (x3 + (j_lsl z3 x5)) <| ckI (x5 + 1) <| some (Sum.inl (x3 + (j_lsl z3 x5), x5 + 1, G4)))
  else (ex (some (x3, G)))
noncomputable def Tw_told_l59 (P W : Int) (x2 : Int) (x3 : Int) (x5 : Int) (G : St) : Option (Int × St) :=
  wh (fun s => Tw_told_s59 P W x2 s.1 s.2.1 s.2.2) (x3, x5, G)
theorem Tw_told_l59_eq (P W : Int) (x2 : Int) (x3 : Int) (x5 : Int) (G : St) : Tw_told_l59 P W x2 x3 x5 G = (Tw_told_s59 P W x2 x3 x5 G).bind (lk (fun s => Tw_told_l59 P W x2 s.1 s.2.1 s.2.2) some) := by
  exact wh_eq _ _
noncomputable def Tw_told (P W : Int) (x1 : Int) (x2 : Int) (G : St) : Option (Int × St) :=
  if (G 100 124) = 0 then (Tw_told_b31 P W G)
  else (if x1 < 0 then (Tw_told_b31 P W G)
  else (if x1 < P then (if x2 < 0 then (Tw_told_b31 P W G)
  else (if x2 < (G 100 69) then (ckB x1 16 <| ckI ((G 100 68) + 2) <| if (G 233 x1) < ((G 100 68) + 2) then (some ((-1), G))
  else (Tw_told_l59 P W x2 0 0 G))
  else (Tw_told_b31 P W G)))
  else (Tw_told_b31 P W G)))
noncomputable def Tw_inputWord (x1 : Int) (G : St) : Option (Int × St) :=
  if (G 100 124) = 0 then (ckB x1 256 <| some (G 180 x1, G))
  else (ckB x1 256 <| some (G 181 x1, G))
noncomputable def Tw_signed (P W : Int) (x1 : Int) (G : St) : Option (Int × St) :=
  ckI (W - 1) <| if (j_lsr x1 (W - 1)) = 1 then (ckL (x1 - (j_lsl 1 W)) <| some (x1 - (j_lsl 1 W), G))
  else (some (x1, G))
noncomputable def Tw_meanBinary_b84 (P W : Int) (x2 : Int) (x4 : Int) (G : St) : Option (Int × St) :=
  some (j_lor x2 x4, G)
noncomputable def Tw_meanBinary_b89 (P W : Int) (x2 : Int) (x4 : Int) (G : St) : Option (Int × St) :=
  some (j_lan x2 x4, G)
noncomputable def Tw_meanBinary_b94 (P W : Int) (x2 : Int) (x4 : Int) (G : St) : Option (Int × St) :=
  some (j_lxo x2 x4, G)
noncomputable def Tw_meanBinary_b99 (P W : Int) (x2 : Int) (x4 : Int) (G : St) : Option (Int × St) :=
  some ((if x2 = x4 then 1 else 0), G)
noncomputable def Tw_meanBinary_b112 (P W : Int) (x2 : Int) (x4 : Int) (G : St) : Option (Int × St) :=
  some ((if x2 = x4 then 0 else 1), G)
noncomputable def Tw_meanBinary_b125 (P W : Int) (x2 : Int) (x4 : Int) (G : St) : Option (Int × St) :=
  bd (Tw_signed P W x2 G) fun z1 G2 =>
  bd (Tw_signed P W x4 G2) fun z3 G4 =>
  some ((if z1 < z3 then 1 else 0), G4)
noncomputable def Tw_meanBinary_b146 (P W : Int) (x2 : Int) (x4 : Int) (G : St) : Option (Int × St) :=
  bd (Tw_signed P W x2 G) fun z5 G6 =>
  bd (Tw_signed P W x4 G6) fun z7 G8 =>
  some ((if z7 < z5 then 0 else 1), G8)
noncomputable def Tw_meanBinary_b167 (P W : Int) (x2 : Int) (x4 : Int) (G : St) : Option (Int × St) :=
  bd (Tw_signed P W x2 G) fun z9 G10 =>
  bd (Tw_signed P W x4 G10) fun z11 G12 =>
  some ((if z11 < z9 then 1 else 0), G12)
noncomputable def Tw_meanBinary_b188 (P W : Int) (x2 : Int) (x4 : Int) (G : St) : Option (Int × St) :=
  bd (Tw_signed P W x2 G) fun z13 G14 =>
  bd (Tw_signed P W x4 G14) fun z15 G16 =>
  some ((if z13 < z15 then 0 else 1), G16)
noncomputable def Tw_meanBinary_b209 (P W : Int) (x2 : Int) (x4 : Int) (G : St) : Option (Int × St) :=
  some (j_lan (j_lsl x2 (w32 x4)) (2 ^ W.toNat - 1), G)
noncomputable def Tw_meanBinary_b220 (P W : Int) (x2 : Int) (x4 : Int) (G : St) : Option (Int × St) :=
  some (j_lsr x2 (w32 x4), G)
noncomputable def Tw_meanBinary_b226 (P W : Int) (x2 : Int) (x4 : Int) (G : St) : Option (Int × St) :=
  ckL (x2 + x4) <| some (j_lan (x2 + x4) (2 ^ W.toNat - 1), G)
noncomputable def Tw_meanBinary_b236 (P W : Int) (x2 : Int) (x4 : Int) (G : St) : Option (Int × St) :=
  ckL (x2 - x4) <| some (j_lan (x2 - x4) (2 ^ W.toNat - 1), G)
noncomputable def Tw_meanBinary_b246 (P W : Int) (x2 : Int) (x4 : Int) (G : St) : Option (Int × St) :=
  some (j_lan (w64 (x2 * x4)) (2 ^ W.toNat - 1), G)
noncomputable def Tw_meanBinary_b256 (P W : Int) (x2 : Int) (x4 : Int) (G : St) : Option (Int × St) :=
  if x4 = 0 then (some (2 ^ W.toNat - 1, G))
  else (ckD x2 x4 <| some (x2 / x4, G))
noncomputable def Tw_meanBinary_b275 (P W : Int) (x2 : Int) (x4 : Int) (G : St) : Option (Int × St) :=
  if x4 = 0 then (some (x2, G))
  else (ckD x2 x4 <| some (x2 % x4, G))
noncomputable def Tw_meanBinary (P W : Int) (x1 : Int) (x2 : Int) (x4 : Int) (G : St) : Option (Int × St) :=
  swt x1 1 [Tw_meanBinary_b84 P W x2 x4 G, Tw_meanBinary_b89 P W x2 x4 G, Tw_meanBinary_b84 P W x2 x4 G, Tw_meanBinary_b94 P W x2 x4 G, Tw_meanBinary_b89 P W x2 x4 G, Tw_meanBinary_b99 P W x2 x4 G, Tw_meanBinary_b112 P W x2 x4 G, Tw_meanBinary_b125 P W x2 x4 G, Tw_meanBinary_b146 P W x2 x4 G, Tw_meanBinary_b167 P W x2 x4 G, Tw_meanBinary_b188 P W x2 x4 G, Tw_meanBinary_b209 P W x2 x4 G, Tw_meanBinary_b220 P W x2 x4 G, Tw_meanBinary_b226 P W x2 x4 G, Tw_meanBinary_b236 P W x2 x4 G, Tw_meanBinary_b246 P W x2 x4 G, Tw_meanBinary_b256 P W x2 x4 G] (Tw_meanBinary_b275 P W x2 x4 G)
noncomputable def Tw_pushWord (x1 : Int) (G : St) : Option (Int × St) :=
  ckB (G 100 115) 4200 <| tk (up G 215 (G 100 115) x1) fun G1 =>
  ckI ((G1 100 115) + 1) <| tk (up G1 100 115 ((G1 100 115) + 1)) fun G2 =>
  some (0, G2)
noncomputable def Tw_meanOperand_b596 (P W : Int) (x1 : Int) (G : St) : Option (Int × St) :=
  ckI (x1 + 1) <| some (x1 + 1, G)
noncomputable def Tw_meanOperand_b72 (P W : Int) (x1 : Int) (G : St) : Option (Int × St) :=
  ckB x1 12000 <| bd (Tw_pushWord (G 119 x1) G) fun _ G2 =>
  Tw_meanOperand_b596 P W x1 G2
noncomputable def Tw_meanOperand_b101 (P W : Int) (x1 : Int) (s0 : Int) (G : St) : Option (Int × St) :=
  bd (Tw_pushWord s0 G) fun _ G4 =>
  Tw_meanOperand_b596 P W x1 G4
noncomputable def Tw_meanOperand_b85 (P W : Int) (x1 : Int) (G : St) : Option (Int × St) :=
  ckB x1 12000 <| Tw_meanOperand_b101 P W x1 (if (G 115 x1) = 3 then 1 else 0) G
noncomputable def Tw_meanOperand_b210 (P W : Int) (x1 : Int) (s0 : Int) (G : St) : Option (Int × St) :=
  bd (Tw_pushWord s0 G) fun _ G6 =>
  Tw_meanOperand_b596 P W x1 G6
noncomputable def Tw_meanOperand_b201 (P W : Int) (x1 : Int) (s0 : Int) (G : St) : Option (Int × St) :=
  ckB s0 400 <| ckB x1 12000 <| ckI ((G 212 s0) + (G 152 x1)) <| ckB ((G 212 s0) + (G 152 x1)) 4200 <| Tw_meanOperand_b210 P W x1 (G 215 ((G 212 s0) + (G 152 x1))) G
noncomputable def Tw_meanOperand_b107 (P W : Int) (x1 : Int) (G : St) : Option (Int × St) :=
  ckB x1 12000 <| if (G 151 x1) = 1 then (ckB x1 12000 <| bd (Tw_inputWord (G 152 x1) G) fun z7 G8 =>
  Tw_meanOperand_b210 P W x1 z7 G8)
  else (if (G 151 x1) = 2 then (ckB x1 12000 <| ckB (G 152 x1) 256 <| Tw_meanOperand_b210 P W x1 (G 217 (G 152 x1)) G)
  else (if (G 151 x1) = 3 then (ckB x1 12000 <| ckB (G 152 x1) 12000 <| Tw_meanOperand_b210 P W x1 (j_lan (G 208 (G 152 x1)) (2 ^ W.toNat - 1)) G)
  else (if 0 < (G 100 110) then (ckI ((G 100 110) - 1) <| Tw_meanOperand_b201 P W x1 ((G 100 110) - 1) G)
  else (Tw_meanOperand_b201 P W x1 0 G))))
noncomputable def Tw_meanOperand_b293 (P W : Int) (x1 : Int) (x4 : Int) (G : St) : Option (Int × St) :=
  bd (Tw_pushWord x4 G) fun _ G11 =>
  Tw_meanOperand_b596 P W x1 G11
noncomputable def Tw_meanOperand_b291 (P W : Int) (x1 : Int) (s0 : Int) (G : St) : Option (Int × St) :=
  Tw_meanOperand_b293 P W x1 s0 G
noncomputable def Tw_meanOperand_b216 (P W : Int) (x1 : Int) (G : St) : Option (Int × St) :=
  ckI ((G 100 115) - 1) <| tk (up G 100 115 ((G 100 115) - 1)) fun G9 =>
  ckB (G9 100 115) 4200 <| ckB x1 12000 <| if (G9 215 (G9 100 115)) < (G9 153 x1) then (ckB x1 12000 <| if (G9 151 x1) = 1 then (ckB x1 12000 <| ckI ((G9 152 x1) + (w32 (G9 215 (G9 100 115)))) <| bd (Tw_inputWord ((G9 152 x1) + (w32 (G9 215 (G9 100 115)))) G9) fun z12 G13 =>
  Tw_meanOperand_b291 P W x1 z12 G13)
  else (ckB x1 12000 <| ckI ((G9 152 x1) + (w32 (G9 215 (G9 100 115)))) <| ckB ((G9 152 x1) + (w32 (G9 215 (G9 100 115)))) 256 <| Tw_meanOperand_b291 P W x1 (G9 217 ((G9 152 x1) + (w32 (G9 215 (G9 100 115))))) G9))
  else (Tw_meanOperand_b293 P W x1 0 G9)
noncomputable def Tw_meanOperand_b302 (P W : Int) (x1 : Int) (G : St) : Option (Int × St) :=
  ckB x1 12000 <| ckB (G 152 x1) 12000 <| ckI ((G 100 115) - (G 117 (G 152 x1))) <| ckB (G 100 110) 400 <| tk (up G 212 (G 100 110) ((G 100 115) - (G 117 (G 152 x1)))) fun G14 =>
  ckI (x1 + 1) <| ckB (G14 100 110) 400 <| tk (up G14 213 (G14 100 110) (x1 + 1)) fun G15 =>
  ckI ((G15 100 110) + 1) <| tk (up G15 100 110 ((G15 100 110) + 1)) fun G16 =>
  bd (Tw_bodyOf (G 152 x1) G16) fun z17 G18 =>
  some (z17, G18)
noncomputable def Tw_meanOperand_b357 (P W : Int) (x1 : Int) (G : St) : Option (Int × St) :=
  ckI ((G 100 115) - 1) <| tk (up G 100 115 ((G 100 115) - 1)) fun G19 =>
  ckI ((G19 100 115) - 1) <| ckI ((G19 100 115) - 1) <| ckB ((G19 100 115) - 1) 4200 <| ckB (G19 100 115) 4200 <| ckB ((G19 100 115) - 1) 4200 <| tk (up G19 215 ((G19 100 115) - 1) (j_lan (j_lsr (G19 215 ((G19 100 115) - 1)) (w32 (G19 215 (G19 100 115)))) 1)) fun G20 =>
  Tw_meanOperand_b596 P W x1 G20
noncomputable def Tw_meanOperand_b475 (P W : Int) (x1 : Int) (s0 : Int) (s1 : Int) (G : St) : Option (Int × St) :=
  ckB s1 4200 <| tk (up G 215 s1 s0) fun G21 =>
  Tw_meanOperand_b596 P W x1 G21
noncomputable def Tw_meanOperand_b405 (P W : Int) (x1 : Int) (G : St) : Option (Int × St) :=
  ckI ((G 100 115) - 1) <| ckB ((G 100 115) - 1) 4200 <| ckI ((G 100 115) - 1) <| ckB x1 12000 <| if (G 116 x1) = 33 then (ckL (1 - (G 215 ((G 100 115) - 1))) <| Tw_meanOperand_b475 P W x1 (1 - (G 215 ((G 100 115) - 1))) ((G 100 115) - 1) G)
  else (ckB x1 12000 <| if (G 116 x1) = 45 then (ckL (-(G 215 ((G 100 115) - 1))) <| Tw_meanOperand_b475 P W x1 (j_lan (-(G 215 ((G 100 115) - 1))) (2 ^ W.toNat - 1)) ((G 100 115) - 1) G)
  else (Tw_meanOperand_b475 P W x1 (j_lan (j_lxo (G 215 ((G 100 115) - 1)) (-1)) (2 ^ W.toNat - 1)) ((G 100 115) - 1) G))
noncomputable def Tw_meanOperand_b479 (P W : Int) (x1 : Int) (G : St) : Option (Int × St) :=
  ckI ((G 100 115) - 1) <| tk (up G 100 115 ((G 100 115) - 1)) fun G22 =>
  ckI ((G22 100 115) - 1) <| ckB x1 12000 <| ckI ((G22 100 115) - 1) <| ckB ((G22 100 115) - 1) 4200 <| ckB (G22 100 115) 4200 <| bd (Tw_meanBinary P W (G22 116 x1) (G22 215 ((G22 100 115) - 1)) (G22 215 (G22 100 115)) G22) fun z23 G24 =>
  ckB ((G22 100 115) - 1) 4200 <| tk (up G24 215 ((G22 100 115) - 1) z23) fun G25 =>
  Tw_meanOperand_b596 P W x1 G25
noncomputable def Tw_meanOperand_b592 (P W : Int) (x1 : Int) (s0 : Int) (s1 : Int) (G : St) : Option (Int × St) :=
  ckB s1 4200 <| tk (up G 215 s1 s0) fun G27 =>
  Tw_meanOperand_b596 P W x1 G27
noncomputable def Tw_meanOperand_b533 (P W : Int) (x1 : Int) (G : St) : Option (Int × St) :=
  ckI ((G 100 115) - 2) <| tk (up G 100 115 ((G 100 115) - 2)) fun G26 =>
  ckI ((G26 100 115) - 1) <| ckI ((G26 100 115) - 1) <| ckB ((G26 100 115) - 1) 4200 <| if (G26 215 ((G26 100 115) - 1)) = 1 then (ckB (G26 100 115) 4200 <| Tw_meanOperand_b592 P W x1 (G26 215 (G26 100 115)) ((G26 100 115) - 1) G26)
  else (ckI ((G26 100 115) + 1) <| ckB ((G26 100 115) + 1) 4200 <| Tw_meanOperand_b592 P W x1 (G26 215 ((G26 100 115) + 1)) ((G26 100 115) - 1) G26)
noncomputable def Tw_meanOperand (P W : Int) (x1 : Int) (G : St) : Option (Int × St) :=
  ckB x1 12000 <| swt (G 115 x1) 2 [Tw_meanOperand_b72 P W x1 G, Tw_meanOperand_b85 P W x1 G, Tw_meanOperand_b85 P W x1 G, Tw_meanOperand_b107 P W x1 G, Tw_meanOperand_b596 P W x1 G, Tw_meanOperand_b216 P W x1 G, Tw_meanOperand_b596 P W x1 G, Tw_meanOperand_b302 P W x1 G, Tw_meanOperand_b596 P W x1 G, Tw_meanOperand_b357 P W x1 G, Tw_meanOperand_b405 P W x1 G, Tw_meanOperand_b479 P W x1 G, Tw_meanOperand_b533 P W x1 G] (Tw_meanOperand_b596 P W x1 G)
noncomputable def Tw_meanStatement_b558 (x1 : Int) (G : St) : Option (Int × St) :=
  ckI (x1 + 1) <| some (x1 + 1, G)
noncomputable def Tw_meanStatement_b151 (x1 : Int) (x2 : Int) (x4 : Int) (x5 : Int) (s0 : Int) (s1 : Int) (G : St) : Option ((Int × St) ⊕ (Int × St)) :=
  if s1 < s0 then (ckB x1 12000 <| ckI ((G 134 x1) + x5) <| ckB ((G 134 x1) + x5) 256 <| tk (up G 217 ((G 134 x1) + x5) x2) fun G2 =>
  ckI (x5 + 1) <| some (Sum.inl (x5 + 1, G2)))
  else (ex (Tw_meanStatement_b558 x1 G))
noncomputable def Tw_meanStatement_s138 (x1 : Int) (x2 : Int) (x4 : Int) (x5 : Int) (G : St) : Option ((Int × St) ⊕ (Int × St)) :=
  Tw_meanStatement_b151 x1 x2 x4 x5 (if x4 = 0 then 1 else x4) x5 G
noncomputable def Tw_meanStatement_l138 (x1 : Int) (x2 : Int) (x4 : Int) (x5 : Int) (G : St) : Option (Int × St) :=
  wh (fun s => Tw_meanStatement_s138 x1 x2 x4 s.1 s.2) (x5, G)
theorem Tw_meanStatement_l138_eq (x1 : Int) (x2 : Int) (x4 : Int) (x5 : Int) (G : St) : Tw_meanStatement_l138 x1 x2 x4 x5 G = (Tw_meanStatement_s138 x1 x2 x4 x5 G).bind (lk (fun s => Tw_meanStatement_l138 x1 x2 x4 s.1 s.2) some) := by
  exact wh_eq _ _
noncomputable def Tw_meanStatement_b119 (x1 : Int) (x2 : Int) (G : St) : Option (Int × St) :=
  ckB x1 12000 <| vl (w32 (j_lan (j_lsr (G 119 x1) 8) 255)) fun v1 =>
  Tw_meanStatement_l138 x1 x2 v1 0 G
noncomputable def Tw_meanStatement_b84 (x1 : Int) (G : St) : Option (Int × St) :=
  ckB x1 12000 <| if (G 119 x1) < 65536 then (Tw_meanStatement_b119 x1 0 G)
  else (ckI ((G 100 115) - 1) <| tk (up G 100 115 ((G 100 115) - 1)) fun G3 =>
  ckB (G3 100 115) 4200 <| Tw_meanStatement_b119 x1 (G3 215 (G3 100 115)) G3)
noncomputable def Tw_meanStatement_b178 (x1 : Int) (G : St) : Option (Int × St) :=
  ckB x1 12000 <| ckI ((w32 (G 119 x1)) + 1) <| some ((w32 (G 119 x1)) + 1, G)
noncomputable def Tw_meanStatement_b188 (G : St) : Option (Int × St) :=
  ckI ((G 100 110) - 1) <| tk (up G 100 110 ((G 100 110) - 1)) fun G4 =>
  ckB (G4 100 110) 400 <| ckI ((G4 100 115) - 1) <| ckB ((G4 100 115) - 1) 4200 <| ckB (G4 212 (G4 100 110)) 4200 <| tk (up G4 215 (G4 212 (G4 100 110)) (G4 215 ((G4 100 115) - 1))) fun G5 =>
  ckB (G5 100 110) 400 <| ckI ((G5 212 (G5 100 110)) + 1) <| tk (up G5 100 115 ((G5 212 (G5 100 110)) + 1)) fun G6 =>
  ckB (G6 100 110) 400 <| some (G6 213 (G6 100 110), G6)
noncomputable def Tw_meanStatement_b248 (x1 : Int) (G : St) : Option (Int × St) :=
  ckI ((G 100 115) - 1) <| tk (up G 100 115 ((G 100 115) - 1)) fun G7 =>
  ckB (G7 100 115) 4200 <| ckB (G7 100 118) 500 <| tk (up G7 218 (G7 100 118) (G7 215 (G7 100 115))) fun G8 =>
  ckI ((G8 100 118) + 1) <| tk (up G8 100 118 ((G8 100 118) + 1)) fun G9 =>
  Tw_meanStatement_b558 x1 G9
noncomputable def Tw_meanStatement_b289 (x1 : Int) (G : St) : Option (Int × St) :=
  ckI ((G 100 115) - 1) <| tk (up G 100 115 ((G 100 115) - 1)) fun G10 =>
  ckB x1 12000 <| ckB (G10 100 115) 4200 <| ckB (G10 152 x1) 256 <| tk (up G10 217 (G10 152 x1) (G10 215 (G10 100 115))) fun G11 =>
  Tw_meanStatement_b558 x1 G11
noncomputable def Tw_meanStatement_b322 (x1 : Int) (G : St) : Option (Int × St) :=
  ckI ((G 100 115) - 2) <| tk (up G 100 115 ((G 100 115) - 2)) fun G12 =>
  ckB (G12 100 115) 4200 <| ckB x1 12000 <| if (G12 215 (G12 100 115)) < (G12 153 x1) then (ckB x1 12000 <| ckB (G12 100 115) 4200 <| ckI ((G12 152 x1) + (w32 (G12 215 (G12 100 115)))) <| ckI ((G12 100 115) + 1) <| ckB ((G12 100 115) + 1) 4200 <| ckB ((G12 152 x1) + (w32 (G12 215 (G12 100 115)))) 256 <| tk (up G12 217 ((G12 152 x1) + (w32 (G12 215 (G12 100 115)))) (G12 215 ((G12 100 115) + 1))) fun G13 =>
  Tw_meanStatement_b558 x1 G13)
  else (Tw_meanStatement_b558 x1 G12)
noncomputable def Tw_meanStatement_b388 (x1 : Int) (G : St) : Option (Int × St) :=
  ckI ((G 100 115) - 1) <| tk (up G 100 115 ((G 100 115) - 1)) fun G14 =>
  ckB (G14 100 115) 4200 <| if (G14 215 (G14 100 115)) = 0 then (ckB x1 12000 <| ckI ((G14 117 x1) + 1) <| some ((G14 117 x1) + 1, G14))
  else (Tw_meanStatement_b558 x1 G14)
noncomputable def Tw_meanStatement_b421 (x1 : Int) (G : St) : Option (Int × St) :=
  ckB x1 12000 <| ckI ((G 117 x1) + 1) <| some ((G 117 x1) + 1, G)
noncomputable def Tw_meanStatement_b430 (x1 : Int) (G : St) : Option (Int × St) :=
  ckI ((G 100 115) - 2) <| tk (up G 100 115 ((G 100 115) - 2)) fun G15 =>
  ckB (G15 100 115) 4200 <| ckI ((G15 100 115) + 1) <| ckB ((G15 100 115) + 1) 4200 <| if (G15 215 ((G15 100 115) + 1)) < (G15 215 (G15 100 115)) then (ckB x1 12000 <| ckI ((G15 117 x1) + 1) <| some ((G15 117 x1) + 1, G15))
  else (ckB (G15 100 115) 4200 <| ckB x1 12000 <| tk (up G15 208 x1 (G15 215 (G15 100 115))) fun G16 =>
  ckI ((G16 100 115) + 1) <| ckB ((G16 100 115) + 1) 4200 <| ckB x1 12000 <| tk (up G16 209 x1 (G16 215 ((G16 100 115) + 1))) fun G17 =>
  Tw_meanStatement_b558 x1 G17)
noncomputable def Tw_meanStatement_b508 (x1 : Int) (G : St) : Option (Int × St) :=
  ckB x1 12000 <| ckB (G 116 x1) 12000 <| ckB x1 12000 <| ckB (G 116 x1) 12000 <| if (G 208 (G 116 x1)) < (G 209 (G 116 x1)) then (ckB x1 12000 <| ckB (G 116 x1) 12000 <| ckL ((G 208 (G 116 x1)) + 1) <| ckB (G 116 x1) 12000 <| tk (up G 208 (G 116 x1) ((G 208 (G 116 x1)) + 1)) fun G18 =>
  ckB x1 12000 <| ckI ((G18 116 x1) + 1) <| some ((G18 116 x1) + 1, G18))
  else (Tw_meanStatement_b558 x1 G)
noncomputable def Tw_meanStatement (x1 : Int) (G : St) : Option (Int × St) :=
  ckB x1 12000 <| swt (G 115 x1) 25 [Tw_meanStatement_b84 x1 G, Tw_meanStatement_b178 x1 G, Tw_meanStatement_b558 x1 G, Tw_meanStatement_b558 x1 G, Tw_meanStatement_b188 G, Tw_meanStatement_b248 x1 G, Tw_meanStatement_b558 x1 G, Tw_meanStatement_b289 x1 G, Tw_meanStatement_b558 x1 G, Tw_meanStatement_b322 x1 G, Tw_meanStatement_b388 x1 G, Tw_meanStatement_b421 x1 G, Tw_meanStatement_b558 x1 G, Tw_meanStatement_b558 x1 G, Tw_meanStatement_b430 x1 G, Tw_meanStatement_b508 x1 G] (Tw_meanStatement_b558 x1 G)
noncomputable def Tw_mean_b49 (P W : Int) (s0 : Int) (G : St) : Option ((Int × St) ⊕ (Int × St)) :=
  some (Sum.inl (s0, G))
noncomputable def Tw_mean_s17 (P W : Int) (x1 : Int) (G : St) : Option ((Int × St) ⊕ (Int × St)) :=
  if x1 < (G 100 13) then (ckB x1 12000 <| if (G 115 x1) < 20 then (bd (Tw_meanOperand P W x1 G) fun z7 G8 =>
  Tw_mean_b49 P W z7 G8)
  else (bd (Tw_meanStatement x1 G) fun z5 G6 =>
  Tw_mean_b49 P W z5 G6))
  else (ex (ckB 1 2 <| tk (up G 100 119 1) fun G4 =>
  some (0, G4)))
noncomputable def Tw_mean_l17 (P W : Int) (x1 : Int) (G : St) : Option (Int × St) :=
  wh (fun s => Tw_mean_s17 P W s.1 s.2) (x1, G)
theorem Tw_mean_l17_eq (P W : Int) (x1 : Int) (G : St) : Tw_mean_l17 P W x1 G = (Tw_mean_s17 P W x1 G).bind (lk (fun s => Tw_mean_l17 P W s.1 s.2) some) := by
  exact wh_eq _ _
noncomputable def Tw_mean (P W : Int) (G : St) : Option (Int × St) :=
  tk (up G 100 115 0) fun G1 =>
  tk (up G1 100 118 0) fun G2 =>
  tk (up G2 100 110 0) fun G3 =>
  Tw_mean_l17 P W 0 G3
noncomputable def Tw_truth_b19 (P W : Int) (G : St) : Option (Int × St) :=
  some ((-1), G)
noncomputable def Tw_truth_b34 (P W : Int) (x1 : Int) (G : St) : Option (Int × St) :=
  ckB x1 500 <| some (G 218 x1, G)
noncomputable def Tw_truth (P W : Int) (x1 : Int) (G : St) : Option (Int × St) :=
  if (G 100 83) = 0 then (Tw_truth_b19 P W G)
  else (if x1 < 0 then (Tw_truth_b19 P W G)
  else (if x1 < (G 100 69) then (if (G 100 119) = 0 then (bd (Tw_mean P W G) fun _ G2 =>
  Tw_truth_b34 P W x1 G2)
  else (Tw_truth_b34 P W x1 G))
  else (Tw_truth_b19 P W G)))
