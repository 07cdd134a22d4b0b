set_option maxRecDepth 100000
theorem fr_Tw_word_s2 (x1 : Int) (x2 : Int) (x3 : Int) (G : St) : Fr (fS [104] []) G (Sum.elim (fun q => q.2) (fun q => q.2)) (Tw_word_s2 x1 x2 x3 G) := by
  unfold Tw_word_s2
  exact frIf (frCI (frCI (frCI (frCB (frTk (fq_upL rfl fq_rf) (fun G1 hG1 => frCI (frS hG1))))))) (frEx (frS fq_rf))
theorem fr_Tw_word_l2 (x1 : Int) (x2 : Int) (x3 : Int) (G : St) : Fr (fS [104] []) G (fun q => q.2) (Tw_word_l2 x1 x2 x3 G) := frWh (pi := fun (s : (Int × St)) => s.2) (fun (s : (Int × St)) => fr_Tw_word_s2 x1 x2 s.1 s.2)
theorem fr_Tw_word (x1 : Int) (x2 : Int) (G : St) : Fr (fS [104] []) G (fun q => q.2) (Tw_word x1 x2 G) := by
  unfold Tw_word
  exact frT (fr_Tw_word_l2 _ _ _ _) (fS_mono rfl rfl) fq_rf
theorem fr_Tw_feed (x1 : Int) (x2 : Int) (x3 : Int) (x4 : Int) (x5 : Int) (G : St) : Fr (fS [104] []) G (fun q => q.2) (Tw_feed x1 x2 x3 x4 x5 G) := by
  unfold Tw_feed
  exact frBd (fr_Tw_word _ _ _) (fS_mono rfl rfl) fq_rf (fun _ G2 hG2 => frBd (fr_Tw_word _ _ _) (fS_mono rfl rfl) hG2 (fun _ G4 hG4 => frBd (fr_Tw_word _ _ _) (fS_mono rfl rfl) hG4 (fun _ G6 hG6 => frBd (fr_Tw_word _ _ _) (fS_mono rfl rfl) hG6 (fun _ G8 hG8 => frBd (fr_Tw_word _ _ _) (fS_mono rfl rfl) hG8 (fun _ G10 hG10 => frS hG10)))))
theorem fr_Tw_end_s125 (x2 : Int) (G : St) : Fr (fS [104] []) G (Sum.elim (fun q => q.2) (fun q => q.2)) (Tw_end_s125 x2 G) := by
  unfold Tw_end_s125
  exact frIf (frCB (frTk (fq_upL rfl fq_rf) (fun G2 hG2 => frCI (frS hG2)))) (frEx (frS fq_rf))
theorem fr_Tw_end_l125 (x2 : Int) (G : St) : Fr (fS [104] []) G (fun q => q.2) (Tw_end_l125 x2 G) := frWh (pi := fun (s : (Int × St)) => s.2) (fun (s : (Int × St)) => fr_Tw_end_s125 s.1 s.2)
theorem fr_Tw_end_s85 (x1 : Int) (x2 : Int) (G : St) : Fr (fS [104, 105] [(100, 5)]) G (Sum.elim (fun q => q.2) (fun q => q.2)) (Tw_end_s85 x1 x2 G) := by
  unfold Tw_end_s85
  exact frIf (frCI (frCB (frCB (frTk (fq_upL rfl fq_rf) (fun G3 hG3 => frCI (frS hG3)))))) (frEx (frCI (frTk (fq_upK rfl fq_rf) (fun G1 hG1 => frT (fr_Tw_end_l125 _ _) (fS_mono rfl rfl) hG1))))
theorem fr_Tw_end_l85 (x1 : Int) (x2 : Int) (G : St) : Fr (fS [104, 105] [(100, 5)]) G (fun q => q.2) (Tw_end_l85 x1 x2 G) := frWh (pi := fun (s : (Int × St)) => s.2) (fun (s : (Int × St)) => fr_Tw_end_s85 x1 s.1 s.2)
theorem fr_Tw_end_b77 (x1 : Int) (x2 : Int) (G : St) : Fr (fS [] []) G (Sum.elim (fun q => q.2) (fun q => q.2)) (Tw_end_b77 x1 x2 G) := by
  unfold Tw_end_b77
  exact frCI (frS fq_rf)
theorem fr_Tw_end_s26 (x1 : Int) (x2 : Int) (G : St) : Fr (fS [104, 105] [(100, 5)]) G (Sum.elim (fun q => q.2) (fun q => q.2)) (Tw_end_s26 x1 x2 G) := by
  unfold Tw_end_s26
  exact frIf (frCB (frIf (frT (fr_Tw_end_b77 _ _ _) (fS_mono rfl rfl) fq_rf) (frCB (frIf (frT (fr_Tw_end_b77 _ _ _) (fS_mono rfl rfl) fq_rf) (frCB (frIf (frEx (frS fq_rf)) (frCB (frIf (frEx (frS fq_rf)) (frT (fr_Tw_end_b77 _ _ _) (fS_mono rfl rfl) fq_rf))))))))) (frEx (frT (fr_Tw_end_l85 _ _ _) (fS_mono rfl rfl) fq_rf))
theorem fr_Tw_end_l26 (x1 : Int) (x2 : Int) (G : St) : Fr (fS [104, 105] [(100, 5)]) G (fun q => q.2) (Tw_end_l26 x1 x2 G) := frWh (pi := fun (s : (Int × St)) => s.2) (fun (s : (Int × St)) => fr_Tw_end_s26 x1 s.1 s.2)
theorem fr_Tw_end (x1 : Int) (G : St) : Fr (fS [104, 105] [(100, 5)]) G (fun q => q.2) (Tw_end x1 G) := by
  unfold Tw_end
  exact frIf (frS fq_rf) (frIf (frS fq_rf) (frCI (frIf (frS fq_rf) (frT (fr_Tw_end_l26 _ _ _) (fS_mono rfl rfl) fq_rf))))
theorem fr_Tw_widthOf (P W : Int) (x1 : Int) (G : St) : Fr (fS [] []) G (fun q => q.2) (Tw_widthOf P W x1 G) := by
  unfold Tw_widthOf
  exact frS fq_rf
theorem fr_Tw_inputsOfAll_b153 (P W : Int) (x1 : Int) (G : St) : Fr (fS [] []) G (Sum.elim (fun q => q.2) (fun q => q.2)) (Tw_inputsOfAll_b153 P W x1 G) := by
  unfold Tw_inputsOfAll_b153
  exact frCI (frS fq_rf)
theorem fr_Tw_inputsOfAll_b55 (P W : Int) (x1 : Int) (x2 : Int) (x3 : Int) (s0 : Int) (s1 : Int) (G : St) : Fr (fS [177, 178, 179, 180] [(100, 65), (100, 75)]) G (Sum.elim (fun q => q.2) (Sum.elim (fun q => q.2) (fun q => q.2))) (Tw_inputsOfAll_b55 P W x1 x2 x3 s0 s1 G) := by
  unfold Tw_inputsOfAll_b55
  exact frIf (frCB (frCB (frTk (fq_upL rfl fq_rf) (fun G3 hG3 => frCB (frBd (fr_Tw_widthOf _ _ _ _) (fS_mono rfl rfl) hG3 (fun _ G5 hG5 => frCB (frTk (fq_upL rfl hG5) (fun G6 hG6 => frCB (frTk (fq_upL rfl hG6) (fun G7 hG7 => frCB (frTk (fq_upL rfl hG7) (fun G8 hG8 => frCB (frCI (frTk (fq_upK rfl hG8) (fun G9 hG9 => frCI (frTk (fq_upK rfl hG9) (fun G10 hG10 => frCI (frS hG10)))))))))))))))))) (frEx (frT (fr_Tw_inputsOfAll_b153 _ _ _ _) (fS_mono rfl rfl) fq_rf))
theorem fr_Tw_inputsOfAll_s45 (P W : Int) (x1 : Int) (x2 : Int) (x3 : Int) (G : St) : Fr (fS [177, 178, 179, 180] [(100, 65), (100, 75)]) G (Sum.elim (fun q => q.2) (Sum.elim (fun q => q.2) (fun q => q.2))) (Tw_inputsOfAll_s45 P W x1 x2 x3 G) := by
  unfold Tw_inputsOfAll_s45
  exact frT (fr_Tw_inputsOfAll_b55 _ _ _ _ _ _ _ _) (fS_mono rfl rfl) fq_rf
theorem fr_Tw_inputsOfAll_l45 (P W : Int) (x1 : Int) (x2 : Int) (x3 : Int) (G : St) : Fr (fS [177, 178, 179, 180] [(100, 65), (100, 75)]) G (Sum.elim (fun q => q.2) (fun q => q.2)) (Tw_inputsOfAll_l45 P W x1 x2 x3 G) := frWh (pi := fun (s : (Int × St)) => s.2) (fun (s : (Int × St)) => fr_Tw_inputsOfAll_s45 P W x1 x2 s.1 s.2)
theorem fr_Tw_inputsOfAll_s12 (P W : Int) (x1 : Int) (G : St) : Fr (fS [177, 178, 179, 180] [(100, 65), (100, 75)]) G (Sum.elim (fun q => q.2) (fun q => q.2)) (Tw_inputsOfAll_s12 P W x1 G) := by
  unfold Tw_inputsOfAll_s12
  exact frIf (frCB (frIf (frCB (frT (fr_Tw_inputsOfAll_l45 _ _ _ _ _ _) (fS_mono rfl rfl) fq_rf)) (frT (fr_Tw_inputsOfAll_b153 _ _ _ _) (fS_mono rfl rfl) fq_rf))) (frEx (frS fq_rf))
theorem fr_Tw_inputsOfAll_l12 (P W : Int) (x1 : Int) (G : St) : Fr (fS [177, 178, 179, 180] [(100, 65), (100, 75)]) G (fun q => q.2) (Tw_inputsOfAll_l12 P W x1 G) := frWh (pi := fun (s : (Int × St)) => s.2) (fun (s : (Int × St)) => fr_Tw_inputsOfAll_s12 P W s.1 s.2)
theorem fr_Tw_inputsOfAll (P W : Int) (G : St) : Fr (fS [177, 178, 179, 180] [(100, 65), (100, 75)]) G (fun q => q.2) (Tw_inputsOfAll P W G) := by
  unfold Tw_inputsOfAll
  exact frTk (fq_upK rfl fq_rf) (fun G1 hG1 => frTk (fq_upK rfl hG1) (fun G2 hG2 => frT (fr_Tw_inputsOfAll_l12 _ _ _ _) (fS_mono rfl rfl) hG2))
theorem fr_Tw_levelOf (x1 : Int) (G : St) : Fr (fS [] []) G (fun q => q.2) (Tw_levelOf x1 G) := by
  unfold Tw_levelOf
  exact frCI (frIf (frS fq_rf) (frIf (frS fq_rf) (frCB (frS fq_rf))))
theorem fr_Tw_fail (x1 : Int) (x2 : Int) (G : St) : Fr (fS [] [(100, 7), (100, 8)]) G (fun q => q.2) (Tw_fail x1 x2 G) := by
  unfold Tw_fail
  exact frIf (frTk (fq_upK rfl fq_rf) (fun G1 hG1 => frTk (fq_upK rfl hG1) (fun G2 hG2 => frS hG2))) (frS fq_rf)
theorem fr_Tw_statementPlace (G : St) : Fr (fS [] []) G (fun q => q.2) (Tw_statementPlace G) := by
  unfold Tw_statementPlace
  exact frIf (frS fq_rf) (frCI (frCB (frS fq_rf)))
theorem fr_Tw_newGate_b17 (G : St) : Fr (fS [] [(100, 7), (100, 8)]) G (fun q => q.2) (Tw_newGate_b17 G) := by
  unfold Tw_newGate_b17
  exact frBd (fr_Tw_statementPlace _) (fS_mono rfl rfl) fq_rf (fun _ G2 hG2 => frBd (fr_Tw_fail _ _ _) (fS_mono rfl rfl) hG2 (fun _ G4 hG4 => frS hG4))
theorem fr_Tw_newGate_b110 (s0 : Int) (G : St) : Fr (fS [] [(100, 68)]) G (fun q => q.2) (Tw_newGate_b110 s0 G) := by
  unfold Tw_newGate_b110
  exact frTk (fq_upK rfl fq_rf) (fun G11 hG11 => frCI (frCI (frCI (frS hG11))))
theorem fr_Tw_newGate (x1 : Int) (x2 : Int) (x3 : Int) (x4 : Int) (G : St) : Fr (fS [172, 173, 174, 175] [(100, 7), (100, 8), (100, 66), (100, 67), (100, 68)]) G (fun q => q.2) (Tw_newGate x1 x2 x3 x4 G) := by
  unfold Tw_newGate
  exact frIf (frT (fr_Tw_newGate_b17 _) (fS_mono rfl rfl) fq_rf) (frIf (frT (fr_Tw_newGate_b17 _) (fS_mono rfl rfl) fq_rf) (frCB (frTk (fq_upL rfl fq_rf) (fun G5 hG5 => frCB (frTk (fq_upL rfl hG5) (fun G6 hG6 => frCB (frTk (fq_upL rfl hG6) (fun G7 hG7 => frCB (frTk (fq_upL rfl hG7) (fun G8 hG8 => frCI (frTk (fq_upK rfl hG8) (fun G9 hG9 => frCI (frTk (fq_upK rfl hG9) (fun G10 hG10 => frT (fr_Tw_newGate_b110 _ _) (fS_mono rfl rfl) hG10))))))))))))))
theorem fr_Tw_and_b83 (s0 : Int) (s1 : Int) (s2 : Int) (s3 : Int) (s4 : Int) (G : St) : Fr (fS [172, 173, 174, 175] [(100, 7), (100, 8), (100, 66), (100, 67), (100, 68)]) G (fun q => q.2) (Tw_and_b83 s0 s1 s2 s3 s4 G) := by
  unfold Tw_and_b83
  exact frCI (frBd (fr_Tw_newGate _ _ _ _ _) (fS_mono rfl rfl) fq_rf (fun _ G6 hG6 => frS hG6))
theorem fr_Tw_and (x1 : Int) (x2 : Int) (G : St) : Fr (fS [172, 173, 174, 175] [(100, 7), (100, 8), (100, 66), (100, 67), (100, 68)]) G (fun q => q.2) (Tw_and x1 x2 G) := by
  unfold Tw_and
  exact frIf (frS fq_rf) (frIf (frS fq_rf) (frIf (frS fq_rf) (frBd (fr_Tw_levelOf _ _) (fS_mono rfl rfl) fq_rf (fun _ G2 hG2 => frBd (fr_Tw_levelOf _ _) (fS_mono rfl rfl) hG2 (fun _ G4 hG4 => frT (fr_Tw_and_b83 _ _ _ _ _ _) (fS_mono rfl rfl) hG4)))))
theorem fr_Tw_xor_b78 (x3 : Int) (s0 : Int) (s1 : Int) (s2 : Int) (s3 : Int) (G : St) : Fr (fS [172, 173, 174, 175] [(100, 7), (100, 8), (100, 66), (100, 67), (100, 68)]) G (fun q => q.2) (Tw_xor_b78 x3 s0 s1 s2 s3 G) := by
  unfold Tw_xor_b78
  exact frBd (fr_Tw_newGate _ _ _ _ _) (fS_mono rfl rfl) fq_rf (fun _ G6 hG6 => frS hG6)
theorem fr_Tw_xor (x1 : Int) (x2 : Int) (G : St) : Fr (fS [172, 173, 174, 175] [(100, 7), (100, 8), (100, 66), (100, 67), (100, 68)]) G (fun q => q.2) (Tw_xor x1 x2 G) := by
  unfold Tw_xor
  exact frIf (frS fq_rf) (frIf (frS fq_rf) (frIf (frCI (frS fq_rf)) (frBd (fr_Tw_levelOf _ _) (fS_mono rfl rfl) fq_rf (fun _ G2 hG2 => frBd (fr_Tw_levelOf _ _) (fS_mono rfl rfl) hG2 (fun _ G4 hG4 => frT (fr_Tw_xor_b78 _ _ _ _ _ _) (fS_mono rfl rfl) hG4)))))
theorem fr_Tw_mux (x1 : Int) (x2 : Int) (x3 : Int) (G : St) : Fr (fS [172, 173, 174, 175] [(100, 7), (100, 8), (100, 66), (100, 67), (100, 68)]) G (fun q => q.2) (Tw_mux x1 x2 x3 G) := by
  unfold Tw_mux
  exact frBd (fr_Tw_xor _ _ _) (fS_mono rfl rfl) fq_rf (fun _ G2 hG2 => frBd (fr_Tw_and _ _ _) (fS_mono rfl rfl) hG2 (fun _ G4 hG4 => frBd (fr_Tw_xor _ _ _) (fS_mono rfl rfl) hG4 (fun _ G6 hG6 => frS hG6)))
theorem fr_Tw_divide_s182 (P W : Int) (x1 : Int) (x2 : Int) (x3 : Int) (G : St) : Fr (fS [172, 173, 174, 175, 193] [(100, 7), (100, 8), (100, 66), (100, 67), (100, 68)]) G (Sum.elim (fun q => q.2) (Sum.elim (fun q => q.2) (fun q => q.2))) (Tw_divide_s182 P W x1 x2 x3 G) := by
  unfold Tw_divide_s182
  exact frIf (frCB (frCB (frBd (fr_Tw_mux _ _ _ _) (fS_mono rfl rfl) fq_rf (fun _ G5 hG5 => frCB (frTk (fq_upL rfl hG5) (fun G6 hG6 => frCI (frS hG6))))))) (frEx (frCI (frS fq_rf)))
theorem fr_Tw_divide_l182 (P W : Int) (x1 : Int) (x2 : Int) (x3 : Int) (G : St) : Fr (fS [172, 173, 174, 175, 193] [(100, 7), (100, 8), (100, 66), (100, 67), (100, 68)]) G (Sum.elim (fun q => q.2) (fun q => q.2)) (Tw_divide_l182 P W x1 x2 x3 G) := frWh (pi := fun (s : (Int × St)) => s.2) (fun (s : (Int × St)) => fr_Tw_divide_s182 P W x1 x2 s.1 s.2)
theorem fr_Tw_divide_b140 (P W : Int) (x1 : Int) (x2 : Int) (x3 : Int) (x4 : Int) (G : St) : Fr (fS [172, 173, 174, 175] [(100, 7), (100, 8), (100, 66), (100, 67), (100, 68)]) G (Sum.elim (fun q => q.2.2) (Sum.elim (fun q => q.2) (fun q => q.2))) (Tw_divide_b140 P W x1 x2 x3 x4 G) := by
  unfold Tw_divide_b140
  exact frCB (frBd (fr_Tw_xor _ _ _) (fS_mono rfl rfl) fq_rf (fun _ G10 hG10 => frBd (fr_Tw_and _ _ _) (fS_mono rfl rfl) hG10 (fun _ G12 hG12 => frBd (fr_Tw_xor _ _ _) (fS_mono rfl rfl) hG12 (fun _ G14 hG14 => frCI (frS hG14)))))
theorem fr_Tw_divide_s91 (P W : Int) (x1 : Int) (x2 : Int) (x3 : Int) (G : St) : Fr (fS [172, 173, 174, 175, 190, 193, 194] [(100, 7), (100, 8), (100, 66), (100, 67), (100, 68)]) G (Sum.elim (fun q => q.2.2) (Sum.elim (fun q => q.2) (fun q => q.2))) (Tw_divide_s91 P W x1 x2 x3 G) := by
  unfold Tw_divide_s91
  exact frIf (frEx (frCB (frTk (fq_upL rfl fq_rf) (fun G3 hG3 => frT (fr_Tw_divide_l182 _ _ _ _ _ _) (fS_mono rfl rfl) hG3)))) (frCB (frBd (fr_Tw_xor _ _ _) (fS_mono rfl rfl) fq_rf (fun _ G8 hG8 => frIf (frCB (frBd (fr_Tw_xor _ _ _) (fS_mono rfl rfl) hG8 (fun _ G16 hG16 => frCB (frTk (fq_upL rfl hG16) (fun G17 hG17 => frT (fr_Tw_divide_b140 _ _ _ _ _ _ _) (fS_mono rfl rfl) hG17))))) (frT (fr_Tw_divide_b140 _ _ _ _ _ _ _) (fS_mono rfl rfl) hG8))))
theorem fr_Tw_divide_l91 (P W : Int) (x1 : Int) (x2 : Int) (x3 : Int) (G : St) : Fr (fS [172, 173, 174, 175, 190, 193, 194] [(100, 7), (100, 8), (100, 66), (100, 67), (100, 68)]) G (Sum.elim (fun q => q.2) (fun q => q.2)) (Tw_divide_l91 P W x1 x2 x3 G) := frWh (pi := fun (s : (Int × Int × St)) => s.2.2) (fun (s : (Int × Int × St)) => fr_Tw_divide_s91 P W x1 s.1 s.2.1 s.2.2)
theorem fr_Tw_divide_s51 (P W : Int) (x1 : Int) (x2 : Int) (G : St) : Fr (fS [172, 173, 174, 175, 189, 190, 193, 194] [(100, 7), (100, 8), (100, 66), (100, 67), (100, 68)]) G (Sum.elim (fun q => q.2) (Sum.elim (fun q => q.2) (fun q => q.2))) (Tw_divide_s51 P W x1 x2 G) := by
  unfold Tw_divide_s51
  exact frIf (frCI (frCB (frCB (frTk (fq_upL rfl fq_rf) (fun G18 hG18 => frCI (frS hG18)))))) (frEx (frCB (frCB (frTk (fq_upL rfl fq_rf) (fun G2 hG2 => frT (fr_Tw_divide_l91 _ _ _ _ _ _) (fS_mono rfl rfl) hG2)))))
theorem fr_Tw_divide_l51 (P W : Int) (x1 : Int) (x2 : Int) (G : St) : Fr (fS [172, 173, 174, 175, 189, 190, 193, 194] [(100, 7), (100, 8), (100, 66), (100, 67), (100, 68)]) G (Sum.elim (fun q => q.2) (fun q => q.2)) (Tw_divide_l51 P W x1 x2 G) := frWh (pi := fun (s : (Int × St)) => s.2) (fun (s : (Int × St)) => fr_Tw_divide_s51 P W x1 s.1 s.2)
theorem fr_Tw_divide_s42 (P W : Int) (x1 : Int) (G : St) : Fr (fS [172, 173, 174, 175, 189, 190, 193, 194] [(100, 7), (100, 8), (100, 66), (100, 67), (100, 68)]) G (Sum.elim (fun q => q.2) (fun q => q.2)) (Tw_divide_s42 P W x1 G) := by
  unfold Tw_divide_s42
  exact frIf (frEx (frS fq_rf)) (frT (fr_Tw_divide_l51 _ _ _ _ _) (fS_mono rfl rfl) fq_rf)
theorem fr_Tw_divide_l42 (P W : Int) (x1 : Int) (G : St) : Fr (fS [172, 173, 174, 175, 189, 190, 193, 194] [(100, 7), (100, 8), (100, 66), (100, 67), (100, 68)]) G (fun q => q.2) (Tw_divide_l42 P W x1 G) := frWh (pi := fun (s : (Int × St)) => s.2) (fun (s : (Int × St)) => fr_Tw_divide_s42 P W s.1 s.2)
theorem fr_Tw_divide_s2 (P W : Int) (x1 : Int) (G : St) : Fr (fS [172, 173, 174, 175, 188, 189, 190, 193, 194] [(100, 7), (100, 8), (100, 66), (100, 67), (100, 68)]) G (Sum.elim (fun q => q.2) (fun q => q.2)) (Tw_divide_s2 P W x1 G) := by
  unfold Tw_divide_s2
  exact frIf (frEx (frCB (frTk (fq_upL rfl fq_rf) (fun G1 hG1 => frCI (frT (fr_Tw_divide_l42 _ _ _ _) (fS_mono rfl rfl) hG1))))) (frCB (frTk (fq_upL rfl fq_rf) (fun G19 hG19 => frCI (frS hG19))))
theorem fr_Tw_divide_l2 (P W : Int) (x1 : Int) (G : St) : Fr (fS [172, 173, 174, 175, 188, 189, 190, 193, 194] [(100, 7), (100, 8), (100, 66), (100, 67), (100, 68)]) G (fun q => q.2) (Tw_divide_l2 P W x1 G) := frWh (pi := fun (s : (Int × St)) => s.2) (fun (s : (Int × St)) => fr_Tw_divide_s2 P W s.1 s.2)
theorem fr_Tw_divide (P W : Int) (G : St) : Fr (fS [172, 173, 174, 175, 188, 189, 190, 193, 194] [(100, 7), (100, 8), (100, 66), (100, 67), (100, 68)]) G (fun q => q.2) (Tw_divide P W G) := by
  unfold Tw_divide
  exact frT (fr_Tw_divide_l2 _ _ _ _) (fS_mono rfl rfl) fq_rf
theorem fr_Tw_equal_b98 (x2 : Int) (x3 : Int) (x4 : Int) (s0 : Int) (s1 : Int) (G : St) : Fr (fS [190] []) G (Sum.elim (fun q => q.2.2) (Sum.elim (fun q => q.2) (fun q => q.2))) (Tw_equal_b98 x2 x3 x4 s0 s1 G) := by
  unfold Tw_equal_b98
  exact frCB (frTk (fq_upL rfl fq_rf) (fun G1 hG1 => frCI (frCI (frS hG1))))
theorem fr_Tw_equal_s49 (x2 : Int) (x3 : Int) (x4 : Int) (G : St) : Fr (fS [172, 173, 174, 175, 190] [(100, 7), (100, 8), (100, 66), (100, 67), (100, 68)]) G (Sum.elim (fun q => q.2.2) (Sum.elim (fun q => q.2) (fun q => q.2))) (Tw_equal_s49 x2 x3 x4 G) := by
  unfold Tw_equal_s49
  exact frIf (frCI (frIf (frCB (frCI (frCB (frBd (fr_Tw_and _ _ _) (fS_mono rfl rfl) fq_rf (fun _ G3 hG3 => frT (fr_Tw_equal_b98 _ _ _ _ _ _) (fS_mono rfl rfl) hG3))))) (frCB (frT (fr_Tw_equal_b98 _ _ _ _ _ _) (fS_mono rfl rfl) fq_rf)))) (frEx (frS fq_rf))
theorem fr_Tw_equal_l49 (x2 : Int) (x3 : Int) (x4 : Int) (G : St) : Fr (fS [172, 173, 174, 175, 190] [(100, 7), (100, 8), (100, 66), (100, 67), (100, 68)]) G (Sum.elim (fun q => q.2) (fun q => q.2)) (Tw_equal_l49 x2 x3 x4 G) := frWh (pi := fun (s : (Int × Int × St)) => s.2.2) (fun (s : (Int × Int × St)) => fr_Tw_equal_s49 x2 s.1 s.2.1 s.2.2)
theorem fr_Tw_equal_s39 (x2 : Int) (G : St) : Fr (fS [172, 173, 174, 175, 190] [(100, 7), (100, 8), (100, 66), (100, 67), (100, 68)]) G (Sum.elim (fun q => q.2) (fun q => q.2)) (Tw_equal_s39 x2 G) := by
  unfold Tw_equal_s39
  exact frIf (frT (fr_Tw_equal_l49 _ _ _ _) (fS_mono rfl rfl) fq_rf) (frEx (frCB (frS fq_rf)))
theorem fr_Tw_equal_l39 (x2 : Int) (G : St) : Fr (fS [172, 173, 174, 175, 190] [(100, 7), (100, 8), (100, 66), (100, 67), (100, 68)]) G (fun q => q.2) (Tw_equal_l39 x2 G) := frWh (pi := fun (s : (Int × St)) => s.2) (fun (s : (Int × St)) => fr_Tw_equal_s39 s.1 s.2)
theorem fr_Tw_equal_s2 (x1 : Int) (x2 : Int) (G : St) : Fr (fS [172, 173, 174, 175, 190] [(100, 7), (100, 8), (100, 66), (100, 67), (100, 68)]) G (Sum.elim (fun q => q.2) (fun q => q.2)) (Tw_equal_s2 x1 x2 G) := by
  unfold Tw_equal_s2
  exact frIf (frCB (frCB (frBd (fr_Tw_xor _ _ _) (fS_mono rfl rfl) fq_rf (fun _ G5 hG5 => frCB (frTk (fq_upL rfl hG5) (fun G6 hG6 => frCI (frS hG6))))))) (frEx (frT (fr_Tw_equal_l39 _ _) (fS_mono rfl rfl) fq_rf))
theorem fr_Tw_equal_l2 (x1 : Int) (x2 : Int) (G : St) : Fr (fS [172, 173, 174, 175, 190] [(100, 7), (100, 8), (100, 66), (100, 67), (100, 68)]) G (fun q => q.2) (Tw_equal_l2 x1 x2 G) := frWh (pi := fun (s : (Int × St)) => s.2) (fun (s : (Int × St)) => fr_Tw_equal_s2 x1 s.1 s.2)
theorem fr_Tw_equal (x1 : Int) (G : St) : Fr (fS [172, 173, 174, 175, 190] [(100, 7), (100, 8), (100, 66), (100, 67), (100, 68)]) G (fun q => q.2) (Tw_equal x1 G) := by
  unfold Tw_equal
  exact frT (fr_Tw_equal_l2 _ _ _) (fS_mono rfl rfl) fq_rf
theorem fr_Tw_less_s52 (P W : Int) (x1 : Int) (x2 : Int) (G : St) : Fr (fS [172, 173, 174, 175] [(100, 7), (100, 8), (100, 66), (100, 67), (100, 68)]) G (Sum.elim (fun q => q.2.2) (fun q => q.2)) (Tw_less_s52 P W x1 x2 G) := by
  unfold Tw_less_s52
  exact frIf (frCB (frBd (fr_Tw_xor _ _ _) (fS_mono rfl rfl) fq_rf (fun _ G4 hG4 => frCB (frBd (fr_Tw_xor _ _ _) (fS_mono rfl rfl) hG4 (fun _ G6 hG6 => frBd (fr_Tw_and _ _ _) (fS_mono rfl rfl) hG6 (fun _ G8 hG8 => frBd (fr_Tw_xor _ _ _) (fS_mono rfl rfl) hG8 (fun _ G10 hG10 => frCI (frS hG10)))))))) (frEx (frS fq_rf))
theorem fr_Tw_less_l52 (P W : Int) (x1 : Int) (x2 : Int) (G : St) : Fr (fS [172, 173, 174, 175] [(100, 7), (100, 8), (100, 66), (100, 67), (100, 68)]) G (fun q => q.2) (Tw_less_l52 P W x1 x2 G) := frWh (pi := fun (s : (Int × Int × St)) => s.2.2) (fun (s : (Int × Int × St)) => fr_Tw_less_s52 P W s.1 s.2.1 s.2.2)
theorem fr_Tw_less (P W : Int) (G : St) : Fr (fS [172, 173, 174, 175, 187, 188] [(100, 7), (100, 8), (100, 66), (100, 67), (100, 68)]) G (fun q => q.2) (Tw_less P W G) := by
  unfold Tw_less
  exact frCI (frCI (frCB (frCB (frTk (fq_upL rfl fq_rf) (fun G1 hG1 => frCI (frCI (frCB (frCB (frTk (fq_upL rfl hG1) (fun G2 hG2 => frT (fr_Tw_less_l52 _ _ _ _ _) (fS_mono rfl rfl) hG2))))))))))
theorem fr_Tw_sum_b81 (x1 : Int) (x3 : Int) (x4 : Int) (G : St) : Fr (fS [] []) G (Sum.elim (fun q => q.2.2) (fun q => q.2)) (Tw_sum_b81 x1 x3 x4 G) := by
  unfold Tw_sum_b81
  exact frCI (frS fq_rf)
theorem fr_Tw_sum_s5 (x1 : Int) (x3 : Int) (x4 : Int) (G : St) : Fr (fS [172, 173, 174, 175, 189] [(100, 7), (100, 8), (100, 66), (100, 67), (100, 68)]) G (Sum.elim (fun q => q.2.2) (fun q => q.2)) (Tw_sum_s5 x1 x3 x4 G) := by
  unfold Tw_sum_s5
  exact frIf (frCB (frBd (fr_Tw_xor _ _ _) (fS_mono rfl rfl) fq_rf (fun _ G2 hG2 => frCB (frBd (fr_Tw_xor _ _ _) (fS_mono rfl rfl) hG2 (fun _ G4 hG4 => frCB (frTk (fq_upL rfl hG4) (fun G5 hG5 => frCI (frIf (frCB (frBd (fr_Tw_xor _ _ _) (fS_mono rfl rfl) hG5 (fun _ G7 hG7 => frBd (fr_Tw_and _ _ _) (fS_mono rfl rfl) hG7 (fun _ G9 hG9 => frBd (fr_Tw_xor _ _ _) (fS_mono rfl rfl) hG9 (fun _ G11 hG11 => frT (fr_Tw_sum_b81 _ _ _ _) (fS_mono rfl rfl) hG11))))) (frT (fr_Tw_sum_b81 _ _ _ _) (fS_mono rfl rfl) hG5))))))))) (frEx (frS fq_rf))
theorem fr_Tw_sum_l5 (x1 : Int) (x3 : Int) (x4 : Int) (G : St) : Fr (fS [172, 173, 174, 175, 189] [(100, 7), (100, 8), (100, 66), (100, 67), (100, 68)]) G (fun q => q.2) (Tw_sum_l5 x1 x3 x4 G) := frWh (pi := fun (s : (Int × Int × St)) => s.2.2) (fun (s : (Int × Int × St)) => fr_Tw_sum_s5 x1 s.1 s.2.1 s.2.2)
theorem fr_Tw_sum (x1 : Int) (x2 : Int) (G : St) : Fr (fS [172, 173, 174, 175, 189] [(100, 7), (100, 8), (100, 66), (100, 67), (100, 68)]) G (fun q => q.2) (Tw_sum x1 x2 G) := by
  unfold Tw_sum
  exact frT (fr_Tw_sum_l5 _ _ _ _) (fS_mono rfl rfl) fq_rf
theorem fr_Tw_multiply_s194 (P W : Int) (x1 : Int) (G : St) : Fr (fS [189] []) G (Sum.elim (fun q => q.2) (fun q => q.2)) (Tw_multiply_s194 P W x1 G) := by
  unfold Tw_multiply_s194
  exact frIf (frCB (frCB (frTk (fq_upL rfl fq_rf) (fun G1 hG1 => frCI (frS hG1))))) (frEx (frS fq_rf))
theorem fr_Tw_multiply_l194 (P W : Int) (x1 : Int) (G : St) : Fr (fS [189] []) G (fun q => q.2) (Tw_multiply_l194 P W x1 G) := frWh (pi := fun (s : (Int × St)) => s.2) (fun (s : (Int × St)) => fr_Tw_multiply_s194 P W s.1 s.2)
theorem fr_Tw_multiply_s156 (P W : Int) (x1 : Int) (x2 : Int) (G : St) : Fr (fS [192] []) G (Sum.elim (fun q => q.2) (Sum.elim (fun q => q.2) (fun q => q.2))) (Tw_multiply_s156 P W x1 x2 G) := by
  unfold Tw_multiply_s156
  exact frCI (frIf (frCI (frCB (frCB (frTk (fq_upL rfl fq_rf) (fun G4 hG4 => frCI (frS hG4)))))) (frEx (frCI (frS fq_rf))))
theorem fr_Tw_multiply_l156 (P W : Int) (x1 : Int) (x2 : Int) (G : St) : Fr (fS [192] []) G (Sum.elim (fun q => q.2) (fun q => q.2)) (Tw_multiply_l156 P W x1 x2 G) := frWh (pi := fun (s : (Int × St)) => s.2) (fun (s : (Int × St)) => fr_Tw_multiply_s156 P W x1 s.1 s.2)
theorem fr_Tw_multiply_s90 (P W : Int) (x1 : Int) (x2 : Int) (G : St) : Fr (fS [172, 173, 174, 175, 187, 188, 189, 192] [(100, 7), (100, 8), (100, 66), (100, 67), (100, 68)]) G (Sum.elim (fun q => q.2) (Sum.elim (fun q => q.2) (fun q => q.2))) (Tw_multiply_s90 P W x1 x2 G) := by
  unfold Tw_multiply_s90
  exact frCI (frIf (frCB (frCB (frBd (fr_Tw_and _ _ _) (fS_mono rfl rfl) fq_rf (fun _ G6 hG6 => frCB (frTk (fq_upL rfl hG6) (fun G7 hG7 => frCI (frCB (frCB (frTk (fq_upL rfl hG7) (fun G8 hG8 => frCI (frS hG8))))))))))) (frEx (frCI (frBd (fr_Tw_sum _ _ _) (fS_mono rfl rfl) fq_rf (fun _ G3 hG3 => frT (fr_Tw_multiply_l156 _ _ _ _ _) (fS_mono rfl rfl) hG3)))))
theorem fr_Tw_multiply_l90 (P W : Int) (x1 : Int) (x2 : Int) (G : St) : Fr (fS [172, 173, 174, 175, 187, 188, 189, 192] [(100, 7), (100, 8), (100, 66), (100, 67), (100, 68)]) G (Sum.elim (fun q => q.2) (fun q => q.2)) (Tw_multiply_l90 P W x1 x2 G) := frWh (pi := fun (s : (Int × St)) => s.2) (fun (s : (Int × St)) => fr_Tw_multiply_s90 P W x1 s.1 s.2)
theorem fr_Tw_multiply_s80 (P W : Int) (x1 : Int) (G : St) : Fr (fS [172, 173, 174, 175, 187, 188, 189, 192] [(100, 7), (100, 8), (100, 66), (100, 67), (100, 68)]) G (Sum.elim (fun q => q.2) (fun q => q.2)) (Tw_multiply_s80 P W x1 G) := by
  unfold Tw_multiply_s80
  exact frIf (frT (fr_Tw_multiply_l90 _ _ _ _ _) (fS_mono rfl rfl) fq_rf) (frEx (frT (fr_Tw_multiply_l194 _ _ _ _) (fS_mono rfl rfl) fq_rf))
theorem fr_Tw_multiply_l80 (P W : Int) (x1 : Int) (G : St) : Fr (fS [172, 173, 174, 175, 187, 188, 189, 192] [(100, 7), (100, 8), (100, 66), (100, 67), (100, 68)]) G (fun q => q.2) (Tw_multiply_l80 P W x1 G) := frWh (pi := fun (s : (Int × St)) => s.2) (fun (s : (Int × St)) => fr_Tw_multiply_s80 P W s.1 s.2)
theorem fr_Tw_multiply_s42 (P W : Int) (x1 : Int) (G : St) : Fr (fS [172, 173, 174, 175, 187, 188, 189, 192] [(100, 7), (100, 8), (100, 66), (100, 67), (100, 68)]) G (Sum.elim (fun q => q.2) (fun q => q.2)) (Tw_multiply_s42 P W x1 G) := by
  unfold Tw_multiply_s42
  exact frIf (frCB (frCB (frBd (fr_Tw_and _ _ _) (fS_mono rfl rfl) fq_rf (fun _ G10 hG10 => frCB (frTk (fq_upL rfl hG10) (fun G11 hG11 => frCI (frS hG11))))))) (frEx (frT (fr_Tw_multiply_l80 _ _ _ _) (fS_mono rfl rfl) fq_rf))
theorem fr_Tw_multiply_l42 (P W : Int) (x1 : Int) (G : St) : Fr (fS [172, 173, 174, 175, 187, 188, 189, 192] [(100, 7), (100, 8), (100, 66), (100, 67), (100, 68)]) G (fun q => q.2) (Tw_multiply_l42 P W x1 G) := frWh (pi := fun (s : (Int × St)) => s.2) (fun (s : (Int × St)) => fr_Tw_multiply_s42 P W s.1 s.2)
theorem fr_Tw_multiply_s2 (P W : Int) (x1 : Int) (G : St) : Fr (fS [172, 173, 174, 175, 187, 188, 189, 190, 191, 192] [(100, 7), (100, 8), (100, 66), (100, 67), (100, 68)]) G (Sum.elim (fun q => q.2) (fun q => q.2)) (Tw_multiply_s2 P W x1 G) := by
  unfold Tw_multiply_s2
  exact frIf (frCB (frCB (frTk (fq_upL rfl fq_rf) (fun G12 hG12 => frCB (frCB (frTk (fq_upL rfl hG12) (fun G13 hG13 => frCI (frS hG13)))))))) (frEx (frT (fr_Tw_multiply_l42 _ _ _ _) (fS_mono rfl rfl) fq_rf))
theorem fr_Tw_multiply_l2 (P W : Int) (x1 : Int) (G : St) : Fr (fS [172, 173, 174, 175, 187, 188, 189, 190, 191, 192] [(100, 7), (100, 8), (100, 66), (100, 67), (100, 68)]) G (fun q => q.2) (Tw_multiply_l2 P W x1 G) := frWh (pi := fun (s : (Int × St)) => s.2) (fun (s : (Int × St)) => fr_Tw_multiply_s2 P W s.1 s.2)
theorem fr_Tw_multiply (P W : Int) (G : St) : Fr (fS [172, 173, 174, 175, 187, 188, 189, 190, 191, 192] [(100, 7), (100, 8), (100, 66), (100, 67), (100, 68)]) G (fun q => q.2) (Tw_multiply P W G) := by
  unfold Tw_multiply
  exact frT (fr_Tw_multiply_l2 _ _ _ _) (fS_mono rfl rfl) fq_rf
theorem fr_Tw_popX_s12 (x1 : Int) (x2 : Int) (G : St) : Fr (fS [187] []) G (Sum.elim (fun q => q.2) (fun q => q.2)) (Tw_popX_s12 x1 x2 G) := by
  unfold Tw_popX_s12
  exact frIf (frCI (frCI (frCB (frCB (frTk (fq_upL rfl fq_rf) (fun G2 hG2 => frCI (frS hG2))))))) (frEx (frS fq_rf))
theorem fr_Tw_popX_l12 (x1 : Int) (x2 : Int) (G : St) : Fr (fS [187] []) G (fun q => q.2) (Tw_popX_l12 x1 x2 G) := frWh (pi := fun (s : (Int × St)) => s.2) (fun (s : (Int × St)) => fr_Tw_popX_s12 x1 s.1 s.2)
theorem fr_Tw_popX (x1 : Int) (G : St) : Fr (fS [187] [(100, 85)]) G (fun q => q.2) (Tw_popX x1 G) := by
  unfold Tw_popX
  exact frCI (frTk (fq_upK rfl fq_rf) (fun G1 hG1 => frT (fr_Tw_popX_l12 _ _ _) (fS_mono rfl rfl) hG1))
theorem fr_Tw_popY_s12 (x1 : Int) (x2 : Int) (G : St) : Fr (fS [188] []) G (Sum.elim (fun q => q.2) (fun q => q.2)) (Tw_popY_s12 x1 x2 G) := by
  unfold Tw_popY_s12
  exact frIf (frCI (frCI (frCB (frCB (frTk (fq_upL rfl fq_rf) (fun G2 hG2 => frCI (frS hG2))))))) (frEx (frS fq_rf))
theorem fr_Tw_popY_l12 (x1 : Int) (x2 : Int) (G : St) : Fr (fS [188] []) G (fun q => q.2) (Tw_popY_l12 x1 x2 G) := frWh (pi := fun (s : (Int × St)) => s.2) (fun (s : (Int × St)) => fr_Tw_popY_s12 x1 s.1 s.2)
theorem fr_Tw_popY (x1 : Int) (G : St) : Fr (fS [188] [(100, 85)]) G (fun q => q.2) (Tw_popY x1 G) := by
  unfold Tw_popY
  exact frCI (frTk (fq_upK rfl fq_rf) (fun G1 hG1 => frT (fr_Tw_popY_l12 _ _ _) (fS_mono rfl rfl) hG1))
theorem fr_Tw_pushZ_s2 (x1 : Int) (x2 : Int) (G : St) : Fr (fS [185] [(100, 85)]) G (Sum.elim (fun q => q.2) (fun q => q.2)) (Tw_pushZ_s2 x1 x2 G) := by
  unfold Tw_pushZ_s2
  exact frIf (frCI (frCI (frCB (frCB (frTk (fq_upL rfl fq_rf) (fun G2 hG2 => frCI (frS hG2))))))) (frEx (frCI (frTk (fq_upK rfl fq_rf) (fun G1 hG1 => frS hG1))))
theorem fr_Tw_pushZ_l2 (x1 : Int) (x2 : Int) (G : St) : Fr (fS [185] [(100, 85)]) G (fun q => q.2) (Tw_pushZ_l2 x1 x2 G) := frWh (pi := fun (s : (Int × St)) => s.2) (fun (s : (Int × St)) => fr_Tw_pushZ_s2 x1 s.1 s.2)
theorem fr_Tw_pushZ (x1 : Int) (G : St) : Fr (fS [185] [(100, 85)]) G (fun q => q.2) (Tw_pushZ x1 G) := by
  unfold Tw_pushZ
  exact frT (fr_Tw_pushZ_l2 _ _ _) (fS_mono rfl rfl) fq_rf
theorem fr_Tw_swap_s2 (P W : Int) (x1 : Int) (G : St) : Fr (fS [187, 188] []) G (Sum.elim (fun q => q.2) (fun q => q.2)) (Tw_swap_s2 P W x1 G) := by
  unfold Tw_swap_s2
  exact frIf (frCB (frCB (frCB (frTk (fq_upL rfl fq_rf) (fun G1 hG1 => frCB (frTk (fq_upL rfl hG1) (fun G2 hG2 => frCI (frS hG2)))))))) (frEx (frS fq_rf))
theorem fr_Tw_swap_l2 (P W : Int) (x1 : Int) (G : St) : Fr (fS [187, 188] []) G (fun q => q.2) (Tw_swap_l2 P W x1 G) := frWh (pi := fun (s : (Int × St)) => s.2) (fun (s : (Int × St)) => fr_Tw_swap_s2 P W s.1 s.2)
theorem fr_Tw_swap (P W : Int) (G : St) : Fr (fS [187, 188] []) G (fun q => q.2) (Tw_swap P W G) := by
  unfold Tw_swap
  exact frT (fr_Tw_swap_l2 _ _ _ _) (fS_mono rfl rfl) fq_rf
theorem fr_Tw_worthOf_b39 (P W : Int) (x1 : Int) (x4 : Int) (s0 : Int) (s1 : Int) (G : St) : Fr (fS [] []) G (Sum.elim (fun q => q.2.2) (fun q => q.2)) (Tw_worthOf_b39 P W x1 x4 s0 s1 G) := by
  unfold Tw_worthOf_b39
  exact frCL (frCI (frS fq_rf))
theorem fr_Tw_worthOf_s5 (P W : Int) (x1 : Int) (x2 : Int) (x4 : Int) (G : St) : Fr (fS [] []) G (Sum.elim (fun q => q.2.2) (fun q => q.2)) (Tw_worthOf_s5 P W x1 x2 x4 G) := by
  unfold Tw_worthOf_s5
  exact frIf (frCI (frCI (frCB (frIf (frT (fr_Tw_worthOf_b39 _ _ _ _ _ _ _) (fS_mono rfl rfl) fq_rf) (frT (fr_Tw_worthOf_b39 _ _ _ _ _ _ _) (fS_mono rfl rfl) fq_rf))))) (frEx (frS fq_rf))
theorem fr_Tw_worthOf_l5 (P W : Int) (x1 : Int) (x2 : Int) (x4 : Int) (G : St) : Fr (fS [] []) G (fun q => q.2) (Tw_worthOf_l5 P W x1 x2 x4 G) := frWh (pi := fun (s : (Int × Int × St)) => s.2.2) (fun (s : (Int × Int × St)) => fr_Tw_worthOf_s5 P W x1 s.1 s.2.1 s.2.2)
theorem fr_Tw_worthOf (P W : Int) (x1 : Int) (G : St) : Fr (fS [] []) G (fun q => q.2) (Tw_worthOf P W x1 G) := by
  unfold Tw_worthOf
  exact frT (fr_Tw_worthOf_l5 _ _ _ _ _ _) (fS_mono rfl rfl) fq_rf
theorem fr_Tw_binary_b160 (P W : Int) (x2 : Int) (x4 : Int) (x6 : Int) (s0 : Int) (s1 : Int) (G : St) : Fr (fS [189] []) G (Sum.elim (fun q => q.2) (fun q => q.2)) (Tw_binary_b160 P W x2 x4 x6 s0 s1 G) := by
  unfold Tw_binary_b160
  exact frCB (frTk (fq_upL rfl fq_rf) (fun G10 hG10 => frCI (frS hG10)))
theorem fr_Tw_binary_b154 (P W : Int) (x2 : Int) (x4 : Int) (x6 : Int) (s0 : Int) (s2 : Int) (G : St) : Fr (fS [189] []) G (Sum.elim (fun q => q.2) (fun q => q.2)) (Tw_binary_b154 P W x2 x4 x6 s0 s2 G) := by
  unfold Tw_binary_b154
  exact frCB (frT (fr_Tw_binary_b160 _ _ _ _ _ _ _ _) (fS_mono rfl rfl) fq_rf)
theorem fr_Tw_binary_b117 (P W : Int) (x2 : Int) (x4 : Int) (x6 : Int) (s0 : Int) (G : St) : Fr (fS [189] []) G (Sum.elim (fun q => q.2) (fun q => q.2)) (Tw_binary_b117 P W x2 x4 x6 s0 G) := by
  unfold Tw_binary_b117
  exact frIf (frT (fr_Tw_binary_b160 _ _ _ _ _ _ _ _) (fS_mono rfl rfl) fq_rf) (frIf (frT (fr_Tw_binary_b154 _ _ _ _ _ _ _ _) (fS_mono rfl rfl) fq_rf) (frT (fr_Tw_binary_b160 _ _ _ _ _ _ _ _) (fS_mono rfl rfl) fq_rf))
theorem fr_Tw_binary_s87 (P W : Int) (x2 : Int) (x4 : Int) (x6 : Int) (G : St) : Fr (fS [185, 189] [(100, 85)]) G (Sum.elim (fun q => q.2) (fun q => q.2)) (Tw_binary_s87 P W x2 x4 x6 G) := by
  unfold Tw_binary_s87
  exact frIf (frIf (frCI (frT (fr_Tw_binary_b117 _ _ _ _ _ _ _) (fS_mono rfl rfl) fq_rf)) (frCI (frT (fr_Tw_binary_b117 _ _ _ _ _ _ _) (fS_mono rfl rfl) fq_rf))) (frEx (frBd (fr_Tw_pushZ _ _) (fS_mono rfl rfl) fq_rf (fun _ G9 hG9 => frS hG9)))
theorem fr_Tw_binary_l87 (P W : Int) (x2 : Int) (x4 : Int) (x6 : Int) (G : St) : Fr (fS [185, 189] [(100, 85)]) G (fun q => q.2) (Tw_binary_l87 P W x2 x4 x6 G) := frWh (pi := fun (s : (Int × St)) => s.2) (fun (s : (Int × St)) => fr_Tw_binary_s87 P W x2 x4 s.1 s.2)
theorem fr_Tw_binary_b30 (P W : Int) (x1 : Int) (x2 : Int) (G : St) : Fr (fS [185, 187, 189] [(100, 7), (100, 8), (100, 85)]) G (fun q => q.2) (Tw_binary_b30 P W x1 x2 G) := by
  unfold Tw_binary_b30
  exact frCI (frBd (fr_Tw_worthOf _ _ _ _) (fS_mono rfl rfl) fq_rf (fun _ G4 hG4 => frIf (frCI (frTk (fq_upK rfl hG4) (fun G5 hG5 => frBd (fr_Tw_popX _ _) (fS_mono rfl rfl) hG5 (fun _ G7 hG7 => frT (fr_Tw_binary_l87 _ _ _ _ _ _) (fS_mono rfl rfl) hG7)))) (frCB (frBd (fr_Tw_fail _ _ _) (fS_mono rfl rfl) hG4 (fun _ G12 hG12 => frS hG12)))))
theorem fr_Tw_binary_b610 (P W : Int) (x4 : Int) (G : St) : Fr (fS [185] [(100, 85)]) G (fun q => q.2) (Tw_binary_b610 P W x4 G) := by
  unfold Tw_binary_b610
  exact frBd (fr_Tw_pushZ _ _) (fS_mono rfl rfl) fq_rf (fun _ G18 hG18 => frS hG18)
theorem fr_Tw_binary_s271 (P W : Int) (x3 : Int) (x4 : Int) (x5 : Int) (G : St) : Fr (fS [172, 173, 174, 175, 185, 189] [(100, 7), (100, 8), (100, 66), (100, 67), (100, 68), (100, 85)]) G (Sum.elim (fun q => q.2) (fun q => q.2)) (Tw_binary_s271 P W x3 x4 x5 G) := by
  unfold Tw_binary_s271
  exact frIf (frCB (frCB (frBd (fr_Tw_and _ _ _) (fS_mono rfl rfl) fq_rf (fun _ G20 hG20 => frCB (frTk (fq_upL rfl hG20) (fun G21 hG21 => frCI (frS hG21))))))) (frEx (frT (fr_Tw_binary_b610 _ _ _ _) (fS_mono rfl rfl) fq_rf))
theorem fr_Tw_binary_l271 (P W : Int) (x3 : Int) (x4 : Int) (x5 : Int) (G : St) : Fr (fS [172, 173, 174, 175, 185, 189] [(100, 7), (100, 8), (100, 66), (100, 67), (100, 68), (100, 85)]) G (fun q => q.2) (Tw_binary_l271 P W x3 x4 x5 G) := frWh (pi := fun (s : (Int × St)) => s.2) (fun (s : (Int × St)) => fr_Tw_binary_s271 P W x3 x4 s.1 s.2)
theorem fr_Tw_binary_b268 (P W : Int) (x3 : Int) (x4 : Int) (G : St) : Fr (fS [172, 173, 174, 175, 185, 189] [(100, 7), (100, 8), (100, 66), (100, 67), (100, 68), (100, 85)]) G (fun q => q.2) (Tw_binary_b268 P W x3 x4 G) := by
  unfold Tw_binary_b268
  exact frT (fr_Tw_binary_l271 _ _ _ _ _ _) (fS_mono rfl rfl) fq_rf
theorem fr_Tw_binary_s320 (P W : Int) (x3 : Int) (x4 : Int) (x5 : Int) (G : St) : Fr (fS [172, 173, 174, 175, 185, 189] [(100, 7), (100, 8), (100, 66), (100, 67), (100, 68), (100, 85)]) G (Sum.elim (fun q => q.2) (fun q => q.2)) (Tw_binary_s320 P W x3 x4 x5 G) := by
  unfold Tw_binary_s320
  exact frIf (frCB (frCB (frBd (fr_Tw_and _ _ _) (fS_mono rfl rfl) fq_rf (fun _ G23 hG23 => frCB (frTk (fq_upL rfl hG23) (fun G24 hG24 => frCI (frS hG24))))))) (frEx (frT (fr_Tw_binary_b610 _ _ _ _) (fS_mono rfl rfl) fq_rf))
theorem fr_Tw_binary_l320 (P W : Int) (x3 : Int) (x4 : Int) (x5 : Int) (G : St) : Fr (fS [172, 173, 174, 175, 185, 189] [(100, 7), (100, 8), (100, 66), (100, 67), (100, 68), (100, 85)]) G (fun q => q.2) (Tw_binary_l320 P W x3 x4 x5 G) := frWh (pi := fun (s : (Int × St)) => s.2) (fun (s : (Int × St)) => fr_Tw_binary_s320 P W x3 x4 s.1 s.2)
theorem fr_Tw_binary_b317 (P W : Int) (x3 : Int) (x4 : Int) (G : St) : Fr (fS [172, 173, 174, 175, 185, 189] [(100, 7), (100, 8), (100, 66), (100, 67), (100, 68), (100, 85)]) G (fun q => q.2) (Tw_binary_b317 P W x3 x4 G) := by
  unfold Tw_binary_b317
  exact frT (fr_Tw_binary_l320 _ _ _ _ _ _) (fS_mono rfl rfl) fq_rf
theorem fr_Tw_binary_s363 (P W : Int) (x3 : Int) (x4 : Int) (x5 : Int) (G : St) : Fr (fS [172, 173, 174, 175, 185, 189] [(100, 7), (100, 8), (100, 66), (100, 67), (100, 68), (100, 85)]) G (Sum.elim (fun q => q.2) (fun q => q.2)) (Tw_binary_s363 P W x3 x4 x5 G) := by
  unfold Tw_binary_s363
  exact frIf (frCB (frCB (frBd (fr_Tw_xor _ _ _) (fS_mono rfl rfl) fq_rf (fun _ G26 hG26 => frCB (frTk (fq_upL rfl hG26) (fun G27 hG27 => frCI (frS hG27))))))) (frEx (frT (fr_Tw_binary_b610 _ _ _ _) (fS_mono rfl rfl) fq_rf))
theorem fr_Tw_binary_l363 (P W : Int) (x3 : Int) (x4 : Int) (x5 : Int) (G : St) : Fr (fS [172, 173, 174, 175, 185, 189] [(100, 7), (100, 8), (100, 66), (100, 67), (100, 68), (100, 85)]) G (fun q => q.2) (Tw_binary_l363 P W x3 x4 x5 G) := frWh (pi := fun (s : (Int × St)) => s.2) (fun (s : (Int × St)) => fr_Tw_binary_s363 P W x3 x4 s.1 s.2)
theorem fr_Tw_binary_b360 (P W : Int) (x3 : Int) (x4 : Int) (G : St) : Fr (fS [172, 173, 174, 175, 185, 189] [(100, 7), (100, 8), (100, 66), (100, 67), (100, 68), (100, 85)]) G (fun q => q.2) (Tw_binary_b360 P W x3 x4 G) := by
  unfold Tw_binary_b360
  exact frT (fr_Tw_binary_l363 _ _ _ _ _ _) (fS_mono rfl rfl) fq_rf
theorem fr_Tw_binary_b424 (P W : Int) (s0 : Int) (s1 : Int) (s2 : Int) (G : St) : Fr (fS [185, 189] [(100, 85)]) G (fun q => q.2) (Tw_binary_b424 P W s0 s1 s2 G) := by
  unfold Tw_binary_b424
  exact frCB (frTk (fq_upL rfl fq_rf) (fun G30 hG30 => frT (fr_Tw_binary_b610 _ _ _ _) (fS_mono rfl rfl) hG30))
theorem fr_Tw_binary_b403 (P W : Int) (x2 : Int) (x3 : Int) (G : St) : Fr (fS [172, 173, 174, 175, 185, 189, 190] [(100, 7), (100, 8), (100, 66), (100, 67), (100, 68), (100, 85)]) G (fun q => q.2) (Tw_binary_b403 P W x2 x3 G) := by
  unfold Tw_binary_b403
  exact frBd (fr_Tw_equal _ _) (fS_mono rfl rfl) fq_rf (fun _ G29 hG29 => frT (fr_Tw_binary_b424 _ _ _ _ _ _) (fS_mono rfl rfl) hG29)
theorem fr_Tw_binary_b452 (P W : Int) (s0 : Int) (s1 : Int) (s2 : Int) (G : St) : Fr (fS [185, 189] [(100, 85)]) G (fun q => q.2) (Tw_binary_b452 P W s0 s1 s2 G) := by
  unfold Tw_binary_b452
  exact frCB (frTk (fq_upL rfl fq_rf) (fun G33 hG33 => frT (fr_Tw_binary_b610 _ _ _ _) (fS_mono rfl rfl) hG33))
theorem fr_Tw_binary_b432 (P W : Int) (x2 : Int) (G : St) : Fr (fS [172, 173, 174, 175, 185, 187, 188, 189] [(100, 7), (100, 8), (100, 66), (100, 67), (100, 68), (100, 85)]) G (fun q => q.2) (Tw_binary_b432 P W x2 G) := by
  unfold Tw_binary_b432
  exact frBd (fr_Tw_less _ _ _) (fS_mono rfl rfl) fq_rf (fun _ G32 hG32 => frT (fr_Tw_binary_b452 _ _ _ _ _ _) (fS_mono rfl rfl) hG32)
theorem fr_Tw_binary_b484 (P W : Int) (s0 : Int) (s1 : Int) (s2 : Int) (G : St) : Fr (fS [185, 189] [(100, 85)]) G (fun q => q.2) (Tw_binary_b484 P W s0 s1 s2 G) := by
  unfold Tw_binary_b484
  exact frCB (frTk (fq_upL rfl fq_rf) (fun G38 hG38 => frT (fr_Tw_binary_b610 _ _ _ _) (fS_mono rfl rfl) hG38))
theorem fr_Tw_binary_b460 (P W : Int) (x2 : Int) (G : St) : Fr (fS [172, 173, 174, 175, 185, 187, 188, 189] [(100, 7), (100, 8), (100, 66), (100, 67), (100, 68), (100, 85)]) G (fun q => q.2) (Tw_binary_b460 P W x2 G) := by
  unfold Tw_binary_b460
  exact frBd (fr_Tw_swap _ _ _) (fS_mono rfl rfl) fq_rf (fun _ G35 hG35 => frBd (fr_Tw_less _ _ _) (fS_mono rfl rfl) hG35 (fun _ G37 hG37 => frT (fr_Tw_binary_b484 _ _ _ _ _ _) (fS_mono rfl rfl) hG37))
theorem fr_Tw_binary_b603 (P W : Int) (x2 : Int) (x4 : Int) (x5 : Int) (s0 : Int) (s1 : Int) (G : St) : Fr (fS [189] []) G (Sum.elim (fun q => q.2) (fun q => q.2)) (Tw_binary_b603 P W x2 x4 x5 s0 s1 G) := by
  unfold Tw_binary_b603
  exact frCB (frTk (fq_upL rfl fq_rf) (fun G41 hG41 => frCI (frS hG41)))
theorem fr_Tw_binary_s565 (P W : Int) (x2 : Int) (x4 : Int) (x5 : Int) (G : St) : Fr (fS [185, 189] [(100, 85)]) G (Sum.elim (fun q => q.2) (fun q => q.2)) (Tw_binary_s565 P W x2 x4 x5 G) := by
  unfold Tw_binary_s565
  exact frIf (frIf (frCB (frT (fr_Tw_binary_b603 _ _ _ _ _ _ _ _) (fS_mono rfl rfl) fq_rf)) (frCB (frT (fr_Tw_binary_b603 _ _ _ _ _ _ _ _) (fS_mono rfl rfl) fq_rf))) (frEx (frT (fr_Tw_binary_b610 _ _ _ _) (fS_mono rfl rfl) fq_rf))
theorem fr_Tw_binary_l565 (P W : Int) (x2 : Int) (x4 : Int) (x5 : Int) (G : St) : Fr (fS [185, 189] [(100, 85)]) G (fun q => q.2) (Tw_binary_l565 P W x2 x4 x5 G) := frWh (pi := fun (s : (Int × St)) => s.2) (fun (s : (Int × St)) => fr_Tw_binary_s565 P W x2 x4 s.1 s.2)
theorem fr_Tw_binary_b558 (P W : Int) (x2 : Int) (x4 : Int) (G : St) : Fr (fS [172, 173, 174, 175, 185, 188, 189, 190, 193, 194] [(100, 7), (100, 8), (100, 66), (100, 67), (100, 68), (100, 85)]) G (fun q => q.2) (Tw_binary_b558 P W x2 x4 G) := by
  unfold Tw_binary_b558
  exact frBd (fr_Tw_divide _ _ _) (fS_mono rfl rfl) fq_rf (fun _ G40 hG40 => frT (fr_Tw_binary_l565 _ _ _ _ _ _) (fS_mono rfl rfl) hG40)
theorem fr_Tw_binary_b492 (P W : Int) (x4 : Int) (G : St) : Fr (fS [172, 173, 174, 175, 185, 189] [(100, 7), (100, 8), (100, 66), (100, 67), (100, 68), (100, 85)]) G (fun q => q.2) (Tw_binary_b492 P W x4 G) := by
  unfold Tw_binary_b492
  exact frBd (fr_Tw_sum _ _ _) (fS_mono rfl rfl) fq_rf (fun _ G43 hG43 => frT (fr_Tw_binary_b610 _ _ _ _) (fS_mono rfl rfl) hG43)
theorem fr_Tw_binary_s508 (P W : Int) (x4 : Int) (x5 : Int) (G : St) : Fr (fS [172, 173, 174, 175, 185, 188, 189] [(100, 7), (100, 8), (100, 66), (100, 67), (100, 68), (100, 85)]) G (Sum.elim (fun q => q.2) (fun q => q.2)) (Tw_binary_s508 P W x4 x5 G) := by
  unfold Tw_binary_s508
  exact frIf (frCB (frCB (frTk (fq_upL rfl fq_rf) (fun G46 hG46 => frCI (frS hG46))))) (frEx (frBd (fr_Tw_sum _ _ _) (fS_mono rfl rfl) fq_rf (fun _ G45 hG45 => frT (fr_Tw_binary_b610 _ _ _ _) (fS_mono rfl rfl) hG45)))
theorem fr_Tw_binary_l508 (P W : Int) (x4 : Int) (x5 : Int) (G : St) : Fr (fS [172, 173, 174, 175, 185, 188, 189] [(100, 7), (100, 8), (100, 66), (100, 67), (100, 68), (100, 85)]) G (fun q => q.2) (Tw_binary_l508 P W x4 x5 G) := frWh (pi := fun (s : (Int × St)) => s.2) (fun (s : (Int × St)) => fr_Tw_binary_s508 P W x4 s.1 s.2)
theorem fr_Tw_binary_b505 (P W : Int) (x4 : Int) (G : St) : Fr (fS [172, 173, 174, 175, 185, 188, 189] [(100, 7), (100, 8), (100, 66), (100, 67), (100, 68), (100, 85)]) G (fun q => q.2) (Tw_binary_b505 P W x4 G) := by
  unfold Tw_binary_b505
  exact frT (fr_Tw_binary_l508 _ _ _ _ _) (fS_mono rfl rfl) fq_rf
theorem fr_Tw_binary_b551 (P W : Int) (x4 : Int) (G : St) : Fr (fS [172, 173, 174, 175, 185, 187, 188, 189, 190, 191, 192] [(100, 7), (100, 8), (100, 66), (100, 67), (100, 68), (100, 85)]) G (fun q => q.2) (Tw_binary_b551 P W x4 G) := by
  unfold Tw_binary_b551
  exact frBd (fr_Tw_multiply _ _ _) (fS_mono rfl rfl) fq_rf (fun _ G48 hG48 => frT (fr_Tw_binary_b610 _ _ _ _) (fS_mono rfl rfl) hG48)
theorem fr_Tw_binary (P W : Int) (x1 : Int) (G : St) : Fr (fS [172, 173, 174, 175, 185, 187, 188, 189, 190, 191, 192, 193, 194] [(100, 7), (100, 8), (100, 66), (100, 67), (100, 68), (100, 85)]) G (fun q => q.2) (Tw_binary P W x1 G) := by
  unfold Tw_binary
  exact frCB (frCB (frBd (fr_Tw_widthOf _ _ _ _) (fS_mono rfl rfl) fq_rf (fun _ G2 hG2 => frIf (frT (fr_Tw_binary_b30 _ _ _ _ _) (fS_mono rfl rfl) hG2) (frIf (frT (fr_Tw_binary_b30 _ _ _ _ _) (fS_mono rfl rfl) hG2) (frBd (fr_Tw_popY _ _) (fS_mono rfl rfl) hG2 (fun _ G14 hG14 => frBd (fr_Tw_popX _ _) (fS_mono rfl rfl) hG14 (fun _ G16 hG16 => frSwt (List.forall_mem_cons.mpr ⟨frT (fr_Tw_binary_b268 _ _ _ _ _) (fS_mono rfl rfl) hG16, (List.forall_mem_cons.mpr ⟨frT (fr_Tw_binary_b317 _ _ _ _ _) (fS_mono rfl rfl) hG16, (List.forall_mem_cons.mpr ⟨frT (fr_Tw_binary_b268 _ _ _ _ _) (fS_mono rfl rfl) hG16, (List.forall_mem_cons.mpr ⟨frT (fr_Tw_binary_b360 _ _ _ _ _) (fS_mono rfl rfl) hG16, (List.forall_mem_cons.mpr ⟨frT (fr_Tw_binary_b317 _ _ _ _ _) (fS_mono rfl rfl) hG16, (List.forall_mem_cons.mpr ⟨frT (fr_Tw_binary_b403 _ _ _ _ _) (fS_mono rfl rfl) hG16, (List.forall_mem_cons.mpr ⟨frT (fr_Tw_binary_b403 _ _ _ _ _) (fS_mono rfl rfl) hG16, (List.forall_mem_cons.mpr ⟨frT (fr_Tw_binary_b432 _ _ _ _) (fS_mono rfl rfl) hG16, (List.forall_mem_cons.mpr ⟨frT (fr_Tw_binary_b460 _ _ _ _) (fS_mono rfl rfl) hG16, (List.forall_mem_cons.mpr ⟨frT (fr_Tw_binary_b460 _ _ _ _) (fS_mono rfl rfl) hG16, (List.forall_mem_cons.mpr ⟨frT (fr_Tw_binary_b432 _ _ _ _) (fS_mono rfl rfl) hG16, (List.forall_mem_cons.mpr ⟨frT (fr_Tw_binary_b558 _ _ _ _ _) (fS_mono rfl rfl) hG16, (List.forall_mem_cons.mpr ⟨frT (fr_Tw_binary_b558 _ _ _ _ _) (fS_mono rfl rfl) hG16, (List.forall_mem_cons.mpr ⟨frT (fr_Tw_binary_b492 _ _ _ _) (fS_mono rfl rfl) hG16, (List.forall_mem_cons.mpr ⟨frT (fr_Tw_binary_b505 _ _ _ _) (fS_mono rfl rfl) hG16, (List.forall_mem_cons.mpr ⟨frT (fr_Tw_binary_b551 _ _ _ _) (fS_mono rfl rfl) hG16, (fun _ h => nomatch h)⟩)⟩)⟩)⟩)⟩)⟩)⟩)⟩)⟩)⟩)⟩)⟩)⟩)⟩)⟩)⟩) (frT (fr_Tw_binary_b558 _ _ _ _ _) (fS_mono rfl rfl) hG16))))))))
theorem fr_Tw_bodyOf (x1 : Int) (G : St) : Fr (fS [] []) G (fun q => q.2) (Tw_bodyOf x1 G) := by
  unfold Tw_bodyOf
  exact frCB (frCI (frCI (frS fq_rf)))
theorem fr_Tw_constantZ_b32 (x1 : Int) (x3 : Int) (x4 : Int) (s0 : Int) (s1 : Int) (G : St) : Fr (fS [189] []) G (Sum.elim (fun q => q.2) (fun q => q.2)) (Tw_constantZ_b32 x1 x3 x4 s0 s1 G) := by
  unfold Tw_constantZ_b32
  exact frCB (frTk (fq_upL rfl fq_rf) (fun G1 hG1 => frCI (frS hG1)))
theorem fr_Tw_constantZ_s3 (x1 : Int) (x3 : Int) (x4 : Int) (G : St) : Fr (fS [189] []) G (Sum.elim (fun q => q.2) (fun q => q.2)) (Tw_constantZ_s3 x1 x3 x4 G) := by
  unfold Tw_constantZ_s3
  exact frIf (frT (fr_Tw_constantZ_b32 _ _ _ _ _ _) (fS_mono rfl rfl) fq_rf) (frEx (frS fq_rf))
theorem fr_Tw_constantZ_l3 (x1 : Int) (x3 : Int) (x4 : Int) (G : St) : Fr (fS [189] []) G (fun q => q.2) (Tw_constantZ_l3 x1 x3 x4 G) := frWh (pi := fun (s : (Int × St)) => s.2) (fun (s : (Int × St)) => fr_Tw_constantZ_s3 x1 x3 s.1 s.2)
theorem fr_Tw_constantZ (x1 : Int) (x3 : Int) (G : St) : Fr (fS [189] []) G (fun q => q.2) (Tw_constantZ x1 x3 G) := by
  unfold Tw_constantZ
  exact frT (fr_Tw_constantZ_l3 _ _ _ _) (fS_mono rfl rfl) fq_rf
theorem fr_Tw_elementBit (x1 : Int) (x2 : Int) (x3 : Int) (G : St) : Fr (fS [] []) G (fun q => q.2) (Tw_elementBit x1 x2 x3 G) := by
  unfold Tw_elementBit
  exact frCB (frIf (frCB (frCI (frCB (frCI (frCI (frS fq_rf)))))) (frCB (frCI (frCI (frCI (frCB (frS fq_rf)))))))
theorem fr_Tw_isIndex_b74 (P W : Int) (x1 : Int) (x2 : Int) (s0 : Int) (s1 : Int) (G : St) : Fr (fS [188] []) G (Sum.elim (fun q => q.2) (fun q => q.2)) (Tw_isIndex_b74 P W x1 x2 s0 s1 G) := by
  unfold Tw_isIndex_b74
  exact frCB (frTk (fq_upL rfl fq_rf) (fun G4 hG4 => frCI (frS hG4)))
theorem fr_Tw_isIndex_b64 (P W : Int) (x1 : Int) (x2 : Int) (s0 : Int) (s1 : Int) (G : St) : Fr (fS [188] []) G (Sum.elim (fun q => q.2) (fun q => q.2)) (Tw_isIndex_b64 P W x1 x2 s0 s1 G) := by
  unfold Tw_isIndex_b64
  exact frT (fr_Tw_isIndex_b74 _ _ _ _ _ _ _) (fS_mono rfl rfl) fq_rf
theorem fr_Tw_isIndex_s24 (P W : Int) (x1 : Int) (x2 : Int) (G : St) : Fr (fS [172, 173, 174, 175, 187, 188, 190] [(100, 7), (100, 8), (100, 66), (100, 67), (100, 68)]) G (Sum.elim (fun q => q.2) (fun q => q.2)) (Tw_isIndex_s24 P W x1 x2 G) := by
  unfold Tw_isIndex_s24
  exact frIf (frCB (frCB (frTk (fq_upL rfl fq_rf) (fun G3 hG3 => frIf (frT (fr_Tw_isIndex_b64 _ _ _ _ _ _ _) (fS_mono rfl rfl) hG3) (frT (fr_Tw_isIndex_b64 _ _ _ _ _ _ _) (fS_mono rfl rfl) hG3))))) (frEx (frBd (fr_Tw_equal _ _) (fS_mono rfl rfl) fq_rf (fun _ G2 hG2 => frS hG2)))
theorem fr_Tw_isIndex_l24 (P W : Int) (x1 : Int) (x2 : Int) (G : St) : Fr (fS [172, 173, 174, 175, 187, 188, 190] [(100, 7), (100, 8), (100, 66), (100, 67), (100, 68)]) G (fun q => q.2) (Tw_isIndex_l24 P W x1 x2 G) := frWh (pi := fun (s : (Int × St)) => s.2) (fun (s : (Int × St)) => fr_Tw_isIndex_s24 P W x1 s.1 s.2)
theorem fr_Tw_isIndex_b22 (P W : Int) (x1 : Int) (G : St) : Fr (fS [172, 173, 174, 175, 187, 188, 190] [(100, 7), (100, 8), (100, 66), (100, 67), (100, 68)]) G (fun q => q.2) (Tw_isIndex_b22 P W x1 G) := by
  unfold Tw_isIndex_b22
  exact frT (fr_Tw_isIndex_l24 _ _ _ _ _) (fS_mono rfl rfl) fq_rf
theorem fr_Tw_isIndex (P W : Int) (x1 : Int) (G : St) : Fr (fS [172, 173, 174, 175, 187, 188, 190] [(100, 7), (100, 8), (100, 66), (100, 67), (100, 68)]) G (fun q => q.2) (Tw_isIndex P W x1 G) := by
  unfold Tw_isIndex
  exact frIf (frIf (frT (fr_Tw_isIndex_b22 _ _ _ _) (fS_mono rfl rfl) fq_rf) (frS fq_rf)) (frT (fr_Tw_isIndex_b22 _ _ _ _) (fS_mono rfl rfl) fq_rf)
theorem fr_Tw_indexed_s182 (P W : Int) (x1 : Int) (x2 : Int) (x3 : Int) (x4 : Int) (x5 : Int) (G : St) : Fr (fS [172, 173, 174, 175, 189] [(100, 7), (100, 8), (100, 66), (100, 67), (100, 68)]) G (Sum.elim (fun q => q.2) (Sum.elim (fun q => q.2) (fun q => q.2))) (Tw_indexed_s182 P W x1 x2 x3 x4 x5 G) := by
  unfold Tw_indexed_s182
  exact frIf (frCB (frBd (fr_Tw_elementBit _ _ _ _) (fS_mono rfl rfl) fq_rf (fun _ G10 hG10 => frBd (fr_Tw_and _ _ _) (fS_mono rfl rfl) hG10 (fun _ G12 hG12 => frBd (fr_Tw_xor _ _ _) (fS_mono rfl rfl) hG12 (fun _ G14 hG14 => frCB (frTk (fq_upL rfl hG14) (fun G15 hG15 => frCI (frS hG15)))))))) (frEx (frCI (frS fq_rf)))
theorem fr_Tw_indexed_l182 (P W : Int) (x1 : Int) (x2 : Int) (x3 : Int) (x4 : Int) (x5 : Int) (G : St) : Fr (fS [172, 173, 174, 175, 189] [(100, 7), (100, 8), (100, 66), (100, 67), (100, 68)]) G (Sum.elim (fun q => q.2) (fun q => q.2)) (Tw_indexed_l182 P W x1 x2 x3 x4 x5 G) := frWh (pi := fun (s : (Int × St)) => s.2) (fun (s : (Int × St)) => fr_Tw_indexed_s182 P W x1 x2 x3 x4 s.1 s.2)
theorem fr_Tw_indexed_s162 (P W : Int) (x1 : Int) (x2 : Int) (x3 : Int) (G : St) : Fr (fS [172, 173, 174, 175, 185, 187, 188, 189, 190] [(100, 7), (100, 8), (100, 66), (100, 67), (100, 68), (100, 85)]) G (Sum.elim (fun q => q.2) (fun q => q.2)) (Tw_indexed_s162 P W x1 x2 x3 G) := by
  unfold Tw_indexed_s162
  exact frCB (frIf (frBd (fr_Tw_isIndex _ _ _ _) (fS_mono rfl rfl) fq_rf (fun _ G8 hG8 => frT (fr_Tw_indexed_l182 _ _ _ _ _ _ _ _) (fS_mono rfl rfl) hG8)) (frEx (frBd (fr_Tw_pushZ _ _) (fS_mono rfl rfl) fq_rf (fun _ G6 hG6 => frS hG6))))
theorem fr_Tw_indexed_l162 (P W : Int) (x1 : Int) (x2 : Int) (x3 : Int) (G : St) : Fr (fS [172, 173, 174, 175, 185, 187, 188, 189, 190] [(100, 7), (100, 8), (100, 66), (100, 67), (100, 68), (100, 85)]) G (fun q => q.2) (Tw_indexed_l162 P W x1 x2 x3 G) := frWh (pi := fun (s : (Int × St)) => s.2) (fun (s : (Int × St)) => fr_Tw_indexed_s162 P W x1 x2 s.1 s.2)
theorem fr_Tw_indexed_s141 (P W : Int) (x1 : Int) (x2 : Int) (x3 : Int) (G : St) : Fr (fS [172, 173, 174, 175, 185, 187, 188, 189, 190] [(100, 7), (100, 8), (100, 66), (100, 67), (100, 68), (100, 85)]) G (Sum.elim (fun q => q.2) (fun q => q.2)) (Tw_indexed_s141 P W x1 x2 x3 G) := by
  unfold Tw_indexed_s141
  exact frIf (frCB (frTk (fq_upL rfl fq_rf) (fun G16 hG16 => frCI (frS hG16)))) (frEx (frT (fr_Tw_indexed_l162 _ _ _ _ _ _) (fS_mono rfl rfl) fq_rf))
theorem fr_Tw_indexed_l141 (P W : Int) (x1 : Int) (x2 : Int) (x3 : Int) (G : St) : Fr (fS [172, 173, 174, 175, 185, 187, 188, 189, 190] [(100, 7), (100, 8), (100, 66), (100, 67), (100, 68), (100, 85)]) G (fun q => q.2) (Tw_indexed_l141 P W x1 x2 x3 G) := frWh (pi := fun (s : (Int × St)) => s.2) (fun (s : (Int × St)) => fr_Tw_indexed_s141 P W x1 x2 s.1 s.2)
theorem fr_Tw_indexed_s113 (P W : Int) (x1 : Int) (x2 : Int) (x3 : Int) (G : St) : Fr (fS [172, 173, 174, 175, 185, 187, 188, 189, 190, 214] [(100, 7), (100, 8), (100, 66), (100, 67), (100, 68), (100, 85)]) G (Sum.elim (fun q => q.2) (fun q => q.2)) (Tw_indexed_s113 P W x1 x2 x3 G) := by
  unfold Tw_indexed_s113
  exact frIf (frCB (frCB (frTk (fq_upL rfl fq_rf) (fun G17 hG17 => frCI (frS hG17))))) (frEx (frT (fr_Tw_indexed_l141 _ _ _ _ _ _) (fS_mono rfl rfl) fq_rf))
theorem fr_Tw_indexed_l113 (P W : Int) (x1 : Int) (x2 : Int) (x3 : Int) (G : St) : Fr (fS [172, 173, 174, 175, 185, 187, 188, 189, 190, 214] [(100, 7), (100, 8), (100, 66), (100, 67), (100, 68), (100, 85)]) G (fun q => q.2) (Tw_indexed_l113 P W x1 x2 x3 G) := frWh (pi := fun (s : (Int × St)) => s.2) (fun (s : (Int × St)) => fr_Tw_indexed_s113 P W x1 x2 s.1 s.2)
theorem fr_Tw_indexed_s69 (P W : Int) (x1 : Int) (x2 : Int) (x3 : Int) (x5 : Int) (G : St) : Fr (fS [185, 189] [(100, 85)]) G (Sum.elim (fun q => q.2) (fun q => q.2)) (Tw_indexed_s69 P W x1 x2 x3 x5 G) := by
  unfold Tw_indexed_s69
  exact frIf (frBd (fr_Tw_elementBit _ _ _ _) (fS_mono rfl rfl) fq_rf (fun _ G24 hG24 => frCB (frTk (fq_upL rfl hG24) (fun G25 hG25 => frCI (frS hG25))))) (frEx (frBd (fr_Tw_pushZ _ _) (fS_mono rfl rfl) fq_rf (fun _ G22 hG22 => frS hG22)))
theorem fr_Tw_indexed_l69 (P W : Int) (x1 : Int) (x2 : Int) (x3 : Int) (x5 : Int) (G : St) : Fr (fS [185, 189] [(100, 85)]) G (fun q => q.2) (Tw_indexed_l69 P W x1 x2 x3 x5 G) := frWh (pi := fun (s : (Int × St)) => s.2) (fun (s : (Int × St)) => fr_Tw_indexed_s69 P W x1 x2 x3 s.1 s.2)
theorem fr_Tw_indexed (P W : Int) (x1 : Int) (G : St) : Fr (fS [172, 173, 174, 175, 185, 187, 188, 189, 190, 214] [(100, 7), (100, 8), (100, 66), (100, 67), (100, 68), (100, 85)]) G (fun q => q.2) (Tw_indexed P W x1 G) := by
  unfold Tw_indexed
  exact frCB (frBd (fr_Tw_widthOf _ _ _ _) (fS_mono rfl rfl) fq_rf (fun _ G2 hG2 => frCB (frIf (frBd (fr_Tw_popX _ _) (fS_mono rfl rfl) hG2 (fun _ G4 hG4 => frT (fr_Tw_indexed_l113 _ _ _ _ _ _) (fS_mono rfl rfl) hG4)) (frCI (frBd (fr_Tw_worthOf _ _ _ _) (fS_mono rfl rfl) hG2 (fun _ G19 hG19 => frCB (frIf (frCI (frTk (fq_upK rfl hG19) (fun G20 hG20 => frT (fr_Tw_indexed_l69 _ _ _ _ _ _ _) (fS_mono rfl rfl) hG20))) (frCB (frBd (fr_Tw_fail _ _ _) (fS_mono rfl rfl) hG19 (fun _ G27 hG27 => frS hG27))))))))))
theorem fr_Tw_named_b154 (P W : Int) (x1 : Int) (x2 : Int) (x3 : Int) (s0 : Int) (s1 : Int) (G : St) : Fr (fS [189] []) G (Sum.elim (fun q => q.2) (fun q => q.2)) (Tw_named_b154 P W x1 x2 x3 s0 s1 G) := by
  unfold Tw_named_b154
  exact frCB (frTk (fq_upL rfl fq_rf) (fun G5 hG5 => frCI (frS hG5)))
theorem fr_Tw_named_b142 (P W : Int) (x1 : Int) (x2 : Int) (x3 : Int) (s0 : Int) (s2 : Int) (s4 : Int) (G : St) : Fr (fS [189] []) G (Sum.elim (fun q => q.2) (fun q => q.2)) (Tw_named_b142 P W x1 x2 x3 s0 s2 s4 G) := by
  unfold Tw_named_b142
  exact frCB (frCB (frCI (frCI (frCI (frCB (frT (fr_Tw_named_b154 _ _ _ _ _ _ _ _) (fS_mono rfl rfl) fq_rf))))))
theorem fr_Tw_named_s13 (P W : Int) (x1 : Int) (x2 : Int) (x3 : Int) (G : St) : Fr (fS [185, 189] [(100, 85)]) G (Sum.elim (fun q => q.2) (fun q => q.2)) (Tw_named_s13 P W x1 x2 x3 G) := by
  unfold Tw_named_s13
  exact frIf (frCB (frIf (frCB (frCB (frCI (frCI (frT (fr_Tw_named_b154 _ _ _ _ _ _ _ _) (fS_mono rfl rfl) fq_rf))))) (frIf (frCB (frCI (frCI (frCB (frT (fr_Tw_named_b154 _ _ _ _ _ _ _ _) (fS_mono rfl rfl) fq_rf))))) (frIf (frCB (frCB (frT (fr_Tw_named_b154 _ _ _ _ _ _ _ _) (fS_mono rfl rfl) fq_rf))) (frIf (frCI (frT (fr_Tw_named_b142 _ _ _ _ _ _ _ _ _) (fS_mono rfl rfl) fq_rf)) (frT (fr_Tw_named_b142 _ _ _ _ _ _ _ _ _) (fS_mono rfl rfl) fq_rf)))))) (frEx (frBd (fr_Tw_pushZ _ _) (fS_mono rfl rfl) fq_rf (fun _ G4 hG4 => frS hG4)))
theorem fr_Tw_named_l13 (P W : Int) (x1 : Int) (x2 : Int) (x3 : Int) (G : St) : Fr (fS [185, 189] [(100, 85)]) G (fun q => q.2) (Tw_named_l13 P W x1 x2 x3 G) := frWh (pi := fun (s : (Int × St)) => s.2) (fun (s : (Int × St)) => fr_Tw_named_s13 P W x1 x2 s.1 s.2)
theorem fr_Tw_named (P W : Int) (x1 : Int) (G : St) : Fr (fS [185, 189] [(100, 85)]) G (fun q => q.2) (Tw_named P W x1 G) := by
  unfold Tw_named
  exact frCB (frBd (fr_Tw_widthOf _ _ _ _) (fS_mono rfl rfl) fq_rf (fun _ G2 hG2 => frT (fr_Tw_named_l13 _ _ _ _ _ _) (fS_mono rfl rfl) hG2))
theorem fr_Tw_step_b20 (G : St) : Fr (fS [] [(100, 70)]) G (fun q => q.2) (Tw_step_b20 G) := by
  unfold Tw_step_b20
  exact frCI (frTk (fq_upK rfl fq_rf) (fun G1 hG1 => frS hG1))
theorem fr_Tw_step (G : St) : Fr (fS [] [(100, 7), (100, 8), (100, 70)]) G (fun q => q.2) (Tw_step G) := by
  unfold Tw_step
  exact frIf (frBd (fr_Tw_statementPlace _) (fS_mono rfl rfl) fq_rf (fun _ G3 hG3 => frBd (fr_Tw_fail _ _ _) (fS_mono rfl rfl) hG3 (fun _ G5 hG5 => frT (fr_Tw_step_b20 _) (fS_mono rfl rfl) hG5))) (frT (fr_Tw_step_b20 _) (fS_mono rfl rfl) fq_rf)
theorem fr_Tw_unary_b103 (P W : Int) (x2 : Int) (G : St) : Fr (fS [185] [(100, 85)]) G (fun q => q.2) (Tw_unary_b103 P W x2 G) := by
  unfold Tw_unary_b103
  exact frBd (fr_Tw_pushZ _ _) (fS_mono rfl rfl) fq_rf (fun _ G4 hG4 => frS hG4)
theorem fr_Tw_unary_s78 (P W : Int) (x2 : Int) (x3 : Int) (G : St) : Fr (fS [185, 189] [(100, 85)]) G (Sum.elim (fun q => q.2) (fun q => q.2)) (Tw_unary_s78 P W x2 x3 G) := by
  unfold Tw_unary_s78
  exact frIf (frCB (frCB (frTk (fq_upL rfl fq_rf) (fun G5 hG5 => frCI (frS hG5))))) (frEx (frT (fr_Tw_unary_b103 _ _ _ _) (fS_mono rfl rfl) fq_rf))
theorem fr_Tw_unary_l78 (P W : Int) (x2 : Int) (x3 : Int) (G : St) : Fr (fS [185, 189] [(100, 85)]) G (fun q => q.2) (Tw_unary_l78 P W x2 x3 G) := frWh (pi := fun (s : (Int × St)) => s.2) (fun (s : (Int × St)) => fr_Tw_unary_s78 P W x2 s.1 s.2)
theorem fr_Tw_unary_s28 (P W : Int) (x2 : Int) (x3 : Int) (G : St) : Fr (fS [172, 173, 174, 175, 185, 187, 188, 189] [(100, 7), (100, 8), (100, 66), (100, 67), (100, 68), (100, 85)]) G (Sum.elim (fun q => q.2) (fun q => q.2)) (Tw_unary_s28 P W x2 x3 G) := by
  unfold Tw_unary_s28
  exact frIf (frCB (frCB (frTk (fq_upL rfl fq_rf) (fun G8 hG8 => frCB (frTk (fq_upL rfl hG8) (fun G9 hG9 => frCI (frS hG9))))))) (frEx (frBd (fr_Tw_sum _ _ _) (fS_mono rfl rfl) fq_rf (fun _ G7 hG7 => frT (fr_Tw_unary_b103 _ _ _ _) (fS_mono rfl rfl) hG7)))
theorem fr_Tw_unary_l28 (P W : Int) (x2 : Int) (x3 : Int) (G : St) : Fr (fS [172, 173, 174, 175, 185, 187, 188, 189] [(100, 7), (100, 8), (100, 66), (100, 67), (100, 68), (100, 85)]) G (fun q => q.2) (Tw_unary_l28 P W x2 x3 G) := frWh (pi := fun (s : (Int × St)) => s.2) (fun (s : (Int × St)) => fr_Tw_unary_s28 P W x2 s.1 s.2)
theorem fr_Tw_unary_b14 (P W : Int) (x1 : Int) (s0 : Int) (G : St) : Fr (fS [172, 173, 174, 175, 185, 187, 188, 189] [(100, 7), (100, 8), (100, 66), (100, 67), (100, 68), (100, 85)]) G (fun q => q.2) (Tw_unary_b14 P W x1 s0 G) := by
  unfold Tw_unary_b14
  exact frBd (fr_Tw_popX _ _) (fS_mono rfl rfl) fq_rf (fun _ G2 hG2 => frIf (frT (fr_Tw_unary_l28 _ _ _ _ _) (fS_mono rfl rfl) hG2) (frT (fr_Tw_unary_l78 _ _ _ _ _) (fS_mono rfl rfl) hG2))
theorem fr_Tw_unary (P W : Int) (x1 : Int) (G : St) : Fr (fS [172, 173, 174, 175, 185, 187, 188, 189] [(100, 7), (100, 8), (100, 66), (100, 67), (100, 68), (100, 85)]) G (fun q => q.2) (Tw_unary P W x1 G) := by
  unfold Tw_unary
  exact frT (fr_Tw_unary_b14 _ _ _ _ _) (fS_mono rfl rfl) fq_rf
theorem fr_Tw_operand_b435 (P W : Int) (x1 : Int) (G : St) : Fr (fS [] []) G (fun q => q.2) (Tw_operand_b435 P W x1 G) := by
  unfold Tw_operand_b435
  exact frCI (frS fq_rf)
theorem fr_Tw_operand_b76 (P W : Int) (x1 : Int) (G : St) : Fr (fS [] [(100, 7), (100, 8), (100, 70)]) G (fun q => q.2) (Tw_operand_b76 P W x1 G) := by
  unfold Tw_operand_b76
  exact frBd (fr_Tw_step _) (fS_mono rfl rfl) fq_rf (fun _ G2 hG2 => frT (fr_Tw_operand_b435 _ _ _ _) (fS_mono rfl rfl) hG2)
theorem fr_Tw_operand_b83 (P W : Int) (x1 : Int) (G : St) : Fr (fS [185, 189] [(100, 85)]) G (fun q => q.2) (Tw_operand_b83 P W x1 G) := by
  unfold Tw_operand_b83
  exact frCB (frBd (fr_Tw_constantZ _ _ _) (fS_mono rfl rfl) fq_rf (fun _ G4 hG4 => frBd (fr_Tw_pushZ _ _) (fS_mono rfl rfl) hG4 (fun _ G6 hG6 => frT (fr_Tw_operand_b435 _ _ _ _) (fS_mono rfl rfl) hG6)))
theorem fr_Tw_operand_b129 (P W : Int) (x1 : Int) (s0 : Int) (s1 : Int) (G : St) : Fr (fS [185, 189] [(100, 85)]) G (fun q => q.2) (Tw_operand_b129 P W x1 s0 s1 G) := by
  unfold Tw_operand_b129
  exact frCB (frTk (fq_upL rfl fq_rf) (fun G7 hG7 => frBd (fr_Tw_pushZ _ _) (fS_mono rfl rfl) hG7 (fun _ G9 hG9 => frT (fr_Tw_operand_b435 _ _ _ _) (fS_mono rfl rfl) hG9)))
theorem fr_Tw_operand_b108 (P W : Int) (x1 : Int) (G : St) : Fr (fS [185, 189] [(100, 85)]) G (fun q => q.2) (Tw_operand_b108 P W x1 G) := by
  unfold Tw_operand_b108
  exact frCB (frT (fr_Tw_operand_b129 _ _ _ _ _ _) (fS_mono rfl rfl) fq_rf)
theorem fr_Tw_operand_b138 (P W : Int) (x1 : Int) (G : St) : Fr (fS [185, 189] [(100, 85)]) G (fun q => q.2) (Tw_operand_b138 P W x1 G) := by
  unfold Tw_operand_b138
  exact frBd (fr_Tw_named _ _ _ _) (fS_mono rfl rfl) fq_rf (fun _ G11 hG11 => frT (fr_Tw_operand_b435 _ _ _ _) (fS_mono rfl rfl) hG11)
theorem fr_Tw_operand_b146 (P W : Int) (x1 : Int) (G : St) : Fr (fS [172, 173, 174, 175, 185, 187, 188, 189, 190, 214] [(100, 7), (100, 8), (100, 66), (100, 67), (100, 68), (100, 85)]) G (fun q => q.2) (Tw_operand_b146 P W x1 G) := by
  unfold Tw_operand_b146
  exact frBd (fr_Tw_indexed _ _ _ _) (fS_mono rfl rfl) fq_rf (fun _ G13 hG13 => frT (fr_Tw_operand_b435 _ _ _ _) (fS_mono rfl rfl) hG13)
theorem fr_Tw_operand_b154 (P W : Int) (x1 : Int) (G : St) : Fr (fS [212, 213] [(100, 110)]) G (fun q => q.2) (Tw_operand_b154 P W x1 G) := by
  unfold Tw_operand_b154
  exact frCB (frCB (frCI (frCB (frTk (fq_upL rfl fq_rf) (fun G14 hG14 => frCI (frCB (frTk (fq_upL rfl hG14) (fun G15 hG15 => frCI (frTk (fq_upK rfl hG15) (fun G16 hG16 => frBd (fr_Tw_bodyOf _ _) (fS_mono rfl rfl) hG16 (fun _ G18 hG18 => frS hG18)))))))))))
theorem fr_Tw_operand_b209 (P W : Int) (x1 : Int) (G : St) : Fr (fS [185, 187, 189] [(100, 85)]) G (fun q => q.2) (Tw_operand_b209 P W x1 G) := by
  unfold Tw_operand_b209
  exact frBd (fr_Tw_popX _ _) (fS_mono rfl rfl) fq_rf (fun _ G20 hG20 => frBd (fr_Tw_constantZ _ _ _) (fS_mono rfl rfl) hG20 (fun _ G22 hG22 => frCB (frCB (frTk (fq_upL rfl hG22) (fun G23 hG23 => frBd (fr_Tw_pushZ _ _) (fS_mono rfl rfl) hG23 (fun _ G25 hG25 => frT (fr_Tw_operand_b435 _ _ _ _) (fS_mono rfl rfl) hG25))))))
theorem fr_Tw_operand_b246 (P W : Int) (x1 : Int) (G : St) : Fr (fS [185, 187, 189] [(100, 7), (100, 8), (100, 85)]) G (fun q => q.2) (Tw_operand_b246 P W x1 G) := by
  unfold Tw_operand_b246
  exact frCI (frBd (fr_Tw_worthOf _ _ _ _) (fS_mono rfl rfl) fq_rf (fun _ G27 hG27 => frIf (frCI (frTk (fq_upK rfl hG27) (fun G28 hG28 => frBd (fr_Tw_popX _ _) (fS_mono rfl rfl) hG28 (fun _ G30 hG30 => frCB (frCB (frTk (fq_upL rfl hG30) (fun G31 hG31 => frBd (fr_Tw_pushZ _ _) (fS_mono rfl rfl) hG31 (fun _ G33 hG33 => frT (fr_Tw_operand_b435 _ _ _ _) (fS_mono rfl rfl) hG33)))))))) (frCB (frBd (fr_Tw_fail _ _ _) (fS_mono rfl rfl) hG27 (fun _ G35 hG35 => frT (fr_Tw_operand_b435 _ _ _ _) (fS_mono rfl rfl) hG35)))))
theorem fr_Tw_operand_b321 (P W : Int) (x1 : Int) (G : St) : Fr (fS [172, 173, 174, 175, 185, 187, 188, 189] [(100, 7), (100, 8), (100, 66), (100, 67), (100, 68), (100, 85)]) G (fun q => q.2) (Tw_operand_b321 P W x1 G) := by
  unfold Tw_operand_b321
  exact frCB (frBd (fr_Tw_unary _ _ _ _) (fS_mono rfl rfl) fq_rf (fun _ G37 hG37 => frT (fr_Tw_operand_b435 _ _ _ _) (fS_mono rfl rfl) hG37))
theorem fr_Tw_operand_b334 (P W : Int) (x1 : Int) (G : St) : Fr (fS [172, 173, 174, 175, 185, 187, 188, 189, 190, 191, 192, 193, 194] [(100, 7), (100, 8), (100, 66), (100, 67), (100, 68), (100, 85)]) G (fun q => q.2) (Tw_operand_b334 P W x1 G) := by
  unfold Tw_operand_b334
  exact frBd (fr_Tw_binary _ _ _ _) (fS_mono rfl rfl) fq_rf (fun _ G39 hG39 => frT (fr_Tw_operand_b435 _ _ _ _) (fS_mono rfl rfl) hG39)
theorem fr_Tw_operand_s389 (P W : Int) (x1 : Int) (x2 : Int) (x3 : Int) (x4 : Int) (G : St) : Fr (fS [172, 173, 174, 175, 185, 189] [(100, 7), (100, 8), (100, 66), (100, 67), (100, 68), (100, 85)]) G (Sum.elim (fun q => q.2) (fun q => q.2)) (Tw_operand_s389 P W x1 x2 x3 x4 G) := by
  unfold Tw_operand_s389
  exact frIf (frCB (frCB (frBd (fr_Tw_mux _ _ _ _) (fS_mono rfl rfl) fq_rf (fun _ G50 hG50 => frCB (frTk (fq_upL rfl hG50) (fun G51 hG51 => frCI (frS hG51))))))) (frEx (frBd (fr_Tw_pushZ _ _) (fS_mono rfl rfl) fq_rf (fun _ G48 hG48 => frT (fr_Tw_operand_b435 _ _ _ _) (fS_mono rfl rfl) hG48)))
theorem fr_Tw_operand_l389 (P W : Int) (x1 : Int) (x2 : Int) (x3 : Int) (x4 : Int) (G : St) : Fr (fS [172, 173, 174, 175, 185, 189] [(100, 7), (100, 8), (100, 66), (100, 67), (100, 68), (100, 85)]) G (fun q => q.2) (Tw_operand_l389 P W x1 x2 x3 x4 G) := frWh (pi := fun (s : (Int × St)) => s.2) (fun (s : (Int × St)) => fr_Tw_operand_s389 P W x1 x2 x3 s.1 s.2)
theorem fr_Tw_operand_b342 (P W : Int) (x1 : Int) (G : St) : Fr (fS [172, 173, 174, 175, 185, 187, 188, 189] [(100, 7), (100, 8), (100, 66), (100, 67), (100, 68), (100, 85)]) G (fun q => q.2) (Tw_operand_b342 P W x1 G) := by
  unfold Tw_operand_b342
  exact frCB (frBd (fr_Tw_widthOf _ _ _ _) (fS_mono rfl rfl) fq_rf (fun _ G41 hG41 => frBd (fr_Tw_popY _ _) (fS_mono rfl rfl) hG41 (fun _ G43 hG43 => frBd (fr_Tw_popX _ _) (fS_mono rfl rfl) hG43 (fun _ G45 hG45 => frCI (frTk (fq_upK rfl hG45) (fun G46 hG46 => frCI (frCB (frT (fr_Tw_operand_l389 _ _ _ _ _ _ _) (fS_mono rfl rfl) hG46))))))))
theorem fr_Tw_operand (P W : Int) (x1 : Int) (G : St) : Fr (fS [172, 173, 174, 175, 185, 187, 188, 189, 190, 191, 192, 193, 194, 212, 213, 214] [(100, 7), (100, 8), (100, 66), (100, 67), (100, 68), (100, 70), (100, 85), (100, 110)]) G (fun q => q.2) (Tw_operand P W x1 G) := by
  unfold Tw_operand
  exact frCB (frSwt (List.forall_mem_cons.mpr ⟨frT (fr_Tw_operand_b76 _ _ _ _) (fS_mono rfl rfl) fq_rf, (List.forall_mem_cons.mpr ⟨frT (fr_Tw_operand_b83 _ _ _ _) (fS_mono rfl rfl) fq_rf, (List.forall_mem_cons.mpr ⟨frT (fr_Tw_operand_b108 _ _ _ _) (fS_mono rfl rfl) fq_rf, (List.forall_mem_cons.mpr ⟨frT (fr_Tw_operand_b108 _ _ _ _) (fS_mono rfl rfl) fq_rf, (List.forall_mem_cons.mpr ⟨frT (fr_Tw_operand_b138 _ _ _ _) (fS_mono rfl rfl) fq_rf, (List.forall_mem_cons.mpr ⟨frT (fr_Tw_operand_b435 _ _ _ _) (fS_mono rfl rfl) fq_rf, (List.forall_mem_cons.mpr ⟨frT (fr_Tw_operand_b146 _ _ _ _) (fS_mono rfl rfl) fq_rf, (List.forall_mem_cons.mpr ⟨frT (fr_Tw_operand_b435 _ _ _ _) (fS_mono rfl rfl) fq_rf, (List.forall_mem_cons.mpr ⟨frT (fr_Tw_operand_b154 _ _ _ _) (fS_mono rfl rfl) fq_rf, (List.forall_mem_cons.mpr ⟨frT (fr_Tw_operand_b209 _ _ _ _) (fS_mono rfl rfl) fq_rf, (List.forall_mem_cons.mpr ⟨frT (fr_Tw_operand_b246 _ _ _ _) (fS_mono rfl rfl) fq_rf, (List.forall_mem_cons.mpr ⟨frT (fr_Tw_operand_b321 _ _ _ _) (fS_mono rfl rfl) fq_rf, (List.forall_mem_cons.mpr ⟨frT (fr_Tw_operand_b334 _ _ _ _) (fS_mono rfl rfl) fq_rf, (List.forall_mem_cons.mpr ⟨frT (fr_Tw_operand_b342 _ _ _ _) (fS_mono rfl rfl) fq_rf, (fun _ h => nomatch h)⟩)⟩)⟩)⟩)⟩)⟩)⟩)⟩)⟩)⟩)⟩)⟩)⟩)⟩) (frT (fr_Tw_operand_b435 _ _ _ _) (fS_mono rfl rfl) fq_rf))
theorem fr_Tw_bringVars_s21 (x1 : Int) (x2 : Int) (x3 : Int) (x4 : Int) (G : St) : Fr (fS [197] []) G (Sum.elim (fun q => q.2) (Sum.elim (fun q => q.2) (fun q => q.2))) (Tw_bringVars_s21 x1 x2 x3 x4 G) := by
  unfold Tw_bringVars_s21
  exact frCB (frCB (frCI (frCI (frIf (frCI (frCI (frCB (frCB (frTk (fq_upL rfl fq_rf) (fun G1 hG1 => frCI (frS hG1))))))) (frEx (frCI (frS fq_rf)))))))
theorem fr_Tw_bringVars_l21 (x1 : Int) (x2 : Int) (x3 : Int) (x4 : Int) (G : St) : Fr (fS [197] []) G (Sum.elim (fun q => q.2) (fun q => q.2)) (Tw_bringVars_l21 x1 x2 x3 x4 G) := frWh (pi := fun (s : (Int × St)) => s.2) (fun (s : (Int × St)) => fr_Tw_bringVars_s21 x1 x2 x3 s.1 s.2)
theorem fr_Tw_bringVars_s2 (x1 : Int) (x2 : Int) (x3 : Int) (G : St) : Fr (fS [197] []) G (Sum.elim (fun q => q.2) (fun q => q.2)) (Tw_bringVars_s2 x1 x2 x3 G) := by
  unfold Tw_bringVars_s2
  exact frIf (frCB (frCI (frT (fr_Tw_bringVars_l21 _ _ _ _ _) (fS_mono rfl rfl) fq_rf))) (frEx (frS fq_rf))
theorem fr_Tw_bringVars_l2 (x1 : Int) (x2 : Int) (x3 : Int) (G : St) : Fr (fS [197] []) G (fun q => q.2) (Tw_bringVars_l2 x1 x2 x3 G) := frWh (pi := fun (s : (Int × St)) => s.2) (fun (s : (Int × St)) => fr_Tw_bringVars_s2 x1 x2 s.1 s.2)
theorem fr_Tw_bringVars (x1 : Int) (x2 : Int) (G : St) : Fr (fS [197] []) G (fun q => q.2) (Tw_bringVars x1 x2 G) := by
  unfold Tw_bringVars
  exact frT (fr_Tw_bringVars_l2 _ _ _ _) (fS_mono rfl rfl) fq_rf
theorem fr_Tw_endOfIf_s89 (x1 : Int) (x2 : Int) (x3 : Int) (x4 : Int) (G : St) : Fr (fS [172, 173, 174, 175, 197] [(100, 7), (100, 8), (100, 66), (100, 67), (100, 68)]) G (Sum.elim (fun q => q.2) (Sum.elim (fun q => q.2) (Sum.elim (fun q => q.2) (fun q => q.2)))) (Tw_endOfIf_s89 x1 x2 x3 x4 G) := by
  unfold Tw_endOfIf_s89
  exact frCB (frIf (frCI (frCI (frCB (frCI (frCI (frCI (frCI (frCB (frCI (frCI (frCB (frBd (fr_Tw_mux _ _ _ _) (fS_mono rfl rfl) fq_rf (fun _ G4 hG4 => frCB (frTk (fq_upL rfl hG4) (fun G5 hG5 => frCI (frS hG5)))))))))))))))) (frEx (frCI (frS fq_rf))))
theorem fr_Tw_endOfIf_l89 (x1 : Int) (x2 : Int) (x3 : Int) (x4 : Int) (G : St) : Fr (fS [172, 173, 174, 175, 197] [(100, 7), (100, 8), (100, 66), (100, 67), (100, 68)]) G (Sum.elim (fun q => q.2) (Sum.elim (fun q => q.2) (fun q => q.2))) (Tw_endOfIf_l89 x1 x2 x3 x4 G) := frWh (pi := fun (s : (Int × St)) => s.2) (fun (s : (Int × St)) => fr_Tw_endOfIf_s89 x1 x2 x3 s.1 s.2)
theorem fr_Tw_endOfIf_s69 (x1 : Int) (x2 : Int) (x3 : Int) (G : St) : Fr (fS [172, 173, 174, 175, 197] [(100, 7), (100, 8), (100, 66), (100, 67), (100, 68)]) G (Sum.elim (fun q => q.2) (Sum.elim (fun q => q.2) (fun q => q.2))) (Tw_endOfIf_s69 x1 x2 x3 G) := by
  unfold Tw_endOfIf_s69
  exact frCB (frCB (frCI (frIf (frT (fr_Tw_endOfIf_l89 _ _ _ _ _) (fS_mono rfl rfl) fq_rf) (frEx (frCI (frS fq_rf))))))
theorem fr_Tw_endOfIf_l69 (x1 : Int) (x2 : Int) (x3 : Int) (G : St) : Fr (fS [172, 173, 174, 175, 197] [(100, 7), (100, 8), (100, 66), (100, 67), (100, 68)]) G (Sum.elim (fun q => q.2) (fun q => q.2)) (Tw_endOfIf_l69 x1 x2 x3 G) := frWh (pi := fun (s : (Int × St)) => s.2) (fun (s : (Int × St)) => fr_Tw_endOfIf_s69 x1 x2 s.1 s.2)
theorem fr_Tw_endOfIf_s54 (x1 : Int) (x2 : Int) (G : St) : Fr (fS [172, 173, 174, 175, 197] [(100, 7), (100, 8), (100, 66), (100, 67), (100, 68)]) G (Sum.elim (fun q => q.2) (fun q => q.2)) (Tw_endOfIf_s54 x1 x2 G) := by
  unfold Tw_endOfIf_s54
  exact frIf (frCB (frT (fr_Tw_endOfIf_l69 _ _ _ _) (fS_mono rfl rfl) fq_rf)) (frEx (frS fq_rf))
theorem fr_Tw_endOfIf_l54 (x1 : Int) (x2 : Int) (G : St) : Fr (fS [172, 173, 174, 175, 197] [(100, 7), (100, 8), (100, 66), (100, 67), (100, 68)]) G (fun q => q.2) (Tw_endOfIf_l54 x1 x2 G) := frWh (pi := fun (s : (Int × St)) => s.2) (fun (s : (Int × St)) => fr_Tw_endOfIf_s54 x1 s.1 s.2)
theorem fr_Tw_endOfIf_b52 (x1 : Int) (G : St) : Fr (fS [172, 173, 174, 175, 197] [(100, 7), (100, 8), (100, 66), (100, 67), (100, 68)]) G (fun q => q.2) (Tw_endOfIf_b52 x1 G) := by
  unfold Tw_endOfIf_b52
  exact frT (fr_Tw_endOfIf_l54 _ _ _) (fS_mono rfl rfl) fq_rf
theorem fr_Tw_setElement_s165 (P W : Int) (x1 : Int) (x2 : Int) (x3 : Int) (x4 : Int) (x5 : Int) (x6 : Int) (G : St) : Fr (fS [172, 173, 174, 175, 197] [(100, 7), (100, 8), (100, 66), (100, 67), (100, 68)]) G (Sum.elim (fun q => q.2) (Sum.elim (fun q => q.2) (fun q => q.2))) (Tw_setElement_s165 P W x1 x2 x3 x4 x5 x6 G) := by
  unfold Tw_setElement_s165
  exact frIf (frCB (frCI (frCI (frCI (frCI (frCI (frCB (frCB (frBd (fr_Tw_mux _ _ _ _) (fS_mono rfl rfl) fq_rf (fun _ G7 hG7 => frCB (frTk (fq_upL rfl hG7) (fun G8 hG8 => frCI (frS hG8))))))))))))) (frEx (frCI (frS fq_rf)))
theorem fr_Tw_setElement_l165 (P W : Int) (x1 : Int) (x2 : Int) (x3 : Int) (x4 : Int) (x5 : Int) (x6 : Int) (G : St) : Fr (fS [172, 173, 174, 175, 197] [(100, 7), (100, 8), (100, 66), (100, 67), (100, 68)]) G (Sum.elim (fun q => q.2) (fun q => q.2)) (Tw_setElement_l165 P W x1 x2 x3 x4 x5 x6 G) := frWh (pi := fun (s : (Int × St)) => s.2) (fun (s : (Int × St)) => fr_Tw_setElement_s165 P W x1 x2 x3 x4 x5 s.1 s.2)
theorem fr_Tw_setElement_s143 (P W : Int) (x1 : Int) (x2 : Int) (x3 : Int) (x4 : Int) (G : St) : Fr (fS [172, 173, 174, 175, 187, 188, 190, 197] [(100, 7), (100, 8), (100, 66), (100, 67), (100, 68), (100, 85)]) G (Sum.elim (fun q => q.2) (fun q => q.2)) (Tw_setElement_s143 P W x1 x2 x3 x4 G) := by
  unfold Tw_setElement_s143
  exact frCB (frIf (frBd (fr_Tw_isIndex _ _ _ _) (fS_mono rfl rfl) fq_rf (fun _ G5 hG5 => frT (fr_Tw_setElement_l165 _ _ _ _ _ _ _ _ _) (fS_mono rfl rfl) hG5)) (frEx (frCI (frTk (fq_upK rfl fq_rf) (fun G3 hG3 => frS hG3)))))
theorem fr_Tw_setElement_l143 (P W : Int) (x1 : Int) (x2 : Int) (x3 : Int) (x4 : Int) (G : St) : Fr (fS [172, 173, 174, 175, 187, 188, 190, 197] [(100, 7), (100, 8), (100, 66), (100, 67), (100, 68), (100, 85)]) G (fun q => q.2) (Tw_setElement_l143 P W x1 x2 x3 x4 G) := frWh (pi := fun (s : (Int × St)) => s.2) (fun (s : (Int × St)) => fr_Tw_setElement_s143 P W x1 x2 x3 s.1 s.2)
theorem fr_Tw_setElement_s101 (P W : Int) (x1 : Int) (x2 : Int) (x3 : Int) (x4 : Int) (G : St) : Fr (fS [172, 173, 174, 175, 187, 188, 190, 197, 214] [(100, 7), (100, 8), (100, 66), (100, 67), (100, 68), (100, 85)]) G (Sum.elim (fun q => q.2) (fun q => q.2)) (Tw_setElement_s101 P W x1 x2 x3 x4 G) := by
  unfold Tw_setElement_s101
  exact frIf (frCI (frCI (frCI (frCB (frCB (frTk (fq_upL rfl fq_rf) (fun G9 hG9 => frCI (frS hG9)))))))) (frEx (frT (fr_Tw_setElement_l143 _ _ _ _ _ _ _) (fS_mono rfl rfl) fq_rf))
theorem fr_Tw_setElement_l101 (P W : Int) (x1 : Int) (x2 : Int) (x3 : Int) (x4 : Int) (G : St) : Fr (fS [172, 173, 174, 175, 187, 188, 190, 197, 214] [(100, 7), (100, 8), (100, 66), (100, 67), (100, 68), (100, 85)]) G (fun q => q.2) (Tw_setElement_l101 P W x1 x2 x3 x4 G) := frWh (pi := fun (s : (Int × St)) => s.2) (fun (s : (Int × St)) => fr_Tw_setElement_s101 P W x1 x2 x3 s.1 s.2)
theorem fr_Tw_setElement_s42 (P W : Int) (x1 : Int) (x2 : Int) (x3 : Int) (x4 : Int) (x6 : Int) (G : St) : Fr (fS [197] [(100, 85)]) G (Sum.elim (fun q => q.2) (fun q => q.2)) (Tw_setElement_s42 P W x1 x2 x3 x4 x6 G) := by
  unfold Tw_setElement_s42
  exact frIf (frCB (frCI (frCI (frCI (frCI (frCI (frCB (frCB (frTk (fq_upL rfl fq_rf) (fun G13 hG13 => frCI (frS hG13))))))))))) (frEx (frCI (frTk (fq_upK rfl fq_rf) (fun G12 hG12 => frS hG12))))
theorem fr_Tw_setElement_l42 (P W : Int) (x1 : Int) (x2 : Int) (x3 : Int) (x4 : Int) (x6 : Int) (G : St) : Fr (fS [197] [(100, 85)]) G (fun q => q.2) (Tw_setElement_l42 P W x1 x2 x3 x4 x6 G) := frWh (pi := fun (s : (Int × St)) => s.2) (fun (s : (Int × St)) => fr_Tw_setElement_s42 P W x1 x2 x3 x4 s.1 s.2)
theorem fr_Tw_setElement (P W : Int) (x1 : Int) (G : St) : Fr (fS [172, 173, 174, 175, 187, 188, 190, 197, 214] [(100, 7), (100, 8), (100, 66), (100, 67), (100, 68), (100, 85)]) G (fun q => q.2) (Tw_setElement P W x1 G) := by
  unfold Tw_setElement
  exact frCB (frBd (fr_Tw_widthOf _ _ _ _) (fS_mono rfl rfl) fq_rf (fun _ G2 hG2 => frCI (frCB (frIf (frT (fr_Tw_setElement_l101 _ _ _ _ _ _ _) (fS_mono rfl rfl) hG2) (frCI (frBd (fr_Tw_worthOf _ _ _ _) (fS_mono rfl rfl) hG2 (fun _ G11 hG11 => frT (fr_Tw_setElement_l42 _ _ _ _ _ _ _ _) (fS_mono rfl rfl) hG11)))))))
theorem fr_Tw_variable_s168 (P W : Int) (x1 : Int) (x2 : Int) (x5 : Int) (x6 : Int) (G : St) : Fr (fS [197] []) G (Sum.elim (fun q => q.2) (Sum.elim (fun q => q.2) (fun q => q.2))) (Tw_variable_s168 P W x1 x2 x5 x6 G) := by
  unfold Tw_variable_s168
  exact frIf (frCB (frCI (frCI (frCI (frCB (frCB (frTk (fq_upL rfl fq_rf) (fun G10 hG10 => frCI (frS hG10))))))))) (frEx (frCI (frS fq_rf)))
theorem fr_Tw_variable_l168 (P W : Int) (x1 : Int) (x2 : Int) (x5 : Int) (x6 : Int) (G : St) : Fr (fS [197] []) G (Sum.elim (fun q => q.2) (fun q => q.2)) (Tw_variable_l168 P W x1 x2 x5 x6 G) := frWh (pi := fun (s : (Int × St)) => s.2) (fun (s : (Int × St)) => fr_Tw_variable_s168 P W x1 x2 x5 s.1 s.2)
theorem fr_Tw_variable_s151 (P W : Int) (x1 : Int) (x2 : Int) (x5 : Int) (G : St) : Fr (fS [197] [(100, 97)]) G (Sum.elim (fun q => q.2) (fun q => q.2)) (Tw_variable_s151 P W x1 x2 x5 G) := by
  unfold Tw_variable_s151
  exact frCB (frIf (frT (fr_Tw_variable_l168 _ _ _ _ _ _ _) (fS_mono rfl rfl) fq_rf) (frEx (frCI (frTk (fq_upK rfl fq_rf) (fun G9 hG9 => frS hG9)))))
theorem fr_Tw_variable_l151 (P W : Int) (x1 : Int) (x2 : Int) (x5 : Int) (G : St) : Fr (fS [197] [(100, 97)]) G (fun q => q.2) (Tw_variable_l151 P W x1 x2 x5 G) := frWh (pi := fun (s : (Int × St)) => s.2) (fun (s : (Int × St)) => fr_Tw_variable_s151 P W x1 x2 s.1 s.2)
theorem fr_Tw_variable_b137 (P W : Int) (x1 : Int) (x2 : Int) (s0 : Int) (s1 : Int) (G : St) : Fr (fS [197, 200, 201] [(100, 97)]) G (fun q => q.2) (Tw_variable_b137 P W x1 x2 s0 s1 G) := by
  unfold Tw_variable_b137
  exact frCB (frTk (fq_upL rfl fq_rf) (fun G7 hG7 => frCB (frTk (fq_upL rfl hG7) (fun G8 hG8 => frT (fr_Tw_variable_l151 _ _ _ _ _ _) (fS_mono rfl rfl) hG8))))
theorem fr_Tw_variable_b103 (P W : Int) (x1 : Int) (x2 : Int) (x4 : Int) (G : St) : Fr (fS [197, 199, 200, 201] [(100, 97)]) G (fun q => q.2) (Tw_variable_b103 P W x1 x2 x4 G) := by
  unfold Tw_variable_b103
  exact frCB (frCB (frTk (fq_upL rfl fq_rf) (fun G6 hG6 => frT (fr_Tw_variable_b137 _ _ _ _ _ _ _) (fS_mono rfl rfl) hG6)))
theorem fr_Tw_variable_s69 (P W : Int) (x1 : Int) (x2 : Int) (x4 : Int) (x5 : Int) (G : St) : Fr (fS [189, 197, 199, 200, 201] [(100, 97)]) G (Sum.elim (fun q => q.2) (fun q => q.2)) (Tw_variable_s69 P W x1 x2 x4 x5 G) := by
  unfold Tw_variable_s69
  exact frIf (frCI (frCI (frCB (frCB (frTk (fq_upL rfl fq_rf) (fun G12 hG12 => frCI (frS hG12))))))) (frEx (frT (fr_Tw_variable_b103 _ _ _ _ _ _) (fS_mono rfl rfl) fq_rf))
theorem fr_Tw_variable_l69 (P W : Int) (x1 : Int) (x2 : Int) (x4 : Int) (x5 : Int) (G : St) : Fr (fS [189, 197, 199, 200, 201] [(100, 97)]) G (fun q => q.2) (Tw_variable_l69 P W x1 x2 x4 x5 G) := frWh (pi := fun (s : (Int × St)) => s.2) (fun (s : (Int × St)) => fr_Tw_variable_s69 P W x1 x2 x4 s.1 s.2)
theorem fr_Tw_variable_b29 (P W : Int) (x1 : Int) (x2 : Int) (s0 : Int) (G : St) : Fr (fS [189, 197, 199, 200, 201] [(100, 85), (100, 97)]) G (fun q => q.2) (Tw_variable_b29 P W x1 x2 s0 G) := by
  unfold Tw_variable_b29
  exact frCB (frVl (fun _ => frBd (fr_Tw_constantZ _ _ _) (fS_mono rfl rfl) fq_rf (fun _ G5 hG5 => frIf (frT (fr_Tw_variable_b103 _ _ _ _ _ _) (fS_mono rfl rfl) hG5) (frCI (frTk (fq_upK rfl hG5) (fun G11 hG11 => frT (fr_Tw_variable_l69 _ _ _ _ _ _ _) (fS_mono rfl rfl) hG11))))))
theorem fr_Tw_variable (P W : Int) (x1 : Int) (G : St) : Fr (fS [189, 197, 199, 200, 201] [(100, 85), (100, 97)]) G (fun q => q.2) (Tw_variable P W x1 G) := by
  unfold Tw_variable
  exact frCB (frBd (fr_Tw_widthOf _ _ _ _) (fS_mono rfl rfl) fq_rf (fun _ G2 hG2 => frCB (frT (fr_Tw_variable_b29 _ _ _ _ _ _) (fS_mono rfl rfl) hG2)))
theorem fr_Tw_statement_b756 (P W : Int) (x1 : Int) (G : St) : Fr (fS [] []) G (fun q => q.2) (Tw_statement_b756 P W x1 G) := by
  unfold Tw_statement_b756
  exact frCI (frS fq_rf)
theorem fr_Tw_statement_b112 (P W : Int) (x1 : Int) (G : St) : Fr (fS [196] [(100, 7), (100, 8), (100, 70), (100, 94)]) G (fun q => q.2) (Tw_statement_b112 P W x1 G) := by
  unfold Tw_statement_b112
  exact frCB (frCB (frTk (fq_upL rfl fq_rf) (fun G1 hG1 => frCI (frTk (fq_upK rfl hG1) (fun G2 hG2 => frBd (fr_Tw_step _) (fS_mono rfl rfl) hG2 (fun _ G4 hG4 => frT (fr_Tw_statement_b756 _ _ _ _) (fS_mono rfl rfl) hG4))))))
theorem fr_Tw_statement_b144 (P W : Int) (x1 : Int) (G : St) : Fr (fS [] [(100, 94)]) G (fun q => q.2) (Tw_statement_b144 P W x1 G) := by
  unfold Tw_statement_b144
  exact frCI (frTk (fq_upK rfl fq_rf) (fun G5 hG5 => frT (fr_Tw_statement_b756 _ _ _ _) (fS_mono rfl rfl) hG5))
theorem fr_Tw_statement_b157 (P W : Int) (x1 : Int) (G : St) : Fr (fS [189, 197, 199, 200, 201] [(100, 85), (100, 97)]) G (fun q => q.2) (Tw_statement_b157 P W x1 G) := by
  unfold Tw_statement_b157
  exact frBd (fr_Tw_variable _ _ _ _) (fS_mono rfl rfl) fq_rf (fun _ G7 hG7 => frT (fr_Tw_statement_b756 _ _ _ _) (fS_mono rfl rfl) hG7)
theorem fr_Tw_statement_b165 (P W : Int) (x1 : Int) (G : St) : Fr (fS [] []) G (fun q => q.2) (Tw_statement_b165 P W x1 G) := by
  unfold Tw_statement_b165
  exact frCB (frCI (frS fq_rf))
theorem fr_Tw_statement_s197 (P W : Int) (x2 : Int) (x3 : Int) (G : St) : Fr (fS [185] [(100, 85)]) G (Sum.elim (fun q => q.2) (fun q => q.2)) (Tw_statement_s197 P W x2 x3 G) := by
  unfold Tw_statement_s197
  exact frIf (frCI (frCI (frCI (frCI (frCI (frCB (frCB (frTk (fq_upL rfl fq_rf) (fun G10 hG10 => frCI (frS hG10)))))))))) (frEx (frCI (frTk (fq_upK rfl fq_rf) (fun G9 hG9 => frCB (frS hG9)))))
theorem fr_Tw_statement_l197 (P W : Int) (x2 : Int) (x3 : Int) (G : St) : Fr (fS [185] [(100, 85)]) G (fun q => q.2) (Tw_statement_l197 P W x2 x3 G) := frWh (pi := fun (s : (Int × St)) => s.2) (fun (s : (Int × St)) => fr_Tw_statement_s197 P W x2 s.1 s.2)
theorem fr_Tw_statement_b175 (P W : Int) (G : St) : Fr (fS [185] [(100, 85), (100, 110)]) G (fun q => q.2) (Tw_statement_b175 P W G) := by
  unfold Tw_statement_b175
  exact frCI (frTk (fq_upK rfl fq_rf) (fun G8 hG8 => frCB (frT (fr_Tw_statement_l197 _ _ _ _ _) (fS_mono rfl rfl) hG8)))
theorem fr_Tw_statement_s284 (P W : Int) (x1 : Int) (x2 : Int) (G : St) : Fr (fS [183] [(100, 69)]) G (Sum.elim (fun q => q.2) (fun q => q.2)) (Tw_statement_s284 P W x1 x2 G) := by
  unfold Tw_statement_s284
  exact frCB (frIf (frCI (frCI (frCI (frCI (frCB (frCB (frTk (fq_upL rfl fq_rf) (fun G16 hG16 => frCI (frS hG16))))))))) (frEx (frCI (frTk (fq_upK rfl fq_rf) (fun G15 hG15 => frT (fr_Tw_statement_b756 _ _ _ _) (fS_mono rfl rfl) hG15)))))
theorem fr_Tw_statement_l284 (P W : Int) (x1 : Int) (x2 : Int) (G : St) : Fr (fS [183] [(100, 69)]) G (fun q => q.2) (Tw_statement_l284 P W x1 x2 G) := frWh (pi := fun (s : (Int × St)) => s.2) (fun (s : (Int × St)) => fr_Tw_statement_s284 P W x1 s.1 s.2)
theorem fr_Tw_statement_b253 (P W : Int) (x1 : Int) (G : St) : Fr (fS [182, 183] [(100, 69), (100, 85)]) G (fun q => q.2) (Tw_statement_b253 P W x1 G) := by
  unfold Tw_statement_b253
  exact frCB (frBd (fr_Tw_widthOf _ _ _ _) (fS_mono rfl rfl) fq_rf (fun _ G12 hG12 => frCB (frTk (fq_upL rfl hG12) (fun G13 hG13 => frCI (frTk (fq_upK rfl hG13) (fun G14 hG14 => frT (fr_Tw_statement_l284 _ _ _ _ _) (fS_mono rfl rfl) hG14))))))
theorem fr_Tw_statement_s356 (P W : Int) (x1 : Int) (x2 : Int) (G : St) : Fr (fS [197] []) G (Sum.elim (fun q => q.2) (fun q => q.2)) (Tw_statement_s356 P W x1 x2 G) := by
  unfold Tw_statement_s356
  exact frCB (frBd (fr_Tw_widthOf _ _ _ _) (fS_mono rfl rfl) fq_rf (fun _ G19 hG19 => frIf (frCB (frCI (frCI (frCI (frCI (frCB (frCB (frTk (fq_upL rfl hG19) (fun G20 hG20 => frCI (frS hG20)))))))))) (frEx (frT (fr_Tw_statement_b756 _ _ _ _) (fS_mono rfl rfl) hG19))))
theorem fr_Tw_statement_l356 (P W : Int) (x1 : Int) (x2 : Int) (G : St) : Fr (fS [197] []) G (fun q => q.2) (Tw_statement_l356 P W x1 x2 G) := frWh (pi := fun (s : (Int × St)) => s.2) (fun (s : (Int × St)) => fr_Tw_statement_s356 P W x1 s.1 s.2)
theorem fr_Tw_statement_b344 (P W : Int) (x1 : Int) (G : St) : Fr (fS [197] [(100, 85)]) G (fun q => q.2) (Tw_statement_b344 P W x1 G) := by
  unfold Tw_statement_b344
  exact frCI (frTk (fq_upK rfl fq_rf) (fun G17 hG17 => frT (fr_Tw_statement_l356 _ _ _ _ _) (fS_mono rfl rfl) hG17))
theorem fr_Tw_statement_b409 (P W : Int) (x1 : Int) (G : St) : Fr (fS [172, 173, 174, 175, 187, 188, 190, 197, 214] [(100, 7), (100, 8), (100, 66), (100, 67), (100, 68), (100, 85)]) G (fun q => q.2) (Tw_statement_b409 P W x1 G) := by
  unfold Tw_statement_b409
  exact frBd (fr_Tw_setElement _ _ _ _) (fS_mono rfl rfl) fq_rf (fun _ G22 hG22 => frT (fr_Tw_statement_b756 _ _ _ _) (fS_mono rfl rfl) hG22)
theorem fr_Tw_statement_b606 (P W : Int) (x1 : Int) (G : St) : Fr (fS [208, 209, 210] [(100, 7), (100, 8), (100, 85)]) G (fun q => q.2) (Tw_statement_b606 P W x1 G) := by
  unfold Tw_statement_b606
  exact frCI (frBd (fr_Tw_worthOf _ _ _ _) (fS_mono rfl rfl) fq_rf (fun _ G39 hG39 => frCI (frBd (fr_Tw_worthOf _ _ _ _) (fS_mono rfl rfl) hG39 (fun _ G41 hG41 => frCI (frTk (fq_upK rfl hG41) (fun G42 hG42 => frIf (frCB (frCI (frS hG42))) (frCL (frIf (frCB (frBd (fr_Tw_fail _ _ _) (fS_mono rfl rfl) hG42 (fun _ G47 hG47 => frT (fr_Tw_statement_b756 _ _ _ _) (fS_mono rfl rfl) hG47))) (frCB (frTk (fq_upL rfl hG42) (fun G43 hG43 => frCB (frTk (fq_upL rfl hG43) (fun G44 hG44 => frCB (frTk (fq_upL rfl hG44) (fun G45 hG45 => frT (fr_Tw_statement_b756 _ _ _ _) (fS_mono rfl rfl) hG45)))))))))))))))
theorem fr_Tw_statement_b709 (P W : Int) (x1 : Int) (G : St) : Fr (fS [208] [(100, 97)]) G (fun q => q.2) (Tw_statement_b709 P W x1 G) := by
  unfold Tw_statement_b709
  exact frCB (frCB (frTk (fq_upK rfl fq_rf) (fun G48 hG48 => frCB (frCB (frIf (frCB (frCL (frCB (frTk (fq_upL rfl hG48) (fun G49 hG49 => frCI (frS hG49)))))) (frT (fr_Tw_statement_b756 _ _ _ _) (fS_mono rfl rfl) hG48))))))
theorem fr_Tw_statement_b417 (P W : Int) (x1 : Int) (G : St) : Fr (fS [] [(100, 7), (100, 8)]) G (fun q => q.2) (Tw_statement_b417 P W x1 G) := by
  unfold Tw_statement_b417
  exact frCB (frIf (frT (fr_Tw_statement_b756 _ _ _ _) (fS_mono rfl rfl) fq_rf) (frCI (frBd (fr_Tw_worthOf _ _ _ _) (fS_mono rfl rfl) fq_rf (fun _ G51 hG51 => frCB (frIf (frT (fr_Tw_statement_b756 _ _ _ _) (fS_mono rfl rfl) hG51) (frCB (frBd (fr_Tw_fail _ _ _) (fS_mono rfl rfl) hG51 (fun _ G53 hG53 => frT (fr_Tw_statement_b756 _ _ _ _) (fS_mono rfl rfl) hG53))))))))
theorem fr_Tw_build_b95 (P W : Int) (s0 : Int) (G : St) : Fr (fS [] []) G (Sum.elim (fun q => q.2) (fun q => q.2)) (Tw_build_b95 P W s0 G) := by
  unfold Tw_build_b95
  exact frS fq_rf
theorem fr_Tw_forget (G : St) : Fr (fS [] [(100, 119), (100, 124), (100, 139), (100, 140)]) G (fun q => q.2) (Tw_forget G) := by
  unfold Tw_forget
  exact frCB (frTk (fq_upK rfl fq_rf) (fun G1 hG1 => frTk (fq_upK rfl hG1) (fun G2 hG2 => frTk (fq_upK rfl hG2) (fun G3 hG3 => frCB (frTk (fq_upK rfl hG3) (fun G4 hG4 => frS hG4))))))
theorem fr_Tw_levels_b59 (x1 : Int) (x2 : Int) (x3 : Int) (G : St) : Fr (fS [] []) G (Sum.elim (fun q => q.2.2) (Sum.elim (fun q => q.2.2) (fun q => q.2))) (Tw_levels_b59 x1 x2 x3 G) := by
  unfold Tw_levels_b59
  exact frCI (frS fq_rf)
theorem fr_Tw_levels_s21 (x2 : Int) (x1 : Int) (x3 : Int) (G : St) : Fr (fS [231] []) G (Sum.elim (fun q => q.2.2) (Sum.elim (fun q => q.2.2) (fun q => q.2))) (Tw_levels_s21 x2 x1 x3 G) := by
  unfold Tw_levels_s21
  exact frIf (frCB (frIf (frCB (frIf (frCB (frTk (fq_upL rfl fq_rf) (fun G3 hG3 => frCI (frT (fr_Tw_levels_b59 _ _ _ _) (fS_mono rfl rfl) hG3)))) (frT (fr_Tw_levels_b59 _ _ _ _) (fS_mono rfl rfl) fq_rf))) (frT (fr_Tw_levels_b59 _ _ _ _) (fS_mono rfl rfl) fq_rf))) (frEx (frCI (frS fq_rf)))
theorem fr_Tw_levels_l21 (x2 : Int) (x1 : Int) (x3 : Int) (G : St) : Fr (fS [231] []) G (Sum.elim (fun q => q.2.2) (fun q => q.2)) (Tw_levels_l21 x2 x1 x3 G) := frWh (pi := fun (s : (Int × Int × St)) => s.2.2) (fun (s : (Int × Int × St)) => fr_Tw_levels_s21 x2 s.1 s.2.1 s.2.2)
theorem fr_Tw_levels_s4 (x1 : Int) (x2 : Int) (G : St) : Fr (fS [230, 231] []) G (Sum.elim (fun q => q.2.2) (fun q => q.2)) (Tw_levels_s4 x1 x2 G) := by
  unfold Tw_levels_s4
  exact frIf (frEx (frCI (frCB (frTk (fq_upL rfl fq_rf) (fun G1 hG1 => frS hG1))))) (frCB (frTk (fq_upL rfl fq_rf) (fun G2 hG2 => frT (fr_Tw_levels_l21 _ _ _ _) (fS_mono rfl rfl) hG2)))
theorem fr_Tw_levels_l4 (x1 : Int) (x2 : Int) (G : St) : Fr (fS [230, 231] []) G (fun q => q.2) (Tw_levels_l4 x1 x2 G) := frWh (pi := fun (s : (Int × Int × St)) => s.2.2) (fun (s : (Int × Int × St)) => fr_Tw_levels_s4 s.1 s.2.1 s.2.2)
theorem fr_Tw_levels (G : St) : Fr (fS [230, 231] []) G (fun q => q.2) (Tw_levels G) := by
  unfold Tw_levels
  exact frT (fr_Tw_levels_l4 _ _ _) (fS_mono rfl rfl) fq_rf
theorem fr_Tw_deeper_b15 (G : St) : Fr (fS [] [(100, 19)]) G (fun q => q.2) (Tw_deeper_b15 G) := by
  unfold Tw_deeper_b15
  exact frCI (frTk (fq_upK rfl fq_rf) (fun G1 hG1 => frS hG1))
theorem fr_Tw_deeper (x1 : Int) (G : St) : Fr (fS [] [(100, 7), (100, 8), (100, 19)]) G (fun q => q.2) (Tw_deeper x1 G) := by
  unfold Tw_deeper
  exact frIf (frBd (fr_Tw_fail _ _ _) (fS_mono rfl rfl) fq_rf (fun _ G3 hG3 => frT (fr_Tw_deeper_b15 _) (fS_mono rfl rfl) hG3)) (frT (fr_Tw_deeper_b15 _) (fS_mono rfl rfl) fq_rf)
theorem fr_Tw_isFresh (G : St) : Fr (fS [] []) G (fun q => q.2) (Tw_isFresh G) := by
  unfold Tw_isFresh
  exact frCI (frCB (frIf (frCI (frCB (frCI (frCB (frCB (frIf (frCI (frCI (frCB (frCB (frS fq_rf))))) (frCB (frS fq_rf)))))))) (frCB (frS fq_rf))))
theorem fr_Tw_look0 (x1 : Int) (G : St) : Fr (fS [] []) G (fun q => q.2) (Tw_look0 x1 G) := by
  unfold Tw_look0
  exact frCI (frIf (frCI (frCB (frS fq_rf))) (frS fq_rf))
theorem fr_Tw_isPair_b60 (x1 : Int) (x2 : Int) (G : St) : Fr (fS [] []) G (fun q => q.2) (Tw_isPair_b60 x1 x2 G) := by
  unfold Tw_isPair_b60
  exact frCB (frS fq_rf)
theorem fr_Tw_isPair_b66 (x1 : Int) (x2 : Int) (G : St) : Fr (fS [] []) G (fun q => q.2) (Tw_isPair_b66 x1 x2 G) := by
  unfold Tw_isPair_b66
  exact frCB (frS fq_rf)
theorem fr_Tw_isPair_b36 (x1 : Int) (x2 : Int) (G : St) : Fr (fS [] []) G (fun q => q.2) (Tw_isPair_b36 x1 x2 G) := by
  unfold Tw_isPair_b36
  exact frIf (frT (fr_Tw_isPair_b60 _ _ _) (fS_mono rfl rfl) fq_rf) (frIf (frT (fr_Tw_isPair_b60 _ _ _) (fS_mono rfl rfl) fq_rf) (frIf (frT (fr_Tw_isPair_b60 _ _ _) (fS_mono rfl rfl) fq_rf) (frIf (frT (fr_Tw_isPair_b60 _ _ _) (fS_mono rfl rfl) fq_rf) (frT (fr_Tw_isPair_b66 _ _ _) (fS_mono rfl rfl) fq_rf))))
theorem fr_Tw_isPair_b24 (x1 : Int) (x2 : Int) (G : St) : Fr (fS [] []) G (fun q => q.2) (Tw_isPair_b24 x1 x2 G) := by
  unfold Tw_isPair_b24
  exact frIf (frIf (frCB (frS fq_rf)) (frT (fr_Tw_isPair_b36 _ _ _) (fS_mono rfl rfl) fq_rf)) (frT (fr_Tw_isPair_b36 _ _ _) (fS_mono rfl rfl) fq_rf)
theorem fr_Tw_isPair (G : St) : Fr (fS [] []) G (fun q => q.2) (Tw_isPair G) := by
  unfold Tw_isPair
  exact frBd (fr_Tw_look0 _ _) (fS_mono rfl rfl) fq_rf (fun _ G2 hG2 => frBd (fr_Tw_look0 _ _) (fS_mono rfl rfl) hG2 (fun _ G4 hG4 => frIf (frIf (frCB (frS hG4)) (frT (fr_Tw_isPair_b24 _ _ _) (fS_mono rfl rfl) hG4)) (frT (fr_Tw_isPair_b24 _ _ _) (fS_mono rfl rfl) hG4)))
theorem fr_Tw_isSign (x1 : Int) (G : St) : Fr (fS [] []) G (fun q => q.2) (Tw_isSign x1 G) := by
  unfold Tw_isSign
  exact frBd (fr_Tw_look0 _ _) (fS_mono rfl rfl) fq_rf (fun _ G2 hG2 => frIf (frBd (fr_Tw_isPair _) (fS_mono rfl rfl) hG2 (fun _ G4 hG4 => frCB (frS hG4))) (frCB (frS hG2)))
theorem fr_Tw_put (x1 : Int) (x2 : Int) (x3 : Int) (x4 : Int) (G : St) : Fr (fS [115, 116, 117, 118] [(100, 13)]) G (fun q => q.2) (Tw_put x1 x2 x3 x4 G) := by
  unfold Tw_put
  exact frIf (frCI (frS fq_rf)) (frCB (frTk (fq_upL rfl fq_rf) (fun G1 hG1 => frCB (frTk (fq_upL rfl hG1) (fun G2 hG2 => frCB (frTk (fq_upL rfl hG2) (fun G3 hG3 => frCB (frTk (fq_upL rfl hG3) (fun G4 hG4 => frCI (frTk (fq_upK rfl hG4) (fun G5 hG5 => frCI (frS hG5))))))))))))
theorem fr_Tw_rank_b28 (x0 : Int) (G : St) : Fr (fS [] []) G (fun q => q.2) (Tw_rank_b28 x0 G) := by
  unfold Tw_rank_b28
  exact frS fq_rf
theorem fr_Tw_rank (x0 : Int) (G : St) : Fr (fS [] []) G (fun q => q.2) (Tw_rank x0 G) := by
  unfold Tw_rank
  exact frIf (frS fq_rf) (frIf (frT (fr_Tw_rank_b28 _ _) (fS_mono rfl rfl) fq_rf) (frIf (frT (fr_Tw_rank_b28 _ _) (fS_mono rfl rfl) fq_rf) (frS fq_rf)))
theorem fr_Tw_reduce_s0 (x1 : Int) (x2 : Int) (G : St) : Fr (fS [115, 116, 117, 118] [(100, 13), (100, 20)]) G (Sum.elim (fun q => q) (fun q => q.2)) (Tw_reduce_s0 x1 x2 G) := by
  unfold Tw_reduce_s0
  exact frIf (frCI (frCB (frIf (frCI (frCB (frBd (fr_Tw_rank _ _) (fS_mono rfl rfl) fq_rf (fun _ G2 hG2 => frIf (frEx (frS hG2)) (frCI (frTk (fq_upK rfl hG2) (fun G3 hG3 => frCB (frCB (frBd (fr_Tw_put _ _ _ _ _) (fS_mono rfl rfl) hG3 (fun _ G5 hG5 => frS hG5)))))))))) (frEx (frS fq_rf))))) (frEx (frS fq_rf))
theorem fr_Tw_reduce_l0 (x1 : Int) (x2 : Int) (G : St) : Fr (fS [115, 116, 117, 118] [(100, 13), (100, 20)]) G (fun q => q.2) (Tw_reduce_l0 x1 x2 G) := frWh (pi := fun (s : (St)) => s) (fun (s : (St)) => fr_Tw_reduce_s0 x1 x2 s)
theorem fr_Tw_reduce (x1 : Int) (x2 : Int) (G : St) : Fr (fS [115, 116, 117, 118] [(100, 13), (100, 20)]) G (fun q => q.2) (Tw_reduce x1 x2 G) := by
  unfold Tw_reduce
  exact frT (fr_Tw_reduce_l0 _ _ _) (fS_mono rfl rfl) fq_rf
theorem fr_Tw_reduceAll_s6 (x1 : Int) (G : St) : Fr (fS [115, 116, 117, 118] [(100, 13), (100, 19), (100, 20)]) G (Sum.elim (fun q => q) (fun q => q.2)) (Tw_reduceAll_s6 x1 G) := by
  unfold Tw_reduceAll_s6
  exact frIf (frCI (frCB (frIf (frCI (frTk (fq_upK rfl fq_rf) (fun G3 hG3 => frCI (frTk (fq_upK rfl hG3) (fun G4 hG4 => frCB (frBd (fr_Tw_put _ _ _ _ _) (fS_mono rfl rfl) hG4 (fun _ G6 hG6 => frBd (fr_Tw_reduce _ _ _) (fS_mono rfl rfl) hG6 (fun _ G8 hG8 => frS hG8)))))))) (frEx (frS fq_rf))))) (frEx (frS fq_rf))
theorem fr_Tw_reduceAll_l6 (x1 : Int) (G : St) : Fr (fS [115, 116, 117, 118] [(100, 13), (100, 19), (100, 20)]) G (fun q => q.2) (Tw_reduceAll_l6 x1 G) := frWh (pi := fun (s : (St)) => s) (fun (s : (St)) => fr_Tw_reduceAll_s6 x1 s)
theorem fr_Tw_reduceAll (x1 : Int) (G : St) : Fr (fS [115, 116, 117, 118] [(100, 13), (100, 19), (100, 20)]) G (fun q => q.2) (Tw_reduceAll x1 G) := by
  unfold Tw_reduceAll
  exact frBd (fr_Tw_reduce _ _ _) (fS_mono rfl rfl) fq_rf (fun _ G2 hG2 => frT (fr_Tw_reduceAll_l6 _ _) (fS_mono rfl rfl) hG2)
theorem fr_Tw_signsOver_s0 (x1 : Int) (G : St) : Fr (fS [115, 116, 117, 118] [(100, 13), (100, 19), (100, 20)]) G (Sum.elim (fun q => q) (fun q => q.2)) (Tw_signsOver_s0 x1 G) := by
  unfold Tw_signsOver_s0
  exact frIf (frCI (frCB (frIf (frCI (frTk (fq_upK rfl fq_rf) (fun G1 hG1 => frCI (frTk (fq_upK rfl hG1) (fun G2 hG2 => frCB (frCB (frBd (fr_Tw_put _ _ _ _ _) (fS_mono rfl rfl) hG2 (fun _ G4 hG4 => frS hG4)))))))) (frEx (frS fq_rf))))) (frEx (frS fq_rf))
theorem fr_Tw_signsOver_l0 (x1 : Int) (G : St) : Fr (fS [115, 116, 117, 118] [(100, 13), (100, 19), (100, 20)]) G (fun q => q.2) (Tw_signsOver_l0 x1 G) := frWh (pi := fun (s : (St)) => s) (fun (s : (St)) => fr_Tw_signsOver_s0 x1 s)
theorem fr_Tw_signsOver (x1 : Int) (G : St) : Fr (fS [115, 116, 117, 118] [(100, 13), (100, 19), (100, 20)]) G (fun q => q.2) (Tw_signsOver x1 G) := by
  unfold Tw_signsOver
  exact frT (fr_Tw_signsOver_l0 _ _) (fS_mono rfl rfl) fq_rf
theorem fr_Tw_closes_b515 (x1 : Int) (G : St) : Fr (fS [115, 116, 117, 118] [(100, 13), (100, 19), (100, 20)]) G (fun q => q.2) (Tw_closes_b515 x1 G) := by
  unfold Tw_closes_b515
  exact frBd (fr_Tw_signsOver _ _) (fS_mono rfl rfl) fq_rf (fun _ G16 hG16 => frCB (frS hG16))
theorem fr_Tw_closes_b506 (x1 : Int) (x5 : Int) (s0 : Int) (G : St) : Fr (fS [115, 116, 117, 118] [(100, 13), (100, 19), (100, 20)]) G (fun q => q.2) (Tw_closes_b506 x1 x5 s0 G) := by
  unfold Tw_closes_b506
  exact frBd (fr_Tw_put _ _ _ _ _) (fS_mono rfl rfl) fq_rf (fun _ G14 hG14 => frT (fr_Tw_closes_b515 _ _) (fS_mono rfl rfl) hG14)
theorem fr_Tw_closes_b464 (x1 : Int) (x5 : Int) (G : St) : Fr (fS [115, 116, 117, 118] [(100, 13), (100, 19), (100, 20)]) G (fun q => q.2) (Tw_closes_b464 x1 x5 G) := by
  unfold Tw_closes_b464
  exact frCB (frCB (frBd (fr_Tw_put _ _ _ _ _) (fS_mono rfl rfl) fq_rf (fun _ G19 hG19 => frT (fr_Tw_closes_b515 _ _) (fS_mono rfl rfl) hG19)))
theorem fr_Tw_closes_b437 (x1 : Int) (x2 : Int) (x5 : Int) (s0 : Int) (s1 : Int) (G : St) : Fr (fS [115, 116, 117, 118] [(100, 13), (100, 19), (100, 20)]) G (fun q => q.2) (Tw_closes_b437 x1 x2 x5 s0 s1 G) := by
  unfold Tw_closes_b437
  exact frCB (frTk (fq_upL rfl fq_rf) (fun G17 hG17 => frIf (frCB (frBd (fr_Tw_put _ _ _ _ _) (fS_mono rfl rfl) hG17 (fun _ G21 hG21 => frT (fr_Tw_closes_b464 _ _ _) (fS_mono rfl rfl) hG21))) (frT (fr_Tw_closes_b464 _ _ _) (fS_mono rfl rfl) hG17)))
theorem fr_Tw_closes_b288 (x1 : Int) (x2 : Int) (x3 : Int) (s0 : Int) (G : St) : Fr (fS [115, 116, 117, 118] [(100, 6), (100, 7), (100, 8), (100, 13), (100, 19), (100, 20)]) G (fun q => q.2) (Tw_closes_b288 x1 x2 x3 s0 G) := by
  unfold Tw_closes_b288
  exact frIf (frBd (fr_Tw_fail _ _ _) (fS_mono rfl rfl) fq_rf (fun _ G27 hG27 => frCB (frS hG27))) (frCI (frTk (fq_upK rfl fq_rf) (fun G10 hG10 => frCI (frTk (fq_upK rfl hG10) (fun G11 hG11 => frCI (frTk (fq_upK rfl hG11) (fun G12 hG12 => frCB (frIf (frBd (fr_Tw_put _ _ _ _ _) (fS_mono rfl rfl) hG12 (fun _ G25 hG25 => frT (fr_Tw_closes_b515 _ _) (fS_mono rfl rfl) hG25)) (frIf (frCB (frBd (fr_Tw_put _ _ _ _ _) (fS_mono rfl rfl) hG12 (fun _ G23 hG23 => frT (fr_Tw_closes_b515 _ _) (fS_mono rfl rfl) hG23))) (frIf (frCB (frIf (frCB (frCI (frT (fr_Tw_closes_b437 _ _ _ _ _ _) (fS_mono rfl rfl) hG12))) (frT (fr_Tw_closes_b437 _ _ _ _ _ _) (fS_mono rfl rfl) hG12))) (frT (fr_Tw_closes_b506 _ _ _ _) (fS_mono rfl rfl) hG12)))))))))))
theorem fr_Tw_closes_b268 (x1 : Int) (x2 : Int) (x3 : Int) (G : St) : Fr (fS [115, 116, 117, 118] [(100, 6), (100, 7), (100, 8), (100, 13), (100, 19), (100, 20)]) G (fun q => q.2) (Tw_closes_b268 x1 x2 x3 G) := by
  unfold Tw_closes_b268
  exact frBd (fr_Tw_isSign _ _) (fS_mono rfl rfl) fq_rf (fun _ G9 hG9 => frT (fr_Tw_closes_b288 _ _ _ _ _) (fS_mono rfl rfl) hG9)
theorem fr_Tw_closes_b221 (x1 : Int) (x2 : Int) (x3 : Int) (G : St) : Fr (fS [115, 116, 117, 118] [(100, 6), (100, 7), (100, 8), (100, 13), (100, 19), (100, 20)]) G (fun q => q.2) (Tw_closes_b221 x1 x2 x3 G) := by
  unfold Tw_closes_b221
  exact frBd (fr_Tw_isSign _ _) (fS_mono rfl rfl) fq_rf (fun _ G7 hG7 => frIf (frT (fr_Tw_closes_b268 _ _ _ _) (fS_mono rfl rfl) hG7) (frIf (frT (fr_Tw_closes_b288 _ _ _ _ _) (fS_mono rfl rfl) hG7) (frIf (frT (fr_Tw_closes_b288 _ _ _ _ _) (fS_mono rfl rfl) hG7) (frIf (frT (fr_Tw_closes_b288 _ _ _ _ _) (fS_mono rfl rfl) hG7) (frIf (frCI (frCB (frIf (frT (fr_Tw_closes_b288 _ _ _ _ _) (fS_mono rfl rfl) hG7) (frT (fr_Tw_closes_b268 _ _ _ _) (fS_mono rfl rfl) hG7)))) (frT (fr_Tw_closes_b268 _ _ _ _) (fS_mono rfl rfl) hG7))))))
theorem fr_Tw_closes_b179 (s0 : Int) (s1 : Int) (G : St) : Fr (fS [115, 116, 117, 118, 125] [(100, 6), (100, 13), (100, 25)]) G (fun q => q.2) (Tw_closes_b179 s0 s1 G) := by
  unfold Tw_closes_b179
  exact frBd (fr_Tw_put _ _ _ _ _) (fS_mono rfl rfl) fq_rf (fun _ G29 hG29 => frCI (frCB (frCI (frCB (frTk (fq_upL rfl hG29) (fun G30 hG30 => frCI (frTk (fq_upK rfl hG30) (fun G31 hG31 => frCB (frTk (fq_upK rfl hG31) (fun G32 hG32 => frCB (frS hG32)))))))))))
theorem fr_Tw_closes_b155 (x3 : Int) (G : St) : Fr (fS [115, 116, 117, 118, 125] [(100, 6), (100, 13), (100, 25)]) G (fun q => q.2) (Tw_closes_b155 x3 G) := by
  unfold Tw_closes_b155
  exact frIf (frCI (frCB (frT (fr_Tw_closes_b179 _ _ _) (fS_mono rfl rfl) fq_rf))) (frT (fr_Tw_closes_b179 _ _ _) (fS_mono rfl rfl) fq_rf)
theorem fr_Tw_closes_b135 (x1 : Int) (x2 : Int) (x3 : Int) (G : St) : Fr (fS [115, 116, 117, 118, 125] [(100, 6), (100, 7), (100, 8), (100, 13), (100, 19), (100, 20), (100, 25)]) G (fun q => q.2) (Tw_closes_b135 x1 x2 x3 G) := by
  unfold Tw_closes_b135
  exact frIf (frCI (frCB (frIf (frT (fr_Tw_closes_b155 _ _) (fS_mono rfl rfl) fq_rf) (frT (fr_Tw_closes_b221 _ _ _ _) (fS_mono rfl rfl) fq_rf)))) (frT (fr_Tw_closes_b221 _ _ _ _) (fS_mono rfl rfl) fq_rf)
theorem fr_Tw_closes_b116 (x1 : Int) (x2 : Int) (x3 : Int) (G : St) : Fr (fS [115, 116, 117, 118, 125] [(100, 6), (100, 7), (100, 8), (100, 13), (100, 19), (100, 20), (100, 25)]) G (fun q => q.2) (Tw_closes_b116 x1 x2 x3 G) := by
  unfold Tw_closes_b116
  exact frBd (fr_Tw_isSign _ _) (fS_mono rfl rfl) fq_rf (fun _ G5 hG5 => frIf (frT (fr_Tw_closes_b221 _ _ _ _) (fS_mono rfl rfl) hG5) (frIf (frIf (frT (fr_Tw_closes_b155 _ _) (fS_mono rfl rfl) hG5) (frT (fr_Tw_closes_b135 _ _ _ _) (fS_mono rfl rfl) hG5)) (frT (fr_Tw_closes_b135 _ _ _ _) (fS_mono rfl rfl) hG5)))
theorem fr_Tw_closes_b51 (x1 : Int) (x2 : Int) (G : St) : Fr (fS [115, 116, 117, 118, 122, 125] [(100, 6), (100, 7), (100, 8), (100, 13), (100, 19), (100, 20), (100, 25)]) G (fun q => q.2) (Tw_closes_b51 x1 x2 G) := by
  unfold Tw_closes_b51
  exact frIf (frCB (frS fq_rf)) (frCI (frCB (frBd (fr_Tw_isSign _ _) (fS_mono rfl rfl) fq_rf (fun _ G3 hG3 => frIf (frT (fr_Tw_closes_b116 _ _ _ _) (fS_mono rfl rfl) hG3) (frIf (frCI (frCB (frTk (fq_upL rfl hG3) (fun G33 hG33 => frCI (frTk (fq_upK rfl hG33) (fun G34 hG34 => frCB (frTk (fq_upK rfl hG34) (fun G35 hG35 => frCB (frS hG35))))))))) (frT (fr_Tw_closes_b116 _ _ _ _) (fS_mono rfl rfl) hG3))))))
theorem fr_Tw_closes_b41 (x1 : Int) (s0 : Int) (G : St) : Fr (fS [115, 116, 117, 118, 122, 125] [(100, 6), (100, 7), (100, 8), (100, 13), (100, 19), (100, 20), (100, 25)]) G (fun q => q.2) (Tw_closes_b41 x1 s0 G) := by
  unfold Tw_closes_b41
  exact frIf (frBd (fr_Tw_reduceAll _ _) (fS_mono rfl rfl) fq_rf (fun _ G37 hG37 => frT (fr_Tw_closes_b51 _ _ _) (fS_mono rfl rfl) hG37)) (frT (fr_Tw_closes_b51 _ _ _) (fS_mono rfl rfl) fq_rf)
theorem fr_Tw_closes (x1 : Int) (G : St) : Fr (fS [115, 116, 117, 118, 122, 125] [(100, 6), (100, 7), (100, 8), (100, 13), (100, 19), (100, 20), (100, 25)]) G (fun q => q.2) (Tw_closes x1 G) := by
  unfold Tw_closes
  exact frCB (frTk (fq_upK rfl fq_rf) (fun G1 hG1 => frIf (frCI (frCB (frIf (frBd (fr_Tw_isFresh _) (fS_mono rfl rfl) hG1 (fun _ G39 hG39 => frT (fr_Tw_closes_b41 _ _ _) (fS_mono rfl rfl) hG39)) (frT (fr_Tw_closes_b41 _ _ _) (fS_mono rfl rfl) hG1)))) (frT (fr_Tw_closes_b41 _ _ _) (fS_mono rfl rfl) hG1)))
theorem fr_Tw_gap_b81 (x1 : Int) (s0 : Int) (G : St) : Fr (fS [] [(100, 6)]) G (Sum.elim (fun q => q) (Sum.elim (fun q => q.2) (fun q => q.2))) (Tw_gap_b81 x1 s0 G) := by
  unfold Tw_gap_b81
  exact frCB (frIf (frEx (frS fq_rf)) (frCI (frTk (fq_upK rfl fq_rf) (fun G4 hG4 => frS hG4))))
theorem fr_Tw_gap_s48 (x1 : Int) (G : St) : Fr (fS [] [(100, 6)]) G (Sum.elim (fun q => q) (Sum.elim (fun q => q.2) (fun q => q.2))) (Tw_gap_s48 x1 G) := by
  unfold Tw_gap_s48
  exact frIf (frT (fr_Tw_gap_b81 _ _ _) (fS_mono rfl rfl) fq_rf) (frEx (frS fq_rf))
theorem fr_Tw_gap_l48 (x1 : Int) (G : St) : Fr (fS [] [(100, 6)]) G (Sum.elim (fun q => q.2) (fun q => q.2)) (Tw_gap_l48 x1 G) := frWh (pi := fun (s : (St)) => s) (fun (s : (St)) => fr_Tw_gap_s48 x1 s)
theorem fr_Tw_gap_b41 (x2 : Int) (s0 : Int) (G : St) : Fr (fS [] [(100, 6)]) G (Sum.elim (fun q => q.2) (fun q => q.2)) (Tw_gap_b41 x2 s0 G) := by
  unfold Tw_gap_b41
  exact frIf (frT (fr_Tw_gap_l48 _ _) (fS_mono rfl rfl) fq_rf) (frIf (frS fq_rf) (frCI (frTk (fq_upK rfl fq_rf) (fun G3 hG3 => frS hG3))))
theorem fr_Tw_gap_s2 (x1 : Int) (G : St) : Fr (fS [] [(100, 6)]) G (Sum.elim (fun q => q.2) (fun q => q.2)) (Tw_gap_s2 x1 G) := by
  unfold Tw_gap_s2
  exact frIf (frEx (frS fq_rf)) (frBd (fr_Tw_look0 _ _) (fS_mono rfl rfl) fq_rf (fun _ G2 hG2 => frT (fr_Tw_gap_b41 _ _ _) (fS_mono rfl rfl) hG2))
theorem fr_Tw_gap_l2 (x1 : Int) (G : St) : Fr (fS [] [(100, 6)]) G (fun q => q.2) (Tw_gap_l2 x1 G) := frWh (pi := fun (s : (Int × St)) => s.2) (fun (s : (Int × St)) => fr_Tw_gap_s2 s.1 s.2)
theorem fr_Tw_gap (G : St) : Fr (fS [] [(100, 6)]) G (fun q => q.2) (Tw_gap G) := by
  unfold Tw_gap
  exact frT (fr_Tw_gap_l2 _ _) (fS_mono rfl rfl) fq_rf
theorem fr_Tw_operator (G : St) : Fr (fS [] []) G (fun q => q.2) (Tw_operator G) := by
  unfold Tw_operator
  exact frBd (fr_Tw_look0 _ _) (fS_mono rfl rfl) fq_rf (fun _ G2 hG2 => frBd (fr_Tw_look0 _ _) (fS_mono rfl rfl) hG2 (fun _ G4 hG4 => frBd (fr_Tw_isPair _) (fS_mono rfl rfl) hG4 (fun _ G6 hG6 => frIf (frIf (frS hG6) (frIf (frS hG6) (frIf (frS hG6) (frIf (frS hG6) (frIf (frS hG6) (frS hG6)))))) (frIf (frS hG6) (frS hG6)))))
theorem fr_Tw_push (x1 : Int) (x2 : Int) (x3 : Int) (G : St) : Fr (fS [122, 123, 124, 125] [(100, 20)]) G (fun q => q.2) (Tw_push x1 x2 x3 G) := by
  unfold Tw_push
  exact frCB (frTk (fq_upL rfl fq_rf) (fun G1 hG1 => frCB (frTk (fq_upL rfl hG1) (fun G2 hG2 => frCB (frTk (fq_upL rfl hG2) (fun G3 hG3 => frCB (frTk (fq_upL rfl hG3) (fun G4 hG4 => frCI (frTk (fq_upK rfl hG4) (fun G5 hG5 => frS hG5))))))))))
theorem fr_Tw_isDigit (x0 : Int) (G : St) : Fr (fS [] []) G (fun q => q.2) (Tw_isDigit x0 G) := by
  unfold Tw_isDigit
  exact frCB (frS fq_rf)
theorem fr_Tw_isLetter_b12 (x0 : Int) (G : St) : Fr (fS [] []) G (fun q => q.2) (Tw_isLetter_b12 x0 G) := by
  unfold Tw_isLetter_b12
  exact frCB (frS fq_rf)
theorem fr_Tw_isLetter (x0 : Int) (G : St) : Fr (fS [] []) G (fun q => q.2) (Tw_isLetter x0 G) := by
  unfold Tw_isLetter
  exact frIf (frT (fr_Tw_isLetter_b12 _ _) (fS_mono rfl rfl) fq_rf) (frCB (frS fq_rf))
theorem fr_Tw_wordEnd_b76 (x1 : Int) (G : St) : Fr (fS [] []) G (fun q => q.2) (Tw_wordEnd_b76 x1 G) := by
  unfold Tw_wordEnd_b76
  exact frS fq_rf
theorem fr_Tw_wordEnd_b70 (x1 : Int) (G : St) : Fr (fS [] []) G (Sum.elim (fun q => q.2) (fun q => q.2)) (Tw_wordEnd_b70 x1 G) := by
  unfold Tw_wordEnd_b70
  exact frCI (frS fq_rf)
theorem fr_Tw_wordEnd_b63 (x1 : Int) (s0 : Int) (G : St) : Fr (fS [] []) G (Sum.elim (fun q => q.2) (fun q => q.2)) (Tw_wordEnd_b63 x1 s0 G) := by
  unfold Tw_wordEnd_b63
  exact frCB (frBd (fr_Tw_isDigit _ _) (fS_mono rfl rfl) fq_rf (fun _ G8 hG8 => frIf (frEx (frT (fr_Tw_wordEnd_b76 _ _) (fS_mono rfl rfl) hG8)) (frT (fr_Tw_wordEnd_b70 _ _) (fS_mono rfl rfl) hG8)))
theorem fr_Tw_wordEnd_b40 (x1 : Int) (s0 : Int) (G : St) : Fr (fS [] []) G (Sum.elim (fun q => q.2) (fun q => q.2)) (Tw_wordEnd_b40 x1 s0 G) := by
  unfold Tw_wordEnd_b40
  exact frCB (frBd (fr_Tw_isLetter _ _) (fS_mono rfl rfl) fq_rf (fun _ G6 hG6 => frIf (frT (fr_Tw_wordEnd_b63 _ _ _) (fS_mono rfl rfl) hG6) (frT (fr_Tw_wordEnd_b70 _ _) (fS_mono rfl rfl) hG6)))
theorem fr_Tw_wordEnd_s16 (x1 : Int) (G : St) : Fr (fS [] []) G (Sum.elim (fun q => q.2) (fun q => q.2)) (Tw_wordEnd_s16 x1 G) := by
  unfold Tw_wordEnd_s16
  exact frIf (frT (fr_Tw_wordEnd_b40 _ _ _) (fS_mono rfl rfl) fq_rf) (frEx (frT (fr_Tw_wordEnd_b76 _ _) (fS_mono rfl rfl) fq_rf))
theorem fr_Tw_wordEnd_l16 (x1 : Int) (G : St) : Fr (fS [] []) G (fun q => q.2) (Tw_wordEnd_l16 x1 G) := frWh (pi := fun (s : (Int × St)) => s.2) (fun (s : (Int × St)) => fr_Tw_wordEnd_s16 s.1 s.2)
theorem fr_Tw_wordEnd (G : St) : Fr (fS [] []) G (fun q => q.2) (Tw_wordEnd G) := by
  unfold Tw_wordEnd
  exact frBd (fr_Tw_look0 _ _) (fS_mono rfl rfl) fq_rf (fun _ G2 hG2 => frBd (fr_Tw_isLetter _ _) (fS_mono rfl rfl) hG2 (fun _ G4 hG4 => frIf (frT (fr_Tw_wordEnd_b76 _ _) (fS_mono rfl rfl) hG4) (frT (fr_Tw_wordEnd_l16 _ _) (fS_mono rfl rfl) hG4)))
theorem fr_Tw_isWord_b81 (x3 : Int) (G : St) : Fr (fS [] []) G (fun q => q.2) (Tw_isWord_b81 x3 G) := by
  unfold Tw_isWord_b81
  exact frCB (frS fq_rf)
theorem fr_Tw_isWord_b74 (x1 : Int) (x4 : Int) (s0 : Int) (G : St) : Fr (fS [] []) G (Sum.elim (fun q => q.2.2) (fun q => q.2)) (Tw_isWord_b74 x1 x4 s0 G) := by
  unfold Tw_isWord_b74
  exact frCI (frS fq_rf)
theorem fr_Tw_isWord_s35 (x1 : Int) (x3 : Int) (x4 : Int) (G : St) : Fr (fS [] []) G (Sum.elim (fun q => q.2.2) (fun q => q.2)) (Tw_isWord_s35 x1 x3 x4 G) := by
  unfold Tw_isWord_s35
  exact frIf (frEx (frT (fr_Tw_isWord_b81 _ _) (fS_mono rfl rfl) fq_rf)) (frBd (S' := fS [] []) (frCB (frS fq_rf)) (fS_mono rfl rfl) fq_rf (fun _ G6 hG6 => frIf (frCI (frCB (frBd (S' := fS [] []) (frCB (frCB (frS fq_rf))) (fS_mono rfl rfl) hG6 (fun _ G8 hG8 => frT (fr_Tw_isWord_b74 _ _ _ _) (fS_mono rfl rfl) hG8)))) (frEx (frT (fr_Tw_isWord_b81 _ _) (fS_mono rfl rfl) hG6))))
theorem fr_Tw_isWord_l35 (x1 : Int) (x3 : Int) (x4 : Int) (G : St) : Fr (fS [] []) G (fun q => q.2) (Tw_isWord_l35 x1 x3 x4 G) := frWh (pi := fun (s : (Int × Int × St)) => s.2.2) (fun (s : (Int × Int × St)) => fr_Tw_isWord_s35 x1 s.1 s.2.1 s.2.2)
theorem fr_Tw_isWord_b31 (x1 : Int) (s0 : Int) (G : St) : Fr (fS [] []) G (fun q => q.2) (Tw_isWord_b31 x1 s0 G) := by
  unfold Tw_isWord_b31
  exact frT (fr_Tw_isWord_l35 _ _ _ _) (fS_mono rfl rfl) fq_rf
theorem fr_Tw_isWord (x1 : Int) (G : St) : Fr (fS [] []) G (fun q => q.2) (Tw_isWord x1 G) := by
  unfold Tw_isWord
  exact frBd (fr_Tw_wordEnd _) (fS_mono rfl rfl) fq_rf (fun _ G2 hG2 => frCI (frBd (S' := fS [] []) (frCB (frS fq_rf)) (fS_mono rfl rfl) hG2 (fun _ G4 hG4 => frT (fr_Tw_isWord_b31 _ _ _) (fS_mono rfl rfl) hG4)))
theorem fr_Tw_isKept (G : St) : Fr (fS [] []) G (fun q => q.2) (Tw_isKept G) := by
  unfold Tw_isKept
  exact frBd (fr_Tw_isWord _ _) (fS_mono rfl rfl) fq_rf (fun _ G2 hG2 => frIf (frBd (fr_Tw_isWord _ _) (fS_mono rfl rfl) hG2 (fun _ G4 hG4 => frIf (frBd (fr_Tw_isWord _ _) (fS_mono rfl rfl) hG4 (fun _ G6 hG6 => frIf (frBd (fr_Tw_isWord _ _) (fS_mono rfl rfl) hG6 (fun _ G8 hG8 => frIf (frBd (fr_Tw_isWord _ _) (fS_mono rfl rfl) hG8 (fun _ G10 hG10 => frIf (frBd (fr_Tw_isWord _ _) (fS_mono rfl rfl) hG10 (fun _ G12 hG12 => frIf (frBd (fr_Tw_isWord _ _) (fS_mono rfl rfl) hG12 (fun _ G14 hG14 => frIf (frBd (fr_Tw_isWord _ _) (fS_mono rfl rfl) hG14 (fun _ G16 hG16 => frIf (frBd (fr_Tw_isWord _ _) (fS_mono rfl rfl) hG16 (fun _ G18 hG18 => frIf (frBd (fr_Tw_isWord _ _) (fS_mono rfl rfl) hG18 (fun _ G20 hG20 => frIf (frBd (fr_Tw_isWord _ _) (fS_mono rfl rfl) hG20 (fun _ G22 hG22 => frIf (frBd (fr_Tw_isWord _ _) (fS_mono rfl rfl) hG22 (fun _ G24 hG24 => frIf (frBd (fr_Tw_isWord _ _) (fS_mono rfl rfl) hG24 (fun _ G26 hG26 => frCB (frS hG26))) (frCB (frS hG24)))) (frCB (frS hG22)))) (frCB (frS hG20)))) (frCB (frS hG18)))) (frCB (frS hG16)))) (frCB (frS hG14)))) (frCB (frS hG12)))) (frCB (frS hG10)))) (frCB (frS hG8)))) (frCB (frS hG6)))) (frCB (frS hG4)))) (frCB (frS hG2)))
theorem fr_Tw_name_b24 (G : St) : Fr (fS [] [(100, 7), (100, 8)]) G (fun q => q.2) (Tw_name_b24 G) := by
  unfold Tw_name_b24
  exact frBd (fr_Tw_fail _ _ _) (fS_mono rfl rfl) fq_rf (fun _ G6 hG6 => frS hG6)
theorem fr_Tw_name_b212 (x1 : Int) (x3 : Int) (G : St) : Fr (fS [] [(100, 6)]) G (fun q => q.2) (Tw_name_b212 x1 x3 G) := by
  unfold Tw_name_b212
  exact frTk (fq_upK rfl fq_rf) (fun G9 hG9 => frS hG9)
theorem fr_Tw_name_b171 (x1 : Int) (x2 : Int) (x3 : Int) (G : St) : Fr (fS [111, 112] [(100, 6), (100, 9)]) G (fun q => q.2) (Tw_name_b171 x1 x2 x3 G) := by
  unfold Tw_name_b171
  exact frIf (frCB (frTk (fq_upL rfl fq_rf) (fun G10 hG10 => frCB (frTk (fq_upL rfl hG10) (fun G11 hG11 => frCI (frTk (fq_upK rfl hG11) (fun G12 hG12 => frT (fr_Tw_name_b212 _ _ _) (fS_mono rfl rfl) hG12))))))) (frT (fr_Tw_name_b212 _ _ _) (fS_mono rfl rfl) fq_rf)
theorem fr_Tw_name_b166 (x1 : Int) (x2 : Int) (x4 : Int) (s0 : Int) (s1 : Int) (G : St) : Fr (fS [] []) G (Sum.elim (fun q => q.2.2) (fun q => q.2)) (Tw_name_b166 x1 x2 x4 s0 s1 G) := by
  unfold Tw_name_b166
  exact frCI (frS fq_rf)
theorem fr_Tw_name_b155 (x1 : Int) (x2 : Int) (x3 : Int) (x4 : Int) (G : St) : Fr (fS [] []) G (Sum.elim (fun q => q.2.2) (fun q => q.2)) (Tw_name_b155 x1 x2 x3 x4 G) := by
  unfold Tw_name_b155
  exact frT (fr_Tw_name_b166 _ _ _ _ _ _) (fS_mono rfl rfl) fq_rf
theorem fr_Tw_name_b147 (x1 : Int) (x2 : Int) (x3 : Int) (x5 : Int) (s0 : Int) (G : St) : Fr (fS [] []) G (Sum.elim (fun q => q.2.2) (Sum.elim (fun q => q.2.2) (fun q => q.2))) (Tw_name_b147 x1 x2 x3 x5 s0 G) := by
  unfold Tw_name_b147
  exact frCI (frS fq_rf)
theorem fr_Tw_name_s102 (x1 : Int) (x2 : Int) (x3 : Int) (x4 : Int) (x5 : Int) (G : St) : Fr (fS [] []) G (Sum.elim (fun q => q.2.2) (Sum.elim (fun q => q.2.2) (fun q => q.2))) (Tw_name_s102 x1 x2 x3 x4 x5 G) := by
  unfold Tw_name_s102
  exact frIf (frEx (frT (fr_Tw_name_b155 _ _ _ _ _) (fS_mono rfl rfl) fq_rf)) (frIf (frCB (frCI (frCB (frCI (frCB (frT (fr_Tw_name_b147 _ _ _ _ _ _) (fS_mono rfl rfl) fq_rf)))))) (frEx (frT (fr_Tw_name_b155 _ _ _ _ _) (fS_mono rfl rfl) fq_rf)))
theorem fr_Tw_name_l102 (x1 : Int) (x2 : Int) (x3 : Int) (x4 : Int) (x5 : Int) (G : St) : Fr (fS [] []) G (Sum.elim (fun q => q.2.2) (fun q => q.2)) (Tw_name_l102 x1 x2 x3 x4 x5 G) := frWh (pi := fun (s : (Int × Int × St)) => s.2.2) (fun (s : (Int × Int × St)) => fr_Tw_name_s102 x1 x2 x3 s.1 s.2.1 s.2.2)
theorem fr_Tw_name_b97 (x1 : Int) (x2 : Int) (x3 : Int) (s0 : Int) (G : St) : Fr (fS [] []) G (Sum.elim (fun q => q.2.2) (fun q => q.2)) (Tw_name_b97 x1 x2 x3 s0 G) := by
  unfold Tw_name_b97
  exact frT (fr_Tw_name_l102 _ _ _ _ _ _) (fS_mono rfl rfl) fq_rf
theorem fr_Tw_name_s69 (x1 : Int) (x2 : Int) (x3 : Int) (x4 : Int) (G : St) : Fr (fS [111, 112] [(100, 6), (100, 9)]) G (Sum.elim (fun q => q.2.2) (fun q => q.2)) (Tw_name_s69 x1 x2 x3 x4 G) := by
  unfold Tw_name_s69
  exact frIf (frIf (frCB (frT (fr_Tw_name_b97 _ _ _ _ _) (fS_mono rfl rfl) fq_rf)) (frEx (frT (fr_Tw_name_b171 _ _ _ _) (fS_mono rfl rfl) fq_rf))) (frEx (frT (fr_Tw_name_b171 _ _ _ _) (fS_mono rfl rfl) fq_rf))
theorem fr_Tw_name_l69 (x1 : Int) (x2 : Int) (x3 : Int) (x4 : Int) (G : St) : Fr (fS [111, 112] [(100, 6), (100, 9)]) G (fun q => q.2) (Tw_name_l69 x1 x2 x3 x4 G) := frWh (pi := fun (s : (Int × Int × St)) => s.2.2) (fun (s : (Int × Int × St)) => fr_Tw_name_s69 x1 x2 s.1 s.2.1 s.2.2)
theorem fr_Tw_name (G : St) : Fr (fS [111, 112] [(100, 6), (100, 7), (100, 8), (100, 9)]) G (fun q => q.2) (Tw_name G) := by
  unfold Tw_name
  exact frBd (fr_Tw_gap _) (fS_mono rfl rfl) fq_rf (fun _ G2 hG2 => frBd (fr_Tw_wordEnd _) (fS_mono rfl rfl) hG2 (fun _ G4 hG4 => frIf (frT (fr_Tw_name_b24 _) (fS_mono rfl rfl) hG4) (frBd (fr_Tw_isKept _) (fS_mono rfl rfl) hG4 (fun _ G8 hG8 => frIf (frCI (frIf (frBd (fr_Tw_fail _ _ _) (fS_mono rfl rfl) hG8 (fun _ G14 hG14 => frS hG14)) (frCI (frT (fr_Tw_name_l69 _ _ _ _ _) (fS_mono rfl rfl) hG8)))) (frT (fr_Tw_name_b24 _) (fS_mono rfl rfl) hG8)))))
theorem fr_Tw_number_b143 (x5 : Int) (G : St) : Fr (fS [] [(100, 7), (100, 8)]) G (fun q => q.2) (Tw_number_b143 x5 G) := by
  unfold Tw_number_b143
  exact frBd (fr_Tw_fail _ _ _) (fS_mono rfl rfl) fq_rf (fun _ G13 hG13 => frS hG13)
theorem fr_Tw_number_b86 (x1 : Int) (x3 : Int) (x5 : Int) (s0 : Int) (G : St) : Fr (fS [] [(100, 6), (100, 12)]) G (Sum.elim (fun q => q) (fun q => q.2)) (Tw_number_b86 x1 x3 x5 s0 G) := by
  unfold Tw_number_b86
  exact frTk (fq_upK rfl fq_rf) (fun G14 hG14 => frCI (frTk (fq_upK rfl hG14) (fun G15 hG15 => frS hG15)))
theorem fr_Tw_number_s36 (x1 : Int) (x3 : Int) (x5 : Int) (G : St) : Fr (fS [] [(100, 6), (100, 7), (100, 8), (100, 12)]) G (Sum.elim (fun q => q) (fun q => q.2)) (Tw_number_s36 x1 x3 x5 G) := by
  unfold Tw_number_s36
  exact frBd (fr_Tw_look0 _ _) (fS_mono rfl rfl) fq_rf (fun _ G9 hG9 => frBd (fr_Tw_isDigit _ _) (fS_mono rfl rfl) hG9 (fun _ G11 hG11 => frIf (frEx (frCI (frIf (frT (fr_Tw_number_b143 _ _) (fS_mono rfl rfl) hG11) (frIf (frT (fr_Tw_number_b143 _ _) (fS_mono rfl rfl) hG11) (frIf (frT (fr_Tw_number_b143 _ _) (fS_mono rfl rfl) hG11) (frIf (frT (fr_Tw_number_b143 _ _) (fS_mono rfl rfl) hG11) (frS hG11))))))) (frCI (frIf (frCL (frBd (fr_Tw_look0 _ _) (fS_mono rfl rfl) hG11 (fun _ G17 hG17 => frCL (frCL (frT (fr_Tw_number_b86 _ _ _ _ _) (fS_mono rfl rfl) hG17))))) (frT (fr_Tw_number_b86 _ _ _ _ _) (fS_mono rfl rfl) hG11)))))
theorem fr_Tw_number_l36 (x1 : Int) (x3 : Int) (x5 : Int) (G : St) : Fr (fS [] [(100, 6), (100, 7), (100, 8), (100, 12)]) G (fun q => q.2) (Tw_number_l36 x1 x3 x5 G) := frWh (pi := fun (s : (St)) => s) (fun (s : (St)) => fr_Tw_number_s36 x1 x3 x5 s)
theorem fr_Tw_number (x1 : Int) (x3 : Int) (G : St) : Fr (fS [] [(100, 6), (100, 7), (100, 8), (100, 12)]) G (fun q => q.2) (Tw_number x1 x3 G) := by
  unfold Tw_number
  exact frBd (fr_Tw_gap _) (fS_mono rfl rfl) fq_rf (fun _ G2 hG2 => frBd (fr_Tw_look0 _ _) (fS_mono rfl rfl) hG2 (fun _ G4 hG4 => frBd (fr_Tw_isDigit _ _) (fS_mono rfl rfl) hG4 (fun _ G6 hG6 => frIf (frBd (fr_Tw_fail _ _ _) (fS_mono rfl rfl) hG6 (fun _ G19 hG19 => frS hG19)) (frTk (fq_upK rfl hG6) (fun G7 hG7 => frT (fr_Tw_number_l36 _ _ _ _) (fS_mono rfl rfl) hG7)))))
theorem fr_Tw_sign (x1 : Int) (G : St) : Fr (fS [] [(100, 6), (100, 7), (100, 8)]) G (fun q => q.2) (Tw_sign x1 G) := by
  unfold Tw_sign
  exact frBd (fr_Tw_gap _) (fS_mono rfl rfl) fq_rf (fun _ G2 hG2 => frBd (fr_Tw_isSign _ _) (fS_mono rfl rfl) hG2 (fun _ G4 hG4 => frIf (frBd (fr_Tw_fail _ _ _) (fS_mono rfl rfl) hG4 (fun _ G7 hG7 => frS hG7)) (frCI (frTk (fq_upK rfl hG4) (fun G5 hG5 => frS hG5)))))
theorem fr_Tw_takeOperand_b84 (P W : Int) (x1 : Int) (x2 : Int) (G : St) : Fr (fS [122, 123, 124, 125] [(100, 6), (100, 7), (100, 8), (100, 19), (100, 20)]) G (fun q => q.2) (Tw_takeOperand_b84 P W x1 x2 G) := by
  unfold Tw_takeOperand_b84
  exact frBd (fr_Tw_deeper _ _) (fS_mono rfl rfl) fq_rf (fun _ G10 hG10 => frBd (fr_Tw_push _ _ _ _) (fS_mono rfl rfl) hG10 (fun _ G12 hG12 => frCI (frTk (fq_upK rfl hG12) (fun G13 hG13 => frCB (frS hG13)))))
theorem fr_Tw_takeOperand_b203 (P W : Int) (x1 : Int) (s0 : Int) (G : St) : Fr (fS [115, 116, 117, 118] [(100, 6), (100, 13)]) G (fun q => q.2) (Tw_takeOperand_b203 P W x1 s0 G) := by
  unfold Tw_takeOperand_b203
  exact frBd (fr_Tw_put _ _ _ _ _) (fS_mono rfl rfl) fq_rf (fun _ G27 hG27 => frBd (fr_Tw_wordEnd _) (fS_mono rfl rfl) hG27 (fun _ G29 hG29 => frTk (fq_upK rfl hG29) (fun G30 hG30 => frCB (frS hG30))))
theorem fr_Tw_takeOperand_b178 (P W : Int) (x1 : Int) (G : St) : Fr (fS [115, 116, 117, 118] [(100, 6), (100, 13)]) G (fun q => q.2) (Tw_takeOperand_b178 P W x1 G) := by
  unfold Tw_takeOperand_b178
  exact frBd (fr_Tw_put _ _ _ _ _) (fS_mono rfl rfl) fq_rf (fun _ G23 hG23 => frBd (fr_Tw_isWord _ _) (fS_mono rfl rfl) hG23 (fun _ G25 hG25 => frT (fr_Tw_takeOperand_b203 _ _ _ _ _) (fS_mono rfl rfl) hG25))
theorem fr_Tw_takeOperand_b309 (P W : Int) (x1 : Int) (s0 : Int) (G : St) : Fr (fS [122, 123, 124, 125] [(100, 20)]) G (fun q => q.2) (Tw_takeOperand_b309 P W x1 s0 G) := by
  unfold Tw_takeOperand_b309
  exact frBd (fr_Tw_push _ _ _ _) (fS_mono rfl rfl) fq_rf (fun _ G45 hG45 => frCB (frS hG45))
theorem fr_Tw_takeOperand_b297 (P W : Int) (x1 : Int) (x3 : Int) (G : St) : Fr (fS [122, 123, 124, 125] [(100, 20)]) G (fun q => q.2) (Tw_takeOperand_b297 P W x1 x3 G) := by
  unfold Tw_takeOperand_b297
  exact frT (fr_Tw_takeOperand_b309 _ _ _ _ _) (fS_mono rfl rfl) fq_rf
theorem fr_Tw_takeOperand_b240 (P W : Int) (x1 : Int) (G : St) : Fr (fS [115, 116, 117, 118, 122, 123, 124, 125] [(100, 6), (100, 7), (100, 8), (100, 13), (100, 19), (100, 20)]) G (fun q => q.2) (Tw_takeOperand_b240 P W x1 G) := by
  unfold Tw_takeOperand_b240
  exact frBd (fr_Tw_isWord _ _) (fS_mono rfl rfl) fq_rf (fun _ G36 hG36 => frBd (fr_Tw_put _ _ _ _ _) (fS_mono rfl rfl) hG36 (fun _ G38 hG38 => frCI (frTk (fq_upK rfl hG38) (fun G39 hG39 => frBd (fr_Tw_gap _) (fS_mono rfl rfl) hG39 (fun _ G41 hG41 => frBd (fr_Tw_sign _ _) (fS_mono rfl rfl) hG41 (fun _ G43 hG43 => frIf (frBd (fr_Tw_deeper _ _) (fS_mono rfl rfl) hG43 (fun _ G47 hG47 => frT (fr_Tw_takeOperand_b297 _ _ _ _ _) (fS_mono rfl rfl) hG47)) (frT (fr_Tw_takeOperand_b297 _ _ _ _ _) (fS_mono rfl rfl) hG43)))))))
theorem fr_Tw_takeOperand (P W : Int) (G : St) : Fr (fS [111, 112, 115, 116, 117, 118, 119, 122, 123, 124, 125] [(100, 6), (100, 7), (100, 8), (100, 9), (100, 12), (100, 13), (100, 19), (100, 20)]) G (fun q => q.2) (Tw_takeOperand P W G) := by
  unfold Tw_takeOperand
  exact frBd (fr_Tw_gap _) (fS_mono rfl rfl) fq_rf (fun _ G2 hG2 => frBd (fr_Tw_look0 _ _) (fS_mono rfl rfl) hG2 (fun _ G4 hG4 => frBd (fr_Tw_isSign _ _) (fS_mono rfl rfl) hG4 (fun _ G6 hG6 => frIf (frBd (fr_Tw_isSign _ _) (fS_mono rfl rfl) hG6 (fun _ G8 hG8 => frIf (frBd (fr_Tw_isSign _ _) (fS_mono rfl rfl) hG8 (fun _ G15 hG15 => frIf (frBd (fr_Tw_isSign _ _) (fS_mono rfl rfl) hG15 (fun _ G17 hG17 => frIf (frBd (fr_Tw_isDigit _ _) (fS_mono rfl rfl) hG17 (fun _ G19 hG19 => frIf (frBd (fr_Tw_isWord _ _) (fS_mono rfl rfl) hG19 (fun _ G21 hG21 => frIf (frBd (fr_Tw_isWord _ _) (fS_mono rfl rfl) hG21 (fun _ G32 hG32 => frIf (frBd (fr_Tw_isWord _ _) (fS_mono rfl rfl) hG32 (fun _ G34 hG34 => frIf (frBd (fr_Tw_isWord _ _) (fS_mono rfl rfl) hG34 (fun _ G49 hG49 => frIf (frBd (fr_Tw_name _) (fS_mono rfl rfl) hG49 (fun _ G51 hG51 => frIf (frCB (frS hG51)) (frBd (fr_Tw_put _ _ _ _ _) (fS_mono rfl rfl) hG51 (fun _ G53 hG53 => frBd (fr_Tw_gap _) (fS_mono rfl rfl) hG53 (fun _ G55 hG55 => frBd (fr_Tw_isSign _ _) (fS_mono rfl rfl) hG55 (fun _ G57 hG57 => frIf (frBd (fr_Tw_isSign _ _) (fS_mono rfl rfl) hG57 (fun _ G59 hG59 => frIf (frBd (fr_Tw_put _ _ _ _ _) (fS_mono rfl rfl) hG59 (fun _ G61 hG61 => frCB (frS hG61))) (frBd (fr_Tw_deeper _ _) (fS_mono rfl rfl) hG59 (fun _ G63 hG63 => frCI (frTk (fq_upK rfl hG63) (fun G64 hG64 => frBd (fr_Tw_put _ _ _ _ _) (fS_mono rfl rfl) hG64 (fun _ G66 hG66 => frBd (fr_Tw_push _ _ _ _) (fS_mono rfl rfl) hG66 (fun _ G68 hG68 => frBd (fr_Tw_gap _) (fS_mono rfl rfl) hG68 (fun _ G70 hG70 => frBd (fr_Tw_isSign _ _) (fS_mono rfl rfl) hG70 (fun _ G72 hG72 => frCB (frS hG72))))))))))) (frBd (fr_Tw_deeper _ _) (fS_mono rfl rfl) hG57 (fun _ G74 hG74 => frCI (frTk (fq_upK rfl hG74) (fun G75 hG75 => frBd (fr_Tw_put _ _ _ _ _) (fS_mono rfl rfl) hG75 (fun _ G77 hG77 => frBd (fr_Tw_push _ _ _ _) (fS_mono rfl rfl) hG77 (fun _ G79 hG79 => frCB (frS hG79))))))))))))) (frT (fr_Tw_takeOperand_b240 _ _ _ _) (fS_mono rfl rfl) hG49))) (frT (fr_Tw_takeOperand_b240 _ _ _ _) (fS_mono rfl rfl) hG34))) (frT (fr_Tw_takeOperand_b178 _ _ _ _) (fS_mono rfl rfl) hG32))) (frT (fr_Tw_takeOperand_b178 _ _ _ _) (fS_mono rfl rfl) hG21))) (frBd (fr_Tw_number _ _ _) (fS_mono rfl rfl) hG19 (fun _ G81 hG81 => frBd (fr_Tw_put _ _ _ _ _) (fS_mono rfl rfl) hG81 (fun _ G83 hG83 => frBd (fr_Tw_put _ _ _ _ _) (fS_mono rfl rfl) hG83 (fun _ G85 hG85 => frCB (frTk (fq_upL rfl hG85) (fun G86 hG86 => frCB (frS hG86))))))))) (frT (fr_Tw_takeOperand_b84 _ _ _ _ _) (fS_mono rfl rfl) hG17))) (frT (fr_Tw_takeOperand_b84 _ _ _ _ _) (fS_mono rfl rfl) hG15))) (frT (fr_Tw_takeOperand_b84 _ _ _ _ _) (fS_mono rfl rfl) hG8))) (frBd (fr_Tw_put _ _ _ _ _) (fS_mono rfl rfl) hG6 (fun _ G88 hG88 => frBd (fr_Tw_deeper _ _) (fS_mono rfl rfl) hG88 (fun _ G90 hG90 => frBd (fr_Tw_push _ _ _ _) (fS_mono rfl rfl) hG90 (fun _ G92 hG92 => frCI (frTk (fq_upK rfl hG92) (fun G93 hG93 => frCB (frS hG93))))))))))
theorem fr_Tw_expression_b259 (P W : Int) (x1 : Int) (G : St) : Fr (fS [] [(100, 20)]) G (fun q => q.2) (Tw_expression_b259 P W x1 G) := by
  unfold Tw_expression_b259
  exact frTk (fq_upK rfl fq_rf) (fun G1 hG1 => frS hG1)
theorem fr_Tw_expression_b250 (P W : Int) (x1 : Int) (s0 : Int) (G : St) : Fr (fS [] []) G (Sum.elim (fun q => q.2.2) (fun q => q.2)) (Tw_expression_b250 P W x1 s0 G) := by
  unfold Tw_expression_b250
  exact frS fq_rf
theorem fr_Tw_expression_b189 (P W : Int) (x1 : Int) (x3 : Int) (G : St) : Fr (fS [115, 116, 117, 118, 122, 123, 124, 125] [(100, 6), (100, 7), (100, 8), (100, 13), (100, 19), (100, 20), (100, 25)]) G (Sum.elim (fun q => q.2.2) (fun q => q.2)) (Tw_expression_b189 P W x1 x3 G) := by
  unfold Tw_expression_b189
  exact frBd (fr_Tw_isSign _ _) (fS_mono rfl rfl) fq_rf (fun _ G7 hG7 => frIf (frBd (fr_Tw_closes _ _) (fS_mono rfl rfl) hG7 (fun _ G9 hG9 => frT (fr_Tw_expression_b250 _ _ _ _ _) (fS_mono rfl rfl) hG9)) (frBd (fr_Tw_reduce _ _ _) (fS_mono rfl rfl) hG7 (fun _ G11 hG11 => frBd (fr_Tw_deeper _ _) (fS_mono rfl rfl) hG11 (fun _ G13 hG13 => frBd (fr_Tw_push _ _ _ _) (fS_mono rfl rfl) hG13 (fun _ G15 hG15 => frCI (frTk (fq_upK rfl hG15) (fun G16 hG16 => frS hG16)))))))
theorem fr_Tw_expression_b180 (P W : Int) (x1 : Int) (x3 : Int) (s0 : Int) (s1 : Int) (G : St) : Fr (fS [] [(100, 6)]) G (Sum.elim (fun q => q.2.2) (fun q => q.2)) (Tw_expression_b180 P W x1 x3 s0 s1 G) := by
  unfold Tw_expression_b180
  exact frCI (frTk (fq_upK rfl fq_rf) (fun G25 hG25 => frS hG25))
theorem fr_Tw_expression_b142 (P W : Int) (x1 : Int) (x3 : Int) (x4 : Int) (G : St) : Fr (fS [115, 116, 117, 118, 122, 123, 124, 125] [(100, 6), (100, 13), (100, 20)]) G (Sum.elim (fun q => q.2.2) (fun q => q.2)) (Tw_expression_b142 P W x1 x3 x4 G) := by
  unfold Tw_expression_b142
  exact frBd (fr_Tw_rank _ _) (fS_mono rfl rfl) fq_rf (fun _ G18 hG18 => frBd (fr_Tw_reduce _ _ _) (fS_mono rfl rfl) hG18 (fun _ G20 hG20 => frBd (fr_Tw_push _ _ _ _) (fS_mono rfl rfl) hG20 (fun _ G22 hG22 => frBd (fr_Tw_isPair _) (fS_mono rfl rfl) hG22 (fun _ G24 hG24 => frT (fr_Tw_expression_b180 _ _ _ _ _ _ _) (fS_mono rfl rfl) hG24))))
theorem fr_Tw_expression_b77 (P W : Int) (x1 : Int) (x2 : Int) (x3 : Int) (s0 : Int) (G : St) : Fr (fS [115, 116, 117, 118] [(100, 13), (100, 19), (100, 20)]) G (Sum.elim (fun q => q.2.2) (fun q => q.2)) (Tw_expression_b77 P W x1 x2 x3 s0 G) := by
  unfold Tw_expression_b77
  exact frIf (frIf (frBd (fr_Tw_signsOver _ _) (fS_mono rfl rfl) fq_rf (fun _ G31 hG31 => frS hG31)) (frS fq_rf)) (frS fq_rf)
theorem fr_Tw_expression_b42 (P W : Int) (x1 : Int) (x3 : Int) (x4 : Int) (s0 : Int) (G : St) : Fr (fS [115, 116, 117, 118] [(100, 13), (100, 19), (100, 20)]) G (Sum.elim (fun q => q.2.2) (fun q => q.2)) (Tw_expression_b42 P W x1 x3 x4 s0 G) := by
  unfold Tw_expression_b42
  exact frIf (frIf (frCI (frCB (frT (fr_Tw_expression_b77 _ _ _ _ _ _ _) (fS_mono rfl rfl) fq_rf))) (frT (fr_Tw_expression_b77 _ _ _ _ _ _ _) (fS_mono rfl rfl) fq_rf)) (frT (fr_Tw_expression_b77 _ _ _ _ _ _ _) (fS_mono rfl rfl) fq_rf)
theorem fr_Tw_expression_s9 (P W : Int) (x1 : Int) (x2 : Int) (x3 : Int) (G : St) : Fr (fS [111, 112, 115, 116, 117, 118, 119, 122, 123, 124, 125] [(100, 6), (100, 7), (100, 8), (100, 9), (100, 12), (100, 13), (100, 19), (100, 20), (100, 25)]) G (Sum.elim (fun q => q.2.2) (fun q => q.2)) (Tw_expression_s9 P W x1 x2 x3 G) := by
  unfold Tw_expression_s9
  exact frIf (frIf (frIf (frBd (fr_Tw_gap _) (fS_mono rfl rfl) fq_rf (fun _ G3 hG3 => frBd (fr_Tw_operator _) (fS_mono rfl rfl) hG3 (fun _ G5 hG5 => frIf (frIf (frCI (frCB (frIf (frBd (fr_Tw_isFresh _) (fS_mono rfl rfl) hG5 (fun _ G27 hG27 => frIf (frT (fr_Tw_expression_b142 _ _ _ _ _ _) (fS_mono rfl rfl) hG27) (frT (fr_Tw_expression_b189 _ _ _ _ _) (fS_mono rfl rfl) hG27))) (frT (fr_Tw_expression_b142 _ _ _ _ _ _) (fS_mono rfl rfl) hG5)))) (frT (fr_Tw_expression_b142 _ _ _ _ _ _) (fS_mono rfl rfl) hG5)) (frT (fr_Tw_expression_b189 _ _ _ _ _) (fS_mono rfl rfl) hG5)))) (frBd (fr_Tw_takeOperand _ _ _) (fS_mono rfl rfl) fq_rf (fun _ G29 hG29 => frT (fr_Tw_expression_b42 _ _ _ _ _ _ _) (fS_mono rfl rfl) hG29))) (frEx (frT (fr_Tw_expression_b259 _ _ _ _) (fS_mono rfl rfl) fq_rf))) (frEx (frT (fr_Tw_expression_b259 _ _ _ _) (fS_mono rfl rfl) fq_rf))
theorem fr_Tw_expression_l9 (P W : Int) (x1 : Int) (x2 : Int) (x3 : Int) (G : St) : Fr (fS [111, 112, 115, 116, 117, 118, 119, 122, 123, 124, 125] [(100, 6), (100, 7), (100, 8), (100, 9), (100, 12), (100, 13), (100, 19), (100, 20), (100, 25)]) G (fun q => q.2) (Tw_expression_l9 P W x1 x2 x3 G) := frWh (pi := fun (s : (Int × Int × St)) => s.2.2) (fun (s : (Int × Int × St)) => fr_Tw_expression_s9 P W x1 s.1 s.2.1 s.2.2)
theorem fr_Tw_expression (P W : Int) (G : St) : Fr (fS [111, 112, 115, 116, 117, 118, 119, 122, 123, 124, 125] [(100, 6), (100, 7), (100, 8), (100, 9), (100, 12), (100, 13), (100, 19), (100, 20), (100, 25)]) G (fun q => q.2) (Tw_expression P W G) := by
  unfold Tw_expression
  exact frT (fr_Tw_expression_l9 _ _ _ _ _ _) (fS_mono rfl rfl) fq_rf
theorem fr_Tw_assignment_b159 (P W : Int) (x1 : Int) (x2 : Int) (s0 : Int) (G : St) : Fr (fS [115, 116, 117, 118] [(100, 6), (100, 7), (100, 8), (100, 13)]) G (fun q => q.2) (Tw_assignment_b159 P W x1 x2 s0 G) := by
  unfold Tw_assignment_b159
  exact frBd (fr_Tw_put _ _ _ _ _) (fS_mono rfl rfl) fq_rf (fun _ G12 hG12 => frBd (fr_Tw_sign _ _) (fS_mono rfl rfl) hG12 (fun _ G14 hG14 => frBd (fr_Tw_put _ _ _ _ _) (fS_mono rfl rfl) hG14 (fun _ G16 hG16 => frS hG16)))
theorem fr_Tw_assignment_b139 (P W : Int) (x1 : Int) (x2 : Int) (x4 : Int) (G : St) : Fr (fS [115, 116, 117, 118] [(100, 6), (100, 7), (100, 8), (100, 13)]) G (fun q => q.2) (Tw_assignment_b139 P W x1 x2 x4 G) := by
  unfold Tw_assignment_b139
  exact frIf (frT (fr_Tw_assignment_b159 _ _ _ _ _ _) (fS_mono rfl rfl) fq_rf) (frS fq_rf)
theorem fr_Tw_assignment_b128 (P W : Int) (x1 : Int) (x2 : Int) (x4 : Int) (G : St) : Fr (fS [111, 112, 115, 116, 117, 118, 119, 122, 123, 124, 125] [(100, 6), (100, 7), (100, 8), (100, 9), (100, 12), (100, 13), (100, 19), (100, 20), (100, 25)]) G (fun q => q.2) (Tw_assignment_b128 P W x1 x2 x4 G) := by
  unfold Tw_assignment_b128
  exact frIf (frBd (fr_Tw_expression _ _ _) (fS_mono rfl rfl) fq_rf (fun _ G18 hG18 => frT (fr_Tw_assignment_b139 _ _ _ _ _ _) (fS_mono rfl rfl) hG18)) (frT (fr_Tw_assignment_b139 _ _ _ _ _ _) (fS_mono rfl rfl) fq_rf)
theorem fr_Tw_assignment_b115 (P W : Int) (x1 : Int) (x2 : Int) (x4 : Int) (G : St) : Fr (fS [111, 112, 115, 116, 117, 118, 119, 122, 123, 124, 125] [(100, 6), (100, 7), (100, 8), (100, 9), (100, 12), (100, 13), (100, 19), (100, 20), (100, 25)]) G (fun q => q.2) (Tw_assignment_b115 P W x1 x2 x4 G) := by
  unfold Tw_assignment_b115
  exact frIf (frBd (fr_Tw_sign _ _) (fS_mono rfl rfl) fq_rf (fun _ G20 hG20 => frT (fr_Tw_assignment_b128 _ _ _ _ _ _) (fS_mono rfl rfl) hG20)) (frT (fr_Tw_assignment_b128 _ _ _ _ _ _) (fS_mono rfl rfl) fq_rf)
theorem fr_Tw_assignment_b48 (P W : Int) (x1 : Int) (x2 : Int) (x4 : Int) (s0 : Int) (G : St) : Fr (fS [111, 112, 115, 116, 117, 118, 119, 122, 123, 124, 125] [(100, 6), (100, 7), (100, 8), (100, 9), (100, 12), (100, 13), (100, 19), (100, 20), (100, 25)]) G (fun q => q.2) (Tw_assignment_b48 P W x1 x2 x4 s0 G) := by
  unfold Tw_assignment_b48
  exact frBd (fr_Tw_put _ _ _ _ _) (fS_mono rfl rfl) fq_rf (fun _ G10 hG10 => frIf (frT (fr_Tw_assignment_b115 _ _ _ _ _ _) (fS_mono rfl rfl) hG10) (frBd (fr_Tw_deeper _ _) (fS_mono rfl rfl) hG10 (fun _ G22 hG22 => frCI (frTk (fq_upK rfl hG22) (fun G23 hG23 => frBd (fr_Tw_expression _ _ _) (fS_mono rfl rfl) hG23 (fun _ G25 hG25 => frIf (frBd (fr_Tw_put _ _ _ _ _) (fS_mono rfl rfl) hG25 (fun _ G27 hG27 => frBd (fr_Tw_sign _ _) (fS_mono rfl rfl) hG27 (fun _ G29 hG29 => frCI (frTk (fq_upK rfl hG29) (fun G30 hG30 => frT (fr_Tw_assignment_b115 _ _ _ _ _ _) (fS_mono rfl rfl) hG30))))) (frT (fr_Tw_assignment_b115 _ _ _ _ _ _) (fS_mono rfl rfl) hG25)))))))
theorem fr_Tw_assignment (P W : Int) (x1 : Int) (G : St) : Fr (fS [111, 112, 115, 116, 117, 118, 119, 122, 123, 124, 125] [(100, 6), (100, 7), (100, 8), (100, 9), (100, 12), (100, 13), (100, 19), (100, 20), (100, 25)]) G (fun q => q.2) (Tw_assignment P W x1 G) := by
  unfold Tw_assignment
  exact frBd (fr_Tw_name _) (fS_mono rfl rfl) fq_rf (fun _ G2 hG2 => frIf (frS hG2) (frBd (fr_Tw_put _ _ _ _ _) (fS_mono rfl rfl) hG2 (fun _ G4 hG4 => frBd (fr_Tw_gap _) (fS_mono rfl rfl) hG4 (fun _ G6 hG6 => frBd (fr_Tw_isSign _ _) (fS_mono rfl rfl) hG6 (fun _ G8 hG8 => frT (fr_Tw_assignment_b48 _ _ _ _ _ _ _) (fS_mono rfl rfl) hG8)))))
theorem fr_Tw_endIf_b46 (x1 : Int) (G : St) : Fr (fS [115, 116, 117, 118] [(100, 13)]) G (fun q => q.2) (Tw_endIf_b46 x1 G) := by
  unfold Tw_endIf_b46
  exact frCB (frBd (fr_Tw_put _ _ _ _ _) (fS_mono rfl rfl) fq_rf (fun _ G5 hG5 => frS hG5))
theorem fr_Tw_endIf (x1 : Int) (G : St) : Fr (fS [115, 116, 117, 118] [(100, 13)]) G (fun q => q.2) (Tw_endIf x1 G) := by
  unfold Tw_endIf
  exact frCB (frBd (fr_Tw_put _ _ _ _ _) (fS_mono rfl rfl) fq_rf (fun _ G2 hG2 => frCB (frIf (frCB (frTk (fq_upL rfl hG2) (fun G6 hG6 => frT (fr_Tw_endIf_b46 _ _) (fS_mono rfl rfl) hG6))) (frCB (frCB (frTk (fq_upL rfl hG2) (fun G3 hG3 => frT (fr_Tw_endIf_b46 _ _) (fS_mono rfl rfl) hG3)))))))
theorem fr_Tw_openBlock (x1 : Int) (x2 : Int) (G : St) : Fr (fS [128, 129] [(100, 6), (100, 7), (100, 8), (100, 19), (100, 26)]) G (fun q => q.2) (Tw_openBlock x1 x2 G) := by
  unfold Tw_openBlock
  exact frBd (fr_Tw_gap _) (fS_mono rfl rfl) fq_rf (fun _ G2 hG2 => frBd (fr_Tw_isSign _ _) (fS_mono rfl rfl) hG2 (fun _ G4 hG4 => frIf (frBd (fr_Tw_fail _ _ _) (fS_mono rfl rfl) hG4 (fun _ G12 hG12 => frS hG12)) (frBd (fr_Tw_deeper _ _) (fS_mono rfl rfl) hG4 (fun _ G6 hG6 => frCI (frTk (fq_upK rfl hG6) (fun G7 hG7 => frCB (frTk (fq_upL rfl hG7) (fun G8 hG8 => frCB (frTk (fq_upL rfl hG8) (fun G9 hG9 => frCI (frTk (fq_upK rfl hG9) (fun G10 hG10 => frS hG10))))))))))))
theorem fr_Tw_ifStatement_b81 (P W : Int) (x1 : Int) (G : St) : Fr (fS [115, 116, 117, 118, 128, 129] [(100, 6), (100, 7), (100, 8), (100, 13), (100, 19), (100, 26)]) G (fun q => q.2) (Tw_ifStatement_b81 P W x1 G) := by
  unfold Tw_ifStatement_b81
  exact frIf (frBd (fr_Tw_put _ _ _ _ _) (fS_mono rfl rfl) fq_rf (fun _ G9 hG9 => frBd (fr_Tw_openBlock _ _ _) (fS_mono rfl rfl) hG9 (fun _ G11 hG11 => frS hG11))) (frS fq_rf)
theorem fr_Tw_ifStatement_b58 (P W : Int) (x1 : Int) (G : St) : Fr (fS [115, 116, 117, 118, 128, 129] [(100, 6), (100, 7), (100, 8), (100, 13), (100, 19), (100, 26)]) G (fun q => q.2) (Tw_ifStatement_b58 P W x1 G) := by
  unfold Tw_ifStatement_b58
  exact frIf (frBd (fr_Tw_sign _ _) (fS_mono rfl rfl) fq_rf (fun _ G13 hG13 => frCI (frTk (fq_upK rfl hG13) (fun G14 hG14 => frT (fr_Tw_ifStatement_b81 _ _ _ _) (fS_mono rfl rfl) hG14)))) (frT (fr_Tw_ifStatement_b81 _ _ _ _) (fS_mono rfl rfl) fq_rf)
theorem fr_Tw_ifStatement_b47 (P W : Int) (x1 : Int) (G : St) : Fr (fS [111, 112, 115, 116, 117, 118, 119, 122, 123, 124, 125, 128, 129] [(100, 6), (100, 7), (100, 8), (100, 9), (100, 12), (100, 13), (100, 19), (100, 20), (100, 25), (100, 26)]) G (fun q => q.2) (Tw_ifStatement_b47 P W x1 G) := by
  unfold Tw_ifStatement_b47
  exact frIf (frBd (fr_Tw_expression _ _ _) (fS_mono rfl rfl) fq_rf (fun _ G16 hG16 => frT (fr_Tw_ifStatement_b58 _ _ _ _) (fS_mono rfl rfl) hG16)) (frT (fr_Tw_ifStatement_b58 _ _ _ _) (fS_mono rfl rfl) fq_rf)
theorem fr_Tw_ifStatement (P W : Int) (x1 : Int) (G : St) : Fr (fS [111, 112, 115, 116, 117, 118, 119, 122, 123, 124, 125, 128, 129] [(100, 6), (100, 7), (100, 8), (100, 9), (100, 12), (100, 13), (100, 19), (100, 20), (100, 25), (100, 26)]) G (fun q => q.2) (Tw_ifStatement P W x1 G) := by
  unfold Tw_ifStatement
  exact frBd (fr_Tw_put _ _ _ _ _) (fS_mono rfl rfl) fq_rf (fun _ G2 hG2 => frCI (frTk (fq_upK rfl hG2) (fun G3 hG3 => frBd (fr_Tw_gap _) (fS_mono rfl rfl) hG3 (fun _ G5 hG5 => frBd (fr_Tw_sign _ _) (fS_mono rfl rfl) hG5 (fun _ G7 hG7 => frIf (frBd (fr_Tw_deeper _ _) (fS_mono rfl rfl) hG7 (fun _ G18 hG18 => frT (fr_Tw_ifStatement_b47 _ _ _ _) (fS_mono rfl rfl) hG18)) (frT (fr_Tw_ifStatement_b47 _ _ _ _) (fS_mono rfl rfl) hG7))))))
theorem fr_Tw_closeBlock_s220 (P W : Int) (G : St) : Fr (fS [115, 116, 117, 118] [(100, 13), (100, 19), (100, 26)]) G (Sum.elim (fun q => q) (fun q => q.2)) (Tw_closeBlock_s220 P W G) := by
  unfold Tw_closeBlock_s220
  exact frIf (frCI (frCB (frIf (frCI (frTk (fq_upK rfl fq_rf) (fun G6 hG6 => frCI (frTk (fq_upK rfl hG6) (fun G7 hG7 => frCB (frBd (fr_Tw_endIf _ _) (fS_mono rfl rfl) hG7 (fun _ G9 hG9 => frS hG9))))))) (frEx (frS fq_rf))))) (frEx (frS fq_rf))
theorem fr_Tw_closeBlock_l220 (P W : Int) (G : St) : Fr (fS [115, 116, 117, 118] [(100, 13), (100, 19), (100, 26)]) G (fun q => q.2) (Tw_closeBlock_l220 P W G) := frWh (pi := fun (s : (St)) => s) (fun (s : (St)) => fr_Tw_closeBlock_s220 P W s)
theorem fr_Tw_closeBlock_b215 (P W : Int) (x2 : Int) (G : St) : Fr (fS [115, 116, 117, 118] [(100, 13), (100, 19), (100, 26)]) G (fun q => q.2) (Tw_closeBlock_b215 P W x2 G) := by
  unfold Tw_closeBlock_b215
  exact frBd (fr_Tw_endIf _ _) (fS_mono rfl rfl) fq_rf (fun _ G5 hG5 => frT (fr_Tw_closeBlock_l220 _ _ _) (fS_mono rfl rfl) hG5)
theorem fr_Tw_closeBlock (P W : Int) (G : St) : Fr (fS [111, 112, 115, 116, 117, 118, 119, 122, 123, 124, 125, 128, 129] [(100, 6), (100, 7), (100, 8), (100, 9), (100, 12), (100, 13), (100, 19), (100, 20), (100, 25), (100, 26)]) G (fun q => q.2) (Tw_closeBlock P W G) := by
  unfold Tw_closeBlock
  exact frCI (frTk (fq_upK rfl fq_rf) (fun G1 hG1 => frCI (frTk (fq_upK rfl hG1) (fun G2 hG2 => frCI (frTk (fq_upK rfl hG2) (fun G3 hG3 => frCB (frCB (frIf (frCB (frBd (fr_Tw_put _ _ _ _ _) (fS_mono rfl rfl) hG3 (fun _ G32 hG32 => frCB (frTk (fq_upL rfl hG32) (fun G33 hG33 => frCB (frBd (fr_Tw_put _ _ _ _ _) (fS_mono rfl rfl) hG33 (fun _ G35 hG35 => frS hG35))))))) (frIf (frBd (fr_Tw_gap _) (fS_mono rfl rfl) hG3 (fun _ G11 hG11 => frBd (fr_Tw_isWord _ _) (fS_mono rfl rfl) hG11 (fun _ G13 hG13 => frIf (frT (fr_Tw_closeBlock_b215 _ _ _ _) (fS_mono rfl rfl) hG13) (frCI (frTk (fq_upK rfl hG13) (fun G14 hG14 => frCB (frBd (fr_Tw_put _ _ _ _ _) (fS_mono rfl rfl) hG14 (fun _ G16 hG16 => frCB (frTk (fq_upL rfl hG16) (fun G17 hG17 => frBd (fr_Tw_gap _) (fS_mono rfl rfl) hG17 (fun _ G19 hG19 => frBd (fr_Tw_isWord _ _) (fS_mono rfl rfl) hG19 (fun _ G21 hG21 => frIf (frBd (fr_Tw_openBlock _ _ _) (fS_mono rfl rfl) hG21 (fun _ G23 hG23 => frS hG23)) (frBd (fr_Tw_deeper _ _) (fS_mono rfl rfl) hG21 (fun _ G25 hG25 => frCB (frTk (fq_upL rfl hG25) (fun G26 hG26 => frCB (frTk (fq_upL rfl hG26) (fun G27 hG27 => frCI (frTk (fq_upK rfl hG27) (fun G28 hG28 => frBd (fr_Tw_ifStatement _ _ _ _) (fS_mono rfl rfl) hG28 (fun _ G30 hG30 => frS hG30))))))))))))))))))))) (frT (fr_Tw_closeBlock_b215 _ _ _ _) (fS_mono rfl rfl) hG3))))))))))
theorem fr_Tw_sortWord_b53 (G : St) : Fr (fS [] [(100, 6)]) G (fun q => q.2) (Tw_sortWord_b53 G) := by
  unfold Tw_sortWord_b53
  exact frCI (frTk (fq_upK rfl fq_rf) (fun G8 hG8 => frS hG8))
theorem fr_Tw_sortWord_b20 (s0 : Int) (G : St) : Fr (fS [] [(100, 6), (100, 7), (100, 8), (100, 32)]) G (fun q => q.2) (Tw_sortWord_b20 s0 G) := by
  unfold Tw_sortWord_b20
  exact frTk (fq_upK rfl fq_rf) (fun G5 hG5 => frBd (fr_Tw_isWord _ _) (fS_mono rfl rfl) hG5 (fun _ G7 hG7 => frIf (frBd (fr_Tw_isWord _ _) (fS_mono rfl rfl) hG7 (fun _ G10 hG10 => frIf (frBd (fr_Tw_fail _ _ _) (fS_mono rfl rfl) hG10 (fun _ G12 hG12 => frS hG12)) (frT (fr_Tw_sortWord_b53 _) (fS_mono rfl rfl) hG10))) (frT (fr_Tw_sortWord_b53 _) (fS_mono rfl rfl) hG7)))
theorem fr_Tw_sortWord (G : St) : Fr (fS [] [(100, 6), (100, 7), (100, 8), (100, 32)]) G (fun q => q.2) (Tw_sortWord G) := by
  unfold Tw_sortWord
  exact frBd (fr_Tw_gap _) (fS_mono rfl rfl) fq_rf (fun _ G2 hG2 => frBd (fr_Tw_isWord _ _) (fS_mono rfl rfl) hG2 (fun _ G4 hG4 => frT (fr_Tw_sortWord_b20 _ _) (fS_mono rfl rfl) hG4))
theorem fr_Tw_defItem_b252 (P W : Int) (x1 : Int) (x2 : Int) (x3 : Int) (x4 : Int) (x6 : Int) (G : St) : Fr (fS [111, 112, 115, 116, 117, 118, 119, 122, 123, 124, 125] [(100, 6), (100, 7), (100, 8), (100, 9), (100, 12), (100, 13), (100, 19), (100, 20), (100, 25)]) G (fun q => q.2) (Tw_defItem_b252 P W x1 x2 x3 x4 x6 G) := by
  unfold Tw_defItem_b252
  exact frIf (frS fq_rf) (frBd (fr_Tw_put _ _ _ _ _) (fS_mono rfl rfl) fq_rf (fun _ G13 hG13 => frBd (fr_Tw_expression _ _ _) (fS_mono rfl rfl) hG13 (fun _ G15 hG15 => frIf (frS hG15) (frBd (fr_Tw_put _ _ _ _ _) (fS_mono rfl rfl) hG15 (fun _ G17 hG17 => frCB (frTk (fq_upL rfl hG17) (fun G18 hG18 => frBd (fr_Tw_sign _ _) (fS_mono rfl rfl) hG18 (fun _ G20 hG20 => frS hG20))))))))
theorem fr_Tw_defItem_b233 (P W : Int) (x1 : Int) (x2 : Int) (x3 : Int) (x4 : Int) (G : St) : Fr (fS [111, 112, 115, 116, 117, 118, 119, 122, 123, 124, 125] [(100, 6), (100, 7), (100, 8), (100, 9), (100, 12), (100, 13), (100, 19), (100, 20), (100, 25)]) G (fun q => q.2) (Tw_defItem_b233 P W x1 x2 x3 x4 G) := by
  unfold Tw_defItem_b233
  exact frIf (frBd (fr_Tw_sign _ _) (fS_mono rfl rfl) fq_rf (fun _ G22 hG22 => frT (fr_Tw_defItem_b252 _ _ _ _ _ _ _ _) (fS_mono rfl rfl) hG22)) (frT (fr_Tw_defItem_b252 _ _ _ _ _ _ _ _) (fS_mono rfl rfl) fq_rf)
theorem fr_Tw_defItem_b222 (P W : Int) (x1 : Int) (x2 : Int) (x3 : Int) (x4 : Int) (G : St) : Fr (fS [111, 112, 115, 116, 117, 118, 119, 122, 123, 124, 125] [(100, 6), (100, 7), (100, 8), (100, 9), (100, 12), (100, 13), (100, 19), (100, 20), (100, 25), (100, 32)]) G (fun q => q.2) (Tw_defItem_b222 P W x1 x2 x3 x4 G) := by
  unfold Tw_defItem_b222
  exact frIf (frBd (fr_Tw_sortWord _) (fS_mono rfl rfl) fq_rf (fun _ G24 hG24 => frT (fr_Tw_defItem_b233 _ _ _ _ _ _ _) (fS_mono rfl rfl) hG24)) (frT (fr_Tw_defItem_b233 _ _ _ _ _ _ _) (fS_mono rfl rfl) fq_rf)
theorem fr_Tw_defItem_b209 (P W : Int) (x1 : Int) (x2 : Int) (x3 : Int) (x4 : Int) (G : St) : Fr (fS [111, 112, 115, 116, 117, 118, 119, 122, 123, 124, 125] [(100, 6), (100, 7), (100, 8), (100, 9), (100, 12), (100, 13), (100, 19), (100, 20), (100, 25), (100, 32)]) G (fun q => q.2) (Tw_defItem_b209 P W x1 x2 x3 x4 G) := by
  unfold Tw_defItem_b209
  exact frIf (frBd (fr_Tw_sign _ _) (fS_mono rfl rfl) fq_rf (fun _ G26 hG26 => frT (fr_Tw_defItem_b222 _ _ _ _ _ _ _) (fS_mono rfl rfl) hG26)) (frT (fr_Tw_defItem_b222 _ _ _ _ _ _ _) (fS_mono rfl rfl) fq_rf)
theorem fr_Tw_defItem_b196 (P W : Int) (x1 : Int) (x2 : Int) (x3 : Int) (x4 : Int) (G : St) : Fr (fS [111, 112, 115, 116, 117, 118, 119, 122, 123, 124, 125] [(100, 6), (100, 7), (100, 8), (100, 9), (100, 12), (100, 13), (100, 19), (100, 20), (100, 25), (100, 32)]) G (fun q => q.2) (Tw_defItem_b196 P W x1 x2 x3 x4 G) := by
  unfold Tw_defItem_b196
  exact frIf (frBd (fr_Tw_sign _ _) (fS_mono rfl rfl) fq_rf (fun _ G28 hG28 => frT (fr_Tw_defItem_b209 _ _ _ _ _ _ _) (fS_mono rfl rfl) hG28)) (frT (fr_Tw_defItem_b209 _ _ _ _ _ _ _) (fS_mono rfl rfl) fq_rf)
theorem fr_Tw_defItem_b189 (P W : Int) (x1 : Int) (x2 : Int) (x3 : Int) (x4 : Int) (x5 : Int) (s0 : Int) (s1 : Int) (G : St) : Fr (fS [] [(100, 6)]) G (Sum.elim (fun q => q.2) (fun q => q.2)) (Tw_defItem_b189 P W x1 x2 x3 x4 x5 s0 s1 G) := by
  unfold Tw_defItem_b189
  exact frCI (frTk (fq_upK rfl fq_rf) (fun G40 hG40 => frS hG40))
theorem fr_Tw_defItem_b128 (P W : Int) (x1 : Int) (x2 : Int) (x3 : Int) (x4 : Int) (x5 : Int) (x6 : Int) (x7 : Int) (G : St) : Fr (fS [115, 116, 117, 118] [(100, 6), (100, 13)]) G (Sum.elim (fun q => q.2) (fun q => q.2)) (Tw_defItem_b128 P W x1 x2 x3 x4 x5 x6 x7 G) := by
  unfold Tw_defItem_b128
  exact frIf (frBd (fr_Tw_put _ _ _ _ _) (fS_mono rfl rfl) fq_rf (fun _ G34 hG34 => frCB (frCI (frCB (frTk (fq_upL rfl hG34) (fun G35 hG35 => frBd (fr_Tw_gap _) (fS_mono rfl rfl) hG35 (fun _ G37 hG37 => frBd (fr_Tw_isSign _ _) (fS_mono rfl rfl) hG37 (fun _ G39 hG39 => frT (fr_Tw_defItem_b189 _ _ _ _ _ _ _ _ _ _) (fS_mono rfl rfl) hG39)))))))) (frS fq_rf)
theorem fr_Tw_defItem_b117 (P W : Int) (x1 : Int) (x2 : Int) (x3 : Int) (x4 : Int) (x5 : Int) (x6 : Int) (x7 : Int) (G : St) : Fr (fS [115, 116, 117, 118] [(100, 6), (100, 7), (100, 8), (100, 13), (100, 32)]) G (Sum.elim (fun q => q.2) (fun q => q.2)) (Tw_defItem_b117 P W x1 x2 x3 x4 x5 x6 x7 G) := by
  unfold Tw_defItem_b117
  exact frIf (frBd (fr_Tw_sortWord _) (fS_mono rfl rfl) fq_rf (fun _ G42 hG42 => frT (fr_Tw_defItem_b128 _ _ _ _ _ _ _ _ _ _) (fS_mono rfl rfl) hG42)) (frT (fr_Tw_defItem_b128 _ _ _ _ _ _ _ _ _ _) (fS_mono rfl rfl) fq_rf)
theorem fr_Tw_defItem_s76 (P W : Int) (x1 : Int) (x2 : Int) (x3 : Int) (x4 : Int) (x5 : Int) (G : St) : Fr (fS [111, 112, 115, 116, 117, 118, 119, 122, 123, 124, 125] [(100, 6), (100, 7), (100, 8), (100, 9), (100, 12), (100, 13), (100, 19), (100, 20), (100, 25), (100, 32)]) G (Sum.elim (fun q => q.2) (fun q => q.2)) (Tw_defItem_s76 P W x1 x2 x3 x4 x5 G) := by
  unfold Tw_defItem_s76
  exact frIf (frEx (frT (fr_Tw_defItem_b196 _ _ _ _ _ _ _) (fS_mono rfl rfl) fq_rf)) (frIf (frBd (fr_Tw_gap _) (fS_mono rfl rfl) fq_rf (fun _ G30 hG30 => frBd (fr_Tw_name _) (fS_mono rfl rfl) hG30 (fun _ G32 hG32 => frIf (frBd (fr_Tw_sign _ _) (fS_mono rfl rfl) hG32 (fun _ G44 hG44 => frT (fr_Tw_defItem_b117 _ _ _ _ _ _ _ _ _ _) (fS_mono rfl rfl) hG44)) (frT (fr_Tw_defItem_b117 _ _ _ _ _ _ _ _ _ _) (fS_mono rfl rfl) hG32)))) (frEx (frT (fr_Tw_defItem_b196 _ _ _ _ _ _ _) (fS_mono rfl rfl) fq_rf)))
theorem fr_Tw_defItem_l76 (P W : Int) (x1 : Int) (x2 : Int) (x3 : Int) (x4 : Int) (x5 : Int) (G : St) : Fr (fS [111, 112, 115, 116, 117, 118, 119, 122, 123, 124, 125] [(100, 6), (100, 7), (100, 8), (100, 9), (100, 12), (100, 13), (100, 19), (100, 20), (100, 25), (100, 32)]) G (fun q => q.2) (Tw_defItem_l76 P W x1 x2 x3 x4 x5 G) := frWh (pi := fun (s : (Int × St)) => s.2) (fun (s : (Int × St)) => fr_Tw_defItem_s76 P W x1 x2 x3 x4 s.1 s.2)
theorem fr_Tw_defItem_b74 (P W : Int) (x1 : Int) (x2 : Int) (x3 : Int) (x4 : Int) (s0 : Int) (G : St) : Fr (fS [111, 112, 115, 116, 117, 118, 119, 122, 123, 124, 125] [(100, 6), (100, 7), (100, 8), (100, 9), (100, 12), (100, 13), (100, 19), (100, 20), (100, 25), (100, 32)]) G (fun q => q.2) (Tw_defItem_b74 P W x1 x2 x3 x4 s0 G) := by
  unfold Tw_defItem_b74
  exact frT (fr_Tw_defItem_l76 _ _ _ _ _ _ _ _) (fS_mono rfl rfl) fq_rf
theorem fr_Tw_defItem_b37 (P W : Int) (x1 : Int) (x2 : Int) (x3 : Int) (G : St) : Fr (fS [111, 112, 115, 116, 117, 118, 119, 122, 123, 124, 125] [(100, 6), (100, 7), (100, 8), (100, 9), (100, 12), (100, 13), (100, 19), (100, 20), (100, 25), (100, 32)]) G (fun q => q.2) (Tw_defItem_b37 P W x1 x2 x3 G) := by
  unfold Tw_defItem_b37
  exact frIf (frS fq_rf) (frBd (fr_Tw_put _ _ _ _ _) (fS_mono rfl rfl) fq_rf (fun _ G7 hG7 => frBd (fr_Tw_gap _) (fS_mono rfl rfl) hG7 (fun _ G9 hG9 => frBd (fr_Tw_isSign _ _) (fS_mono rfl rfl) hG9 (fun _ G11 hG11 => frT (fr_Tw_defItem_b74 _ _ _ _ _ _ _ _) (fS_mono rfl rfl) hG11))))
theorem fr_Tw_defItem (P W : Int) (x1 : Int) (G : St) : Fr (fS [111, 112, 115, 116, 117, 118, 119, 122, 123, 124, 125] [(100, 6), (100, 7), (100, 8), (100, 9), (100, 12), (100, 13), (100, 19), (100, 20), (100, 25), (100, 32)]) G (fun q => q.2) (Tw_defItem P W x1 G) := by
  unfold Tw_defItem
  exact frCI (frTk (fq_upK rfl fq_rf) (fun G1 hG1 => frBd (fr_Tw_gap _) (fS_mono rfl rfl) hG1 (fun _ G3 hG3 => frBd (fr_Tw_name _) (fS_mono rfl rfl) hG3 (fun _ G5 hG5 => frIf (frBd (fr_Tw_sign _ _) (fS_mono rfl rfl) hG5 (fun _ G46 hG46 => frT (fr_Tw_defItem_b37 _ _ _ _ _ _) (fS_mono rfl rfl) hG46)) (frT (fr_Tw_defItem_b37 _ _ _ _ _ _) (fS_mono rfl rfl) hG5)))))
theorem fr_Tw_keyword (x1 : Int) (G : St) : Fr (fS [] [(100, 6), (100, 7), (100, 8)]) G (fun q => q.2) (Tw_keyword x1 G) := by
  unfold Tw_keyword
  exact frBd (fr_Tw_gap _) (fS_mono rfl rfl) fq_rf (fun _ G2 hG2 => frBd (fr_Tw_isWord _ _) (fS_mono rfl rfl) hG2 (fun _ G4 hG4 => frIf (frBd (fr_Tw_fail _ _ _) (fS_mono rfl rfl) hG4 (fun _ G9 hG9 => frS hG9)) (frBd (S' := fS [] []) (frCB (frS fq_rf)) (fS_mono rfl rfl) hG4 (fun _ G6 hG6 => frCI (frTk (fq_upK rfl hG6) (fun G7 hG7 => frS hG7))))))
theorem fr_Tw_forStatement_b106 (P W : Int) (x1 : Int) (x4 : Int) (G : St) : Fr (fS [115, 116, 117, 118, 128, 129] [(100, 6), (100, 7), (100, 8), (100, 13), (100, 19), (100, 26)]) G (fun q => q.2) (Tw_forStatement_b106 P W x1 x4 G) := by
  unfold Tw_forStatement_b106
  exact frIf (frBd (fr_Tw_put _ _ _ _ _) (fS_mono rfl rfl) fq_rf (fun _ G13 hG13 => frBd (fr_Tw_put _ _ _ _ _) (fS_mono rfl rfl) hG13 (fun _ G15 hG15 => frBd (fr_Tw_openBlock _ _ _) (fS_mono rfl rfl) hG15 (fun _ G17 hG17 => frS hG17)))) (frS fq_rf)
theorem fr_Tw_forStatement_b95 (P W : Int) (x1 : Int) (x4 : Int) (G : St) : Fr (fS [111, 112, 115, 116, 117, 118, 119, 122, 123, 124, 125, 128, 129] [(100, 6), (100, 7), (100, 8), (100, 9), (100, 12), (100, 13), (100, 19), (100, 20), (100, 25), (100, 26)]) G (fun q => q.2) (Tw_forStatement_b95 P W x1 x4 G) := by
  unfold Tw_forStatement_b95
  exact frIf (frBd (fr_Tw_expression _ _ _) (fS_mono rfl rfl) fq_rf (fun _ G19 hG19 => frT (fr_Tw_forStatement_b106 _ _ _ _ _) (fS_mono rfl rfl) hG19)) (frT (fr_Tw_forStatement_b106 _ _ _ _ _) (fS_mono rfl rfl) fq_rf)
theorem fr_Tw_forStatement_b71 (P W : Int) (x1 : Int) (x4 : Int) (G : St) : Fr (fS [111, 112, 115, 116, 117, 118, 119, 122, 123, 124, 125, 128, 129] [(100, 6), (100, 7), (100, 8), (100, 9), (100, 12), (100, 13), (100, 19), (100, 20), (100, 25), (100, 26)]) G (fun q => q.2) (Tw_forStatement_b71 P W x1 x4 G) := by
  unfold Tw_forStatement_b71
  exact frIf (frBd (fr_Tw_put _ _ _ _ _) (fS_mono rfl rfl) fq_rf (fun _ G21 hG21 => frBd (fr_Tw_keyword _ _) (fS_mono rfl rfl) hG21 (fun _ G23 hG23 => frT (fr_Tw_forStatement_b95 _ _ _ _ _) (fS_mono rfl rfl) hG23))) (frT (fr_Tw_forStatement_b95 _ _ _ _ _) (fS_mono rfl rfl) fq_rf)
theorem fr_Tw_forStatement (P W : Int) (x1 : Int) (G : St) : Fr (fS [111, 112, 115, 116, 117, 118, 119, 122, 123, 124, 125, 128, 129] [(100, 6), (100, 7), (100, 8), (100, 9), (100, 12), (100, 13), (100, 19), (100, 20), (100, 25), (100, 26)]) G (fun q => q.2) (Tw_forStatement P W x1 G) := by
  unfold Tw_forStatement
  exact frBd (fr_Tw_put _ _ _ _ _) (fS_mono rfl rfl) fq_rf (fun _ G2 hG2 => frCI (frTk (fq_upK rfl hG2) (fun G3 hG3 => frBd (fr_Tw_gap _) (fS_mono rfl rfl) hG3 (fun _ G5 hG5 => frBd (fr_Tw_name _) (fS_mono rfl rfl) hG5 (fun _ G7 hG7 => frIf (frS hG7) (frBd (fr_Tw_put _ _ _ _ _) (fS_mono rfl rfl) hG7 (fun _ G9 hG9 => frBd (fr_Tw_sign _ _) (fS_mono rfl rfl) hG9 (fun _ G11 hG11 => frIf (frBd (fr_Tw_expression _ _ _) (fS_mono rfl rfl) hG11 (fun _ G25 hG25 => frT (fr_Tw_forStatement_b71 _ _ _ _ _) (fS_mono rfl rfl) hG25)) (frT (fr_Tw_forStatement_b71 _ _ _ _ _) (fS_mono rfl rfl) hG11)))))))))
theorem fr_Tw_type (G : St) : Fr (fS [] [(100, 6), (100, 7), (100, 8), (100, 12), (100, 31), (100, 32)]) G (fun q => q.2) (Tw_type G) := by
  unfold Tw_type
  exact frBd (fr_Tw_sortWord _) (fS_mono rfl rfl) fq_rf (fun _ G2 hG2 => frTk (fq_upK rfl hG2) (fun G3 hG3 => frIf (frS hG3) (frBd (fr_Tw_gap _) (fS_mono rfl rfl) hG3 (fun _ G5 hG5 => frBd (fr_Tw_isSign _ _) (fS_mono rfl rfl) hG5 (fun _ G7 hG7 => frIf (frS hG7) (frCI (frTk (fq_upK rfl hG7) (fun G8 hG8 => frBd (fr_Tw_number _ _ _) (fS_mono rfl rfl) hG8 (fun _ G10 hG10 => frTk (fq_upK rfl hG10) (fun G11 hG11 => frIf (frBd (fr_Tw_sign _ _) (fS_mono rfl rfl) hG11 (fun _ G13 hG13 => frS hG13)) (frS hG11)))))))))))
theorem fr_Tw_inputItem_b111 (P W : Int) (x2 : Int) (x3 : Int) (x4 : Int) (s0 : Int) (G : St) : Fr (fS [115, 116, 117, 118, 119] [(100, 6), (100, 7), (100, 8), (100, 13), (100, 29)]) G (fun q => q.2) (Tw_inputItem_b111 P W x2 x3 x4 s0 G) := by
  unfold Tw_inputItem_b111
  exact frCI (frIf (frBd (fr_Tw_fail _ _ _) (fS_mono rfl rfl) fq_rf (fun _ G15 hG15 => frS hG15)) (frBd (fr_Tw_put _ _ _ _ _) (fS_mono rfl rfl) fq_rf (fun _ G7 hG7 => frBd (fr_Tw_put _ _ _ _ _) (fS_mono rfl rfl) hG7 (fun _ G9 hG9 => frCL (frCL (frCB (frTk (fq_upL rfl hG9) (fun G10 hG10 => frCI (frTk (fq_upK rfl hG10) (fun G11 hG11 => frBd (fr_Tw_sign _ _) (fS_mono rfl rfl) hG11 (fun _ G13 hG13 => frS hG13)))))))))))
theorem fr_Tw_inputItem_b88 (P W : Int) (x2 : Int) (x3 : Int) (x4 : Int) (G : St) : Fr (fS [115, 116, 117, 118, 119] [(100, 6), (100, 7), (100, 8), (100, 13), (100, 29)]) G (fun q => q.2) (Tw_inputItem_b88 P W x2 x3 x4 G) := by
  unfold Tw_inputItem_b88
  exact frIf (frS fq_rf) (frT (fr_Tw_inputItem_b111 _ _ _ _ _ _ _) (fS_mono rfl rfl) fq_rf)
theorem fr_Tw_inputItem_b77 (P W : Int) (x2 : Int) (x3 : Int) (x4 : Int) (G : St) : Fr (fS [115, 116, 117, 118, 119] [(100, 6), (100, 7), (100, 8), (100, 12), (100, 13), (100, 29), (100, 31), (100, 32)]) G (fun q => q.2) (Tw_inputItem_b77 P W x2 x3 x4 G) := by
  unfold Tw_inputItem_b77
  exact frIf (frBd (fr_Tw_type _) (fS_mono rfl rfl) fq_rf (fun _ G17 hG17 => frT (fr_Tw_inputItem_b88 _ _ _ _ _ _) (fS_mono rfl rfl) hG17)) (frT (fr_Tw_inputItem_b88 _ _ _ _ _ _) (fS_mono rfl rfl) fq_rf)
theorem fr_Tw_inputItem_b57 (P W : Int) (x2 : Int) (x3 : Int) (G : St) : Fr (fS [115, 116, 117, 118, 119] [(100, 6), (100, 7), (100, 8), (100, 12), (100, 13), (100, 29), (100, 31), (100, 32)]) G (fun q => q.2) (Tw_inputItem_b57 P W x2 x3 G) := by
  unfold Tw_inputItem_b57
  exact frIf (frBd (fr_Tw_sign _ _) (fS_mono rfl rfl) fq_rf (fun _ G19 hG19 => frT (fr_Tw_inputItem_b77 _ _ _ _ _ _) (fS_mono rfl rfl) hG19)) (frT (fr_Tw_inputItem_b77 _ _ _ _ _ _) (fS_mono rfl rfl) fq_rf)
theorem fr_Tw_inputItem_b38 (P W : Int) (x2 : Int) (x3 : Int) (G : St) : Fr (fS [115, 116, 117, 118, 119] [(100, 6), (100, 7), (100, 8), (100, 12), (100, 13), (100, 29), (100, 31), (100, 32)]) G (fun q => q.2) (Tw_inputItem_b38 P W x2 x3 G) := by
  unfold Tw_inputItem_b38
  exact frIf (frCL (frBd (fr_Tw_number _ _ _) (fS_mono rfl rfl) fq_rf (fun _ G21 hG21 => frT (fr_Tw_inputItem_b57 _ _ _ _ _) (fS_mono rfl rfl) hG21))) (frT (fr_Tw_inputItem_b57 _ _ _ _ _) (fS_mono rfl rfl) fq_rf)
theorem fr_Tw_inputItem (P W : Int) (x1 : Int) (G : St) : Fr (fS [111, 112, 115, 116, 117, 118, 119] [(100, 6), (100, 7), (100, 8), (100, 9), (100, 12), (100, 13), (100, 29), (100, 31), (100, 32)]) G (fun q => q.2) (Tw_inputItem P W x1 G) := by
  unfold Tw_inputItem
  exact frCI (frTk (fq_upK rfl fq_rf) (fun G1 hG1 => frBd (fr_Tw_gap _) (fS_mono rfl rfl) hG1 (fun _ G3 hG3 => frBd (fr_Tw_name _) (fS_mono rfl rfl) hG3 (fun _ G5 hG5 => frIf (frBd (fr_Tw_keyword _ _) (fS_mono rfl rfl) hG5 (fun _ G23 hG23 => frT (fr_Tw_inputItem_b38 _ _ _ _ _) (fS_mono rfl rfl) hG23)) (frT (fr_Tw_inputItem_b38 _ _ _ _ _) (fS_mono rfl rfl) hG5)))))
theorem fr_Tw_outputItem (P W : Int) (x1 : Int) (G : St) : Fr (fS [111, 112, 115, 116, 117, 118, 119, 122, 123, 124, 125] [(100, 6), (100, 7), (100, 8), (100, 9), (100, 12), (100, 13), (100, 19), (100, 20), (100, 25)]) G (fun q => q.2) (Tw_outputItem P W x1 G) := by
  unfold Tw_outputItem
  exact frCI (frTk (fq_upK rfl fq_rf) (fun G1 hG1 => frBd (fr_Tw_put _ _ _ _ _) (fS_mono rfl rfl) hG1 (fun _ G3 hG3 => frBd (fr_Tw_expression _ _ _) (fS_mono rfl rfl) hG3 (fun _ G5 hG5 => frIf (frBd (fr_Tw_put _ _ _ _ _) (fS_mono rfl rfl) hG5 (fun _ G7 hG7 => frBd (fr_Tw_sign _ _) (fS_mono rfl rfl) hG7 (fun _ G9 hG9 => frBd (fr_Tw_put _ _ _ _ _) (fS_mono rfl rfl) hG9 (fun _ G11 hG11 => frS hG11)))) (frS hG5)))))
theorem fr_Tw_varStatement_b195 (P W : Int) (x1 : Int) (x2 : Int) (x5 : Int) (x6 : Int) (x7 : Int) (s0 : Int) (s1 : Int) (G : St) : Fr (fS [115, 116, 117, 118, 119, 134] [(100, 6), (100, 7), (100, 8), (100, 13), (100, 30)]) G (fun q => q.2) (Tw_varStatement_b195 P W x1 x2 x5 x6 x7 s0 s1 G) := by
  unfold Tw_varStatement_b195
  exact frCL (frCL (frCB (frTk (fq_upL rfl fq_rf) (fun G16 hG16 => frCB (frTk (fq_upL rfl hG16) (fun G17 hG17 => frCB (frTk (fq_upL rfl hG17) (fun G18 hG18 => frCI (frTk (fq_upK rfl hG18) (fun G19 hG19 => frBd (fr_Tw_sign _ _) (fS_mono rfl rfl) hG19 (fun _ G21 hG21 => frBd (fr_Tw_put _ _ _ _ _) (fS_mono rfl rfl) hG21 (fun _ G23 hG23 => frS hG23))))))))))))
theorem fr_Tw_varStatement_b158 (P W : Int) (x1 : Int) (x3 : Int) (x4 : Int) (x5 : Int) (x6 : Int) (x7 : Int) (x8 : Int) (G : St) : Fr (fS [115, 116, 117, 118, 119, 134] [(100, 6), (100, 7), (100, 8), (100, 13), (100, 30)]) G (fun q => q.2) (Tw_varStatement_b158 P W x1 x3 x4 x5 x6 x7 x8 G) := by
  unfold Tw_varStatement_b158
  exact frIf (frS fq_rf) (frBd (fr_Tw_put _ _ _ _ _) (fS_mono rfl rfl) fq_rf (fun _ G15 hG15 => frT (fr_Tw_varStatement_b195 _ _ _ _ _ _ _ _ _ _) (fS_mono rfl rfl) hG15))
theorem fr_Tw_varStatement_b82 (P W : Int) (x1 : Int) (x3 : Int) (x4 : Int) (s0 : Int) (G : St) : Fr (fS [111, 112, 115, 116, 117, 118, 119, 122, 123, 124, 125, 134] [(100, 6), (100, 7), (100, 8), (100, 9), (100, 12), (100, 13), (100, 19), (100, 20), (100, 25), (100, 30)]) G (fun q => q.2) (Tw_varStatement_b82 P W x1 x3 x4 s0 G) := by
  unfold Tw_varStatement_b82
  exact frCI (frIf (frBd (fr_Tw_fail _ _ _) (fS_mono rfl rfl) fq_rf (fun _ G28 hG28 => frS hG28)) (frBd (fr_Tw_put _ _ _ _ _) (fS_mono rfl rfl) fq_rf (fun _ G9 hG9 => frBd (fr_Tw_gap _) (fS_mono rfl rfl) hG9 (fun _ G11 hG11 => frBd (fr_Tw_isSign _ _) (fS_mono rfl rfl) hG11 (fun _ G13 hG13 => frIf (frT (fr_Tw_varStatement_b158 _ _ _ _ _ _ _ _ _ _) (fS_mono rfl rfl) hG13) (frCI (frTk (fq_upK rfl hG13) (fun G24 hG24 => frBd (fr_Tw_expression _ _ _) (fS_mono rfl rfl) hG24 (fun _ G26 hG26 => frT (fr_Tw_varStatement_b158 _ _ _ _ _ _ _ _ _ _) (fS_mono rfl rfl) hG26)))))))))
theorem fr_Tw_varStatement_b59 (P W : Int) (x1 : Int) (x3 : Int) (x4 : Int) (G : St) : Fr (fS [111, 112, 115, 116, 117, 118, 119, 122, 123, 124, 125, 134] [(100, 6), (100, 7), (100, 8), (100, 9), (100, 12), (100, 13), (100, 19), (100, 20), (100, 25), (100, 30)]) G (fun q => q.2) (Tw_varStatement_b59 P W x1 x3 x4 G) := by
  unfold Tw_varStatement_b59
  exact frIf (frS fq_rf) (frT (fr_Tw_varStatement_b82 _ _ _ _ _ _ _) (fS_mono rfl rfl) fq_rf)
theorem fr_Tw_varStatement_b48 (P W : Int) (x1 : Int) (x3 : Int) (x4 : Int) (G : St) : Fr (fS [111, 112, 115, 116, 117, 118, 119, 122, 123, 124, 125, 134] [(100, 6), (100, 7), (100, 8), (100, 9), (100, 12), (100, 13), (100, 19), (100, 20), (100, 25), (100, 30), (100, 31), (100, 32)]) G (fun q => q.2) (Tw_varStatement_b48 P W x1 x3 x4 G) := by
  unfold Tw_varStatement_b48
  exact frIf (frBd (fr_Tw_type _) (fS_mono rfl rfl) fq_rf (fun _ G30 hG30 => frT (fr_Tw_varStatement_b59 _ _ _ _ _ _) (fS_mono rfl rfl) hG30)) (frT (fr_Tw_varStatement_b59 _ _ _ _ _ _) (fS_mono rfl rfl) fq_rf)
theorem fr_Tw_varStatement (P W : Int) (x1 : Int) (G : St) : Fr (fS [111, 112, 115, 116, 117, 118, 119, 122, 123, 124, 125, 134] [(100, 6), (100, 7), (100, 8), (100, 9), (100, 12), (100, 13), (100, 19), (100, 20), (100, 25), (100, 30), (100, 31), (100, 32)]) G (fun q => q.2) (Tw_varStatement P W x1 G) := by
  unfold Tw_varStatement
  exact frBd (fr_Tw_put _ _ _ _ _) (fS_mono rfl rfl) fq_rf (fun _ G2 hG2 => frCI (frTk (fq_upK rfl hG2) (fun G3 hG3 => frBd (fr_Tw_gap _) (fS_mono rfl rfl) hG3 (fun _ G5 hG5 => frBd (fr_Tw_name _) (fS_mono rfl rfl) hG5 (fun _ G7 hG7 => frIf (frBd (fr_Tw_sign _ _) (fS_mono rfl rfl) hG7 (fun _ G32 hG32 => frT (fr_Tw_varStatement_b48 _ _ _ _ _ _) (fS_mono rfl rfl) hG32)) (frT (fr_Tw_varStatement_b48 _ _ _ _ _ _) (fS_mono rfl rfl) hG7))))))
theorem fr_Tw_program_b246 (P W : Int) (x1 : Int) (x2 : Int) (G : St) : Fr (fS [111, 112, 115, 116, 117, 118, 119, 122, 123, 124, 125] [(100, 6), (100, 7), (100, 8), (100, 9), (100, 12), (100, 13), (100, 19), (100, 20), (100, 25)]) G (Sum.elim (fun q => q.2) (fun q => q.2)) (Tw_program_b246 P W x1 x2 G) := by
  unfold Tw_program_b246
  exact frBd (fr_Tw_assignment _ _ _ _) (fS_mono rfl rfl) fq_rf (fun _ G20 hG20 => frS hG20)
theorem fr_Tw_program_b221 (P W : Int) (x1 : Int) (x2 : Int) (G : St) : Fr (fS [111, 112, 115, 116, 117, 118, 119, 122, 123, 124, 125] [(100, 6), (100, 7), (100, 8), (100, 9), (100, 12), (100, 13), (100, 19), (100, 20), (100, 25)]) G (Sum.elim (fun q => q.2) (fun q => q.2)) (Tw_program_b221 P W x1 x2 G) := by
  unfold Tw_program_b221
  exact frIf (frBd (fr_Tw_isWord _ _) (fS_mono rfl rfl) fq_rf (fun _ G22 hG22 => frIf (frT (fr_Tw_program_b246 _ _ _ _ _) (fS_mono rfl rfl) hG22) (frBd (fr_Tw_outputItem _ _ _ _) (fS_mono rfl rfl) hG22 (fun _ G24 hG24 => frS hG24)))) (frT (fr_Tw_program_b246 _ _ _ _ _) (fS_mono rfl rfl) fq_rf)
theorem fr_Tw_program_b196 (P W : Int) (x1 : Int) (x2 : Int) (G : St) : Fr (fS [111, 112, 115, 116, 117, 118, 119, 122, 123, 124, 125] [(100, 6), (100, 7), (100, 8), (100, 9), (100, 12), (100, 13), (100, 19), (100, 20), (100, 25), (100, 32)]) G (Sum.elim (fun q => q.2) (fun q => q.2)) (Tw_program_b196 P W x1 x2 G) := by
  unfold Tw_program_b196
  exact frIf (frBd (fr_Tw_isWord _ _) (fS_mono rfl rfl) fq_rf (fun _ G26 hG26 => frIf (frT (fr_Tw_program_b221 _ _ _ _ _) (fS_mono rfl rfl) hG26) (frBd (fr_Tw_defItem _ _ _ _) (fS_mono rfl rfl) hG26 (fun _ G28 hG28 => frS hG28)))) (frT (fr_Tw_program_b221 _ _ _ _ _) (fS_mono rfl rfl) fq_rf)
theorem fr_Tw_program_b117 (P W : Int) (x1 : Int) (x2 : Int) (G : St) : Fr (fS [111, 112, 115, 116, 117, 118, 119, 122, 123, 124, 125, 128, 129, 134] [(100, 6), (100, 7), (100, 8), (100, 9), (100, 12), (100, 13), (100, 19), (100, 20), (100, 25), (100, 26), (100, 29), (100, 30), (100, 31), (100, 32)]) G (Sum.elim (fun q => q.2) (fun q => q.2)) (Tw_program_b117 P W x1 x2 G) := by
  unfold Tw_program_b117
  exact frBd (fr_Tw_isWord _ _) (fS_mono rfl rfl) fq_rf (fun _ G14 hG14 => frIf (frBd (fr_Tw_isWord _ _) (fS_mono rfl rfl) hG14 (fun _ G16 hG16 => frIf (frBd (fr_Tw_isWord _ _) (fS_mono rfl rfl) hG16 (fun _ G18 hG18 => frIf (frIf (frBd (fr_Tw_isWord _ _) (fS_mono rfl rfl) hG18 (fun _ G30 hG30 => frIf (frT (fr_Tw_program_b196 _ _ _ _ _) (fS_mono rfl rfl) hG30) (frBd (fr_Tw_inputItem _ _ _ _) (fS_mono rfl rfl) hG30 (fun _ G32 hG32 => frS hG32)))) (frT (fr_Tw_program_b196 _ _ _ _ _) (fS_mono rfl rfl) hG18)) (frBd (fr_Tw_forStatement _ _ _ _) (fS_mono rfl rfl) hG18 (fun _ G34 hG34 => frS hG34)))) (frBd (fr_Tw_ifStatement _ _ _ _) (fS_mono rfl rfl) hG16 (fun _ G36 hG36 => frS hG36)))) (frBd (fr_Tw_varStatement _ _ _ _) (fS_mono rfl rfl) hG14 (fun _ G38 hG38 => frS hG38)))
theorem fr_Tw_program_b89 (P W : Int) (G : St) : Fr (fS [] []) G (Sum.elim (fun q => q.2) (fun q => q.2)) (Tw_program_b89 P W G) := by
  unfold Tw_program_b89
  exact frS fq_rf
theorem fr_Tw_program_s42 (P W : Int) (x1 : Int) (G : St) : Fr (fS [111, 112, 115, 116, 117, 118, 119, 122, 123, 124, 125, 128, 129, 134] [(100, 6), (100, 7), (100, 8), (100, 9), (100, 12), (100, 13), (100, 19), (100, 20), (100, 25), (100, 26), (100, 29), (100, 30), (100, 31), (100, 32)]) G (Sum.elim (fun q => q.2) (fun q => q.2)) (Tw_program_s42 P W x1 G) := by
  unfold Tw_program_s42
  exact frIf (frEx (frS fq_rf)) (frIf (frBd (fr_Tw_gap _) (fS_mono rfl rfl) fq_rf (fun _ G10 hG10 => frIf (frIf (frBd (fr_Tw_fail _ _ _) (fS_mono rfl rfl) hG10 (fun _ G42 hG42 => frT (fr_Tw_program_b89 _ _ _) (fS_mono rfl rfl) hG42)) (frT (fr_Tw_program_b89 _ _ _) (fS_mono rfl rfl) hG10)) (frBd (fr_Tw_isSign _ _) (fS_mono rfl rfl) hG10 (fun _ G12 hG12 => frIf (frT (fr_Tw_program_b117 _ _ _ _ _) (fS_mono rfl rfl) hG12) (frIf (frBd (fr_Tw_closeBlock _ _ _) (fS_mono rfl rfl) hG12 (fun _ G40 hG40 => frS hG40)) (frT (fr_Tw_program_b117 _ _ _ _ _) (fS_mono rfl rfl) hG12)))))) (frEx (frS fq_rf)))
theorem fr_Tw_program_l42 (P W : Int) (x1 : Int) (G : St) : Fr (fS [111, 112, 115, 116, 117, 118, 119, 122, 123, 124, 125, 128, 129, 134] [(100, 6), (100, 7), (100, 8), (100, 9), (100, 12), (100, 13), (100, 19), (100, 20), (100, 25), (100, 26), (100, 29), (100, 30), (100, 31), (100, 32)]) G (fun q => q.2) (Tw_program_l42 P W x1 G) := frWh (pi := fun (s : (Int × St)) => s.2) (fun (s : (Int × St)) => fr_Tw_program_s42 P W s.1 s.2)
theorem fr_Tw_program (P W : Int) (G : St) : Fr (fS [111, 112, 115, 116, 117, 118, 119, 122, 123, 124, 125, 128, 129, 134] [(100, 6), (100, 7), (100, 8), (100, 9), (100, 12), (100, 13), (100, 19), (100, 20), (100, 25), (100, 26), (100, 29), (100, 30), (100, 31), (100, 32)]) G (fun q => q.2) (Tw_program P W G) := by
  unfold Tw_program
  exact frTk (fq_upK rfl fq_rf) (fun G1 hG1 => frTk (fq_upK rfl hG1) (fun G2 hG2 => frTk (fq_upK rfl hG2) (fun G3 hG3 => frTk (fq_upK rfl hG3) (fun G4 hG4 => frTk (fq_upK rfl hG4) (fun G5 hG5 => frTk (fq_upK rfl hG5) (fun G6 hG6 => frTk (fq_upK rfl hG6) (fun G7 hG7 => frTk (fq_upK rfl hG7) (fun G8 hG8 => frT (fr_Tw_program_l42 _ _ _ _) (fS_mono rfl rfl) hG8))))))))
theorem fr_Tw_mustPublic (G : St) : Fr (fS [] [(100, 7), (100, 8)]) G (fun q => q.2) (Tw_mustPublic G) := by
  unfold Tw_mustPublic
  exact frIf (frCI (frCB (frIf (frCI (frCB (frBd (fr_Tw_fail _ _ _) (fS_mono rfl rfl) fq_rf (fun _ G2 hG2 => frS hG2)))) (frS fq_rf)))) (frS fq_rf)
theorem fr_Tw_binarySort_b283 (s0 : Int) (s1 : Int) (G : St) : Fr (fS [145] []) G (fun q => q.2) (Tw_binarySort_b283 s0 s1 G) := by
  unfold Tw_binarySort_b283
  exact frCB (frTk (fq_upL rfl fq_rf) (fun G7 hG7 => frS hG7))
theorem fr_Tw_binarySort_b250 (x2 : Int) (x3 : Int) (x6 : Int) (s0 : Int) (s1 : Int) (G : St) : Fr (fS [145, 147] []) G (fun q => q.2) (Tw_binarySort_b250 x2 x3 x6 s0 s1 G) := by
  unfold Tw_binarySort_b250
  exact frCB (frCB (frTk (fq_upL rfl fq_rf) (fun G6 hG6 => frCI (frT (fr_Tw_binarySort_b283 _ _ _) (fS_mono rfl rfl) hG6))))
theorem fr_Tw_binarySort_b192 (x1 : Int) (x2 : Int) (x3 : Int) (x6 : Int) (G : St) : Fr (fS [117, 145, 147] [(100, 43)]) G (fun q => q.2) (Tw_binarySort_b192 x1 x2 x3 x6 G) := by
  unfold Tw_binarySort_b192
  exact frCB (frTk (fq_upL rfl fq_rf) (fun G4 hG4 => frCI (frTk (fq_upK rfl hG4) (fun G5 hG5 => frCI (frCI (frCB (frIf (frT (fr_Tw_binarySort_b250 _ _ _ _ _ _) (fS_mono rfl rfl) hG5) (frCB (frT (fr_Tw_binarySort_b250 _ _ _ _ _ _) (fS_mono rfl rfl) hG5)))))))))
theorem fr_Tw_binarySort_b171 (x1 : Int) (x2 : Int) (x3 : Int) (x6 : Int) (G : St) : Fr (fS [117, 145, 147, 155] [(100, 7), (100, 8), (100, 43)]) G (fun q => q.2) (Tw_binarySort_b171 x1 x2 x3 x6 G) := by
  unfold Tw_binarySort_b171
  exact frBd (fr_Tw_mustPublic _) (fS_mono rfl rfl) fq_rf (fun _ G2 hG2 => frCI (frCB (frCB (frTk (fq_upL rfl hG2) (fun G3 hG3 => frT (fr_Tw_binarySort_b192 _ _ _ _ _) (fS_mono rfl rfl) hG3)))))
theorem fr_Tw_binarySort_b140 (x1 : Int) (x2 : Int) (x3 : Int) (x6 : Int) (s0 : Int) (G : St) : Fr (fS [117, 145, 147, 155] [(100, 7), (100, 8), (100, 43)]) G (fun q => q.2) (Tw_binarySort_b140 x1 x2 x3 x6 s0 G) := by
  unfold Tw_binarySort_b140
  exact frIf (frCB (frBd (fr_Tw_fail _ _ _) (fS_mono rfl rfl) fq_rf (fun _ G9 hG9 => frS hG9))) (frIf (frT (fr_Tw_binarySort_b171 _ _ _ _ _) (fS_mono rfl rfl) fq_rf) (frIf (frT (fr_Tw_binarySort_b171 _ _ _ _ _) (fS_mono rfl rfl) fq_rf) (frT (fr_Tw_binarySort_b192 _ _ _ _ _) (fS_mono rfl rfl) fq_rf)))
theorem fr_Tw_binarySort_b81 (x1 : Int) (x2 : Int) (x3 : Int) (x4 : Int) (x5 : Int) (s0 : Int) (G : St) : Fr (fS [117, 145, 147, 155] [(100, 7), (100, 8), (100, 43)]) G (fun q => q.2) (Tw_binarySort_b81 x1 x2 x3 x4 x5 s0 G) := by
  unfold Tw_binarySort_b81
  exact frT (fr_Tw_binarySort_b140 _ _ _ _ _ _) (fS_mono rfl rfl) fq_rf
theorem fr_Tw_binarySort_b64 (x1 : Int) (x2 : Int) (x3 : Int) (x4 : Int) (s0 : Int) (G : St) : Fr (fS [117, 145, 147, 155] [(100, 7), (100, 8), (100, 43)]) G (fun q => q.2) (Tw_binarySort_b64 x1 x2 x3 x4 s0 G) := by
  unfold Tw_binarySort_b64
  exact frT (fr_Tw_binarySort_b81 _ _ _ _ _ _ _) (fS_mono rfl rfl) fq_rf
theorem fr_Tw_binarySort (x1 : Int) (G : St) : Fr (fS [117, 145, 147, 155] [(100, 7), (100, 8), (100, 43)]) G (fun q => q.2) (Tw_binarySort x1 G) := by
  unfold Tw_binarySort
  exact frCB (frCI (frCB (frCI (frCB (frT (fr_Tw_binarySort_b64 _ _ _ _ _ _) (fS_mono rfl rfl) fq_rf)))))
theorem fr_Tw_must (x1 : Int) (G : St) : Fr (fS [] [(100, 7), (100, 8)]) G (fun q => q.2) (Tw_must x1 G) := by
  unfold Tw_must
  exact frIf (frCI (frCB (frIf (frS fq_rf) (frCI (frCB (frBd (fr_Tw_fail _ _ _) (fS_mono rfl rfl) fq_rf (fun _ G2 hG2 => frS hG2))))))) (frS fq_rf)
theorem fr_Tw_bitSort (x1 : Int) (G : St) : Fr (fS [145, 146, 155] [(100, 7), (100, 8), (100, 43)]) G (fun q => q.2) (Tw_bitSort x1 G) := by
  unfold Tw_bitSort
  exact frBd (fr_Tw_must _ _) (fS_mono rfl rfl) fq_rf (fun _ G2 hG2 => frBd (fr_Tw_mustPublic _) (fS_mono rfl rfl) hG2 (fun _ G4 hG4 => frIf (frS hG4) (frCI (frCB (frCB (frTk (fq_upL rfl hG4) (fun G5 hG5 => frCI (frTk (fq_upK rfl hG5) (fun G6 hG6 => frCI (frCB (frTk (fq_upL rfl hG6) (fun G7 hG7 => frCI (frCB (frCB (frTk (fq_upL rfl hG7) (fun G8 hG8 => frS hG8))))))))))))))))
theorem fr_Tw_pile (x1 : Int) (x2 : Int) (x3 : Int) (G : St) : Fr (fS [145, 146, 147] [(100, 43)]) G (fun q => q.2) (Tw_pile x1 x2 x3 G) := by
  unfold Tw_pile
  exact frCB (frTk (fq_upL rfl fq_rf) (fun G1 hG1 => frCB (frTk (fq_upL rfl hG1) (fun G2 hG2 => frCB (frCB (frTk (fq_upL rfl hG2) (fun G3 hG3 => frCI (frTk (fq_upK rfl hG3) (fun G4 hG4 => frS hG4)))))))))
theorem fr_Tw_refer (x1 : Int) (x2 : Int) (G : St) : Fr (fS [151, 152, 153, 154] []) G (fun q => q.2) (Tw_refer x1 x2 G) := by
  unfold Tw_refer
  exact frCB (frCB (frTk (fq_upL rfl fq_rf) (fun G1 hG1 => frCB (frCB (frTk (fq_upL rfl hG1) (fun G2 hG2 => frCB (frCB (frTk (fq_upL rfl hG2) (fun G3 hG3 => frCB (frCB (frTk (fq_upL rfl hG3) (fun G4 hG4 => frS hG4))))))))))))
theorem fr_Tw_selectSort_b40 (x1 : Int) (G : St) : Fr (fS [] [(100, 7), (100, 8)]) G (fun q => q.2) (Tw_selectSort_b40 x1 G) := by
  unfold Tw_selectSort_b40
  exact frCB (frBd (fr_Tw_fail _ _ _) (fS_mono rfl rfl) fq_rf (fun _ G2 hG2 => frS hG2))
theorem fr_Tw_selectSort_b99 (x1 : Int) (s0 : Int) (G : St) : Fr (fS [117, 145, 147] [(100, 43)]) G (fun q => q.2) (Tw_selectSort_b99 x1 s0 G) := by
  unfold Tw_selectSort_b99
  exact frCI (frTk (fq_upK rfl fq_rf) (fun G3 hG3 => frCI (frCB (frCB (frTk (fq_upL rfl hG3) (fun G4 hG4 => frCI (frCB (frCB (frTk (fq_upL rfl hG4) (fun G5 hG5 => frCB (frCB (frTk (fq_upL rfl hG5) (fun G6 hG6 => frS hG6)))))))))))))
theorem fr_Tw_selectSort (x1 : Int) (G : St) : Fr (fS [117, 145, 147] [(100, 7), (100, 8), (100, 43)]) G (fun q => q.2) (Tw_selectSort x1 G) := by
  unfold Tw_selectSort
  exact frCI (frCB (frIf (frCI (frCB (frCI (frCB (frIf (frCI (frCB (frIf (frT (fr_Tw_selectSort_b99 _ _ _) (fS_mono rfl rfl) fq_rf) (frCI (frCB (frIf (frT (fr_Tw_selectSort_b99 _ _ _) (fS_mono rfl rfl) fq_rf) (frCI (frCB (frT (fr_Tw_selectSort_b99 _ _ _) (fS_mono rfl rfl) fq_rf))))))))) (frT (fr_Tw_selectSort_b40 _ _) (fS_mono rfl rfl) fq_rf)))))) (frT (fr_Tw_selectSort_b40 _ _) (fS_mono rfl rfl) fq_rf)))
theorem fr_Tw_unarySort_b43 (x1 : Int) (G : St) : Fr (fS [146] []) G (fun q => q.2) (Tw_unarySort_b43 x1 G) := by
  unfold Tw_unarySort_b43
  exact frCI (frCB (frCB (frTk (fq_upL rfl fq_rf) (fun G1 hG1 => frS hG1))))
theorem fr_Tw_unarySort_b16 (x1 : Int) (s0 : Int) (G : St) : Fr (fS [146] [(100, 7), (100, 8)]) G (fun q => q.2) (Tw_unarySort_b16 x1 s0 G) := by
  unfold Tw_unarySort_b16
  exact frCI (frCB (frIf (frT (fr_Tw_unarySort_b43 _ _) (fS_mono rfl rfl) fq_rf) (frCB (frBd (fr_Tw_fail _ _ _) (fS_mono rfl rfl) fq_rf (fun _ G3 hG3 => frT (fr_Tw_unarySort_b43 _ _) (fS_mono rfl rfl) hG3)))))
theorem fr_Tw_unarySort (x1 : Int) (G : St) : Fr (fS [146] [(100, 7), (100, 8)]) G (fun q => q.2) (Tw_unarySort x1 G) := by
  unfold Tw_unarySort
  exact frCB (frT (fr_Tw_unarySort_b16 _ _ _) (fS_mono rfl rfl) fq_rf)
theorem fr_Tw_visible_b75 (x1 : Int) (x3 : Int) (s0 : Int) (G : St) : Fr (fS [] []) G (Sum.elim (fun q => q.2.2) (fun q => q.2)) (Tw_visible_b75 x1 x3 s0 G) := by
  unfold Tw_visible_b75
  exact frCI (frS fq_rf)
theorem fr_Tw_visible_b63 (x1 : Int) (x2 : Int) (x3 : Int) (s0 : Int) (G : St) : Fr (fS [] []) G (Sum.elim (fun q => q.2.2) (fun q => q.2)) (Tw_visible_b63 x1 x2 x3 s0 G) := by
  unfold Tw_visible_b63
  exact frT (fr_Tw_visible_b75 _ _ _ _) (fS_mono rfl rfl) fq_rf
theorem fr_Tw_visible_s4 (x1 : Int) (x2 : Int) (x3 : Int) (G : St) : Fr (fS [] []) G (Sum.elim (fun q => q.2.2) (fun q => q.2)) (Tw_visible_s4 x1 x2 x3 G) := by
  unfold Tw_visible_s4
  exact frIf (frCB (frIf (frT (fr_Tw_visible_b63 _ _ _ _ _) (fS_mono rfl rfl) fq_rf) (frCB (frIf (frIf (frT (fr_Tw_visible_b63 _ _ _ _ _) (fS_mono rfl rfl) fq_rf) (frCB (frIf (frT (fr_Tw_visible_b63 _ _ _ _ _) (fS_mono rfl rfl) fq_rf) (frCB (frT (fr_Tw_visible_b63 _ _ _ _ _) (fS_mono rfl rfl) fq_rf))))) (frT (fr_Tw_visible_b63 _ _ _ _ _) (fS_mono rfl rfl) fq_rf))))) (frEx (frS fq_rf))
theorem fr_Tw_visible_l4 (x1 : Int) (x2 : Int) (x3 : Int) (G : St) : Fr (fS [] []) G (fun q => q.2) (Tw_visible_l4 x1 x2 x3 G) := frWh (pi := fun (s : (Int × Int × St)) => s.2.2) (fun (s : (Int × Int × St)) => fr_Tw_visible_s4 x1 s.1 s.2.1 s.2.2)
theorem fr_Tw_visible (x1 : Int) (G : St) : Fr (fS [] []) G (fun q => q.2) (Tw_visible x1 G) := by
  unfold Tw_visible
  exact frT (fr_Tw_visible_l4 _ _ _ _) (fS_mono rfl rfl) fq_rf
theorem fr_Tw_used_b27 (x2 : Int) (G : St) : Fr (fS [] []) G (fun q => q.2) (Tw_used_b27 x2 G) := by
  unfold Tw_used_b27
  exact frS fq_rf
theorem fr_Tw_used (x1 : Int) (G : St) : Fr (fS [] [(100, 7), (100, 8)]) G (fun q => q.2) (Tw_used x1 G) := by
  unfold Tw_used
  exact frCB (frBd (fr_Tw_visible _ _) (fS_mono rfl rfl) fq_rf (fun _ G2 hG2 => frIf (frCB (frBd (fr_Tw_fail _ _ _) (fS_mono rfl rfl) hG2 (fun _ G4 hG4 => frT (fr_Tw_used_b27 _ _) (fS_mono rfl rfl) hG4))) (frT (fr_Tw_used_b27 _ _) (fS_mono rfl rfl) hG2)))
theorem fr_Tw_operandSort_b88 (x2 : Int) (G : St) : Fr (fS [145, 146, 147] [(100, 43)]) G (fun q => q.2) (Tw_operandSort_b88 x2 G) := by
  unfold Tw_operandSort_b88
  exact frBd (fr_Tw_pile _ _ _ _) (fS_mono rfl rfl) fq_rf (fun _ G2 hG2 => frS hG2)
theorem fr_Tw_operandSort_b98 (x2 : Int) (G : St) : Fr (fS [145, 146, 147] [(100, 43)]) G (fun q => q.2) (Tw_operandSort_b98 x2 G) := by
  unfold Tw_operandSort_b98
  exact frBd (fr_Tw_pile _ _ _ _) (fS_mono rfl rfl) fq_rf (fun _ G4 hG4 => frS hG4)
theorem fr_Tw_operandSort_b182 (s0 : Int) (s1 : Int) (s2 : Int) (G : St) : Fr (fS [145, 146, 147] [(100, 43)]) G (fun q => q.2) (Tw_operandSort_b182 s0 s1 s2 G) := by
  unfold Tw_operandSort_b182
  exact frBd (fr_Tw_pile _ _ _ _) (fS_mono rfl rfl) fq_rf (fun _ G10 hG10 => frS hG10)
theorem fr_Tw_operandSort_b146 (x1 : Int) (x2 : Int) (x3 : Int) (G : St) : Fr (fS [145, 146, 147, 151, 152, 153, 154] [(100, 43)]) G (fun q => q.2) (Tw_operandSort_b146 x1 x2 x3 G) := by
  unfold Tw_operandSort_b146
  exact frIf (frBd (fr_Tw_refer _ _ _) (fS_mono rfl rfl) fq_rf (fun _ G8 hG8 => frCB (frCB (frT (fr_Tw_operandSort_b182 _ _ _ _) (fS_mono rfl rfl) hG8)))) (frS fq_rf)
theorem fr_Tw_operandSort_b140 (x1 : Int) (x2 : Int) (x3 : Int) (G : St) : Fr (fS [145, 146, 147, 151, 152, 153, 154] [(100, 7), (100, 8), (100, 43)]) G (fun q => q.2) (Tw_operandSort_b140 x1 x2 x3 G) := by
  unfold Tw_operandSort_b140
  exact frBd (fr_Tw_fail _ _ _) (fS_mono rfl rfl) fq_rf (fun _ G12 hG12 => frT (fr_Tw_operandSort_b146 _ _ _ _) (fS_mono rfl rfl) hG12)
theorem fr_Tw_operandSort_b108 (x1 : Int) (x2 : Int) (G : St) : Fr (fS [145, 146, 147, 151, 152, 153, 154] [(100, 7), (100, 8), (100, 43)]) G (fun q => q.2) (Tw_operandSort_b108 x1 x2 G) := by
  unfold Tw_operandSort_b108
  exact frBd (fr_Tw_used _ _) (fS_mono rfl rfl) fq_rf (fun _ G6 hG6 => frIf (frCB (frIf (frT (fr_Tw_operandSort_b140 _ _ _ _) (fS_mono rfl rfl) hG6) (frCB (frIf (frT (fr_Tw_operandSort_b140 _ _ _ _) (fS_mono rfl rfl) hG6) (frT (fr_Tw_operandSort_b146 _ _ _ _) (fS_mono rfl rfl) hG6))))) (frT (fr_Tw_operandSort_b146 _ _ _ _) (fS_mono rfl rfl) hG6))
theorem fr_Tw_operandSort_b188 (x1 : Int) (x2 : Int) (G : St) : Fr (fS [] [(100, 7), (100, 8)]) G (fun q => q.2) (Tw_operandSort_b188 x1 x2 G) := by
  unfold Tw_operandSort_b188
  exact frBd (fr_Tw_used _ _) (fS_mono rfl rfl) fq_rf (fun _ G14 hG14 => frIf (frCB (frIf (frBd (fr_Tw_fail _ _ _) (fS_mono rfl rfl) hG14 (fun _ G16 hG16 => frS hG16)) (frS hG14))) (frS hG14))
theorem fr_Tw_operandSort_b219 (x1 : Int) (x2 : Int) (G : St) : Fr (fS [145, 146, 147, 151, 152, 153, 154, 155, 156] [(100, 7), (100, 8), (100, 43)]) G (fun q => q.2) (Tw_operandSort_b219 x1 x2 G) := by
  unfold Tw_operandSort_b219
  exact frBd (fr_Tw_must _ _) (fS_mono rfl rfl) fq_rf (fun _ G18 hG18 => frCB (frBd (fr_Tw_visible _ _) (fS_mono rfl rfl) hG18 (fun _ G20 hG20 => frIf (frBd (fr_Tw_refer _ _ _) (fS_mono rfl rfl) hG20 (fun _ G22 hG22 => frCI (frCB (frCB (frTk (fq_upL rfl hG22) (fun G23 hG23 => frCI (frCB (frCB (frCB (frTk (fq_upL rfl hG23) (fun G24 hG24 => frCI (frTk (fq_upK rfl hG24) (fun G25 hG25 => frCB (frBd (fr_Tw_pile _ _ _ _) (fS_mono rfl rfl) hG25 (fun _ G27 hG27 => frS hG27))))))))))))))) (frS hG20))))
theorem fr_Tw_operandSort_b351 (x3 : Int) (G : St) : Fr (fS [158, 159] [(100, 56)]) G (fun q => q.2) (Tw_operandSort_b351 x3 G) := by
  unfold Tw_operandSort_b351
  exact frIf (frCB (frTk (fq_upL rfl fq_rf) (fun G30 hG30 => frCB (frTk (fq_upL rfl hG30) (fun G31 hG31 => frCI (frTk (fq_upK rfl hG31) (fun G32 hG32 => frS hG32))))))) (frS fq_rf)
theorem fr_Tw_operandSort_b345 (x2 : Int) (x3 : Int) (G : St) : Fr (fS [158, 159] [(100, 7), (100, 8), (100, 56)]) G (fun q => q.2) (Tw_operandSort_b345 x2 x3 G) := by
  unfold Tw_operandSort_b345
  exact frBd (fr_Tw_fail _ _ _) (fS_mono rfl rfl) fq_rf (fun _ G34 hG34 => frT (fr_Tw_operandSort_b351 _ _) (fS_mono rfl rfl) hG34)
theorem fr_Tw_operandSort_b307 (x1 : Int) (x2 : Int) (G : St) : Fr (fS [158, 159] [(100, 7), (100, 8), (100, 56)]) G (fun q => q.2) (Tw_operandSort_b307 x1 x2 G) := by
  unfold Tw_operandSort_b307
  exact frBd (fr_Tw_used _ _) (fS_mono rfl rfl) fq_rf (fun _ G29 hG29 => frIf (frCB (frIf (frCB (frCB (frIf (frT (fr_Tw_operandSort_b351 _ _) (fS_mono rfl rfl) hG29) (frT (fr_Tw_operandSort_b345 _ _ _) (fS_mono rfl rfl) hG29)))) (frT (fr_Tw_operandSort_b345 _ _ _) (fS_mono rfl rfl) hG29))) (frT (fr_Tw_operandSort_b351 _ _) (fS_mono rfl rfl) hG29))
theorem fr_Tw_operandSort_b467 (x1 : Int) (x2 : Int) (G : St) : Fr (fS [145, 146, 147, 151, 152, 153, 154] [(100, 43), (100, 56)]) G (fun q => q.2) (Tw_operandSort_b467 x1 x2 G) := by
  unfold Tw_operandSort_b467
  exact frCI (frTk (fq_upK rfl fq_rf) (fun G35 hG35 => frCB (frBd (fr_Tw_refer _ _ _) (fS_mono rfl rfl) hG35 (fun _ G37 hG37 => frCB (frTk (fq_upK rfl hG37) (fun G38 hG38 => frCB (frBd (fr_Tw_pile _ _ _ _) (fS_mono rfl rfl) hG38 (fun _ G40 hG40 => frS hG40))))))))
theorem fr_Tw_operandSort_b521 (x2 : Int) (G : St) : Fr (fS [145, 146] [(100, 7), (100, 8)]) G (fun q => q.2) (Tw_operandSort_b521 x2 G) := by
  unfold Tw_operandSort_b521
  exact frBd (fr_Tw_must _ _) (fS_mono rfl rfl) fq_rf (fun _ G42 hG42 => frCI (frCB (frTk (fq_upL rfl hG42) (fun G43 hG43 => frCI (frCB (frTk (fq_upL rfl hG43) (fun G44 hG44 => frS hG44)))))))
theorem fr_Tw_operandSort_b553 (x1 : Int) (G : St) : Fr (fS [145, 146, 155] [(100, 7), (100, 8), (100, 43)]) G (fun q => q.2) (Tw_operandSort_b553 x1 G) := by
  unfold Tw_operandSort_b553
  exact frBd (fr_Tw_bitSort _ _) (fS_mono rfl rfl) fq_rf (fun _ G46 hG46 => frS hG46)
theorem fr_Tw_operandSort_b561 (x1 : Int) (G : St) : Fr (fS [146] [(100, 7), (100, 8)]) G (fun q => q.2) (Tw_operandSort_b561 x1 G) := by
  unfold Tw_operandSort_b561
  exact frBd (fr_Tw_unarySort _ _) (fS_mono rfl rfl) fq_rf (fun _ G48 hG48 => frS hG48)
theorem fr_Tw_operandSort_b569 (x1 : Int) (G : St) : Fr (fS [117, 145, 147, 155] [(100, 7), (100, 8), (100, 43)]) G (fun q => q.2) (Tw_operandSort_b569 x1 G) := by
  unfold Tw_operandSort_b569
  exact frBd (fr_Tw_binarySort _ _) (fS_mono rfl rfl) fq_rf (fun _ G50 hG50 => frS hG50)
theorem fr_Tw_operandSort_b577 (x1 : Int) (G : St) : Fr (fS [117, 145, 147] [(100, 7), (100, 8), (100, 43)]) G (fun q => q.2) (Tw_operandSort_b577 x1 G) := by
  unfold Tw_operandSort_b577
  exact frBd (fr_Tw_selectSort _ _) (fS_mono rfl rfl) fq_rf (fun _ G52 hG52 => frS hG52)
theorem fr_Tw_operandSort_b585 (x2 : Int) (G : St) : Fr (fS [146] []) G (fun q => q.2) (Tw_operandSort_b585 x2 G) := by
  unfold Tw_operandSort_b585
  exact frCI (frCB (frTk (fq_upL rfl fq_rf) (fun G53 hG53 => frS hG53)))
theorem fr_Tw_operandSort_b461 (s0 : Int) (G : St) : Fr (fS [] [(100, 7), (100, 8)]) G (fun q => q.2) (Tw_operandSort_b461 s0 G) := by
  unfold Tw_operandSort_b461
  exact frBd (fr_Tw_must _ _) (fS_mono rfl rfl) fq_rf (fun _ G55 hG55 => frS hG55)
theorem fr_Tw_operandSort_b411 (x1 : Int) (s0 : Int) (G : St) : Fr (fS [] [(100, 7), (100, 8)]) G (fun q => q.2) (Tw_operandSort_b411 x1 s0 G) := by
  unfold Tw_operandSort_b411
  exact frCI (frCB (frCI (frCB (frIf (frT (fr_Tw_operandSort_b461 _ _) (fS_mono rfl rfl) fq_rf) (frCB (frCB (frCI (frCB (frT (fr_Tw_operandSort_b461 _ _) (fS_mono rfl rfl) fq_rf)))))))))
theorem fr_Tw_operandSort_b394 (x1 : Int) (G : St) : Fr (fS [] [(100, 7), (100, 8)]) G (fun q => q.2) (Tw_operandSort_b394 x1 G) := by
  unfold Tw_operandSort_b394
  exact frIf (frCI (frT (fr_Tw_operandSort_b411 _ _ _) (fS_mono rfl rfl) fq_rf)) (frT (fr_Tw_operandSort_b411 _ _ _) (fS_mono rfl rfl) fq_rf)
theorem fr_Tw_operandSort (x1 : Int) (G : St) : Fr (fS [117, 145, 146, 147, 151, 152, 153, 154, 155, 156, 158, 159] [(100, 7), (100, 8), (100, 43), (100, 56)]) G (fun q => q.2) (Tw_operandSort x1 G) := by
  unfold Tw_operandSort
  exact frCB (frCB (frSwt (List.forall_mem_cons.mpr ⟨frT (fr_Tw_operandSort_b88 _ _) (fS_mono rfl rfl) fq_rf, (List.forall_mem_cons.mpr ⟨frT (fr_Tw_operandSort_b98 _ _) (fS_mono rfl rfl) fq_rf, (List.forall_mem_cons.mpr ⟨frT (fr_Tw_operandSort_b98 _ _) (fS_mono rfl rfl) fq_rf, (List.forall_mem_cons.mpr ⟨frT (fr_Tw_operandSort_b108 _ _ _) (fS_mono rfl rfl) fq_rf, (List.forall_mem_cons.mpr ⟨frT (fr_Tw_operandSort_b188 _ _ _) (fS_mono rfl rfl) fq_rf, (List.forall_mem_cons.mpr ⟨frT (fr_Tw_operandSort_b219 _ _ _) (fS_mono rfl rfl) fq_rf, (List.forall_mem_cons.mpr ⟨frT (fr_Tw_operandSort_b307 _ _ _) (fS_mono rfl rfl) fq_rf, (List.forall_mem_cons.mpr ⟨frT (fr_Tw_operandSort_b467 _ _ _) (fS_mono rfl rfl) fq_rf, (List.forall_mem_cons.mpr ⟨frT (fr_Tw_operandSort_b521 _ _) (fS_mono rfl rfl) fq_rf, (List.forall_mem_cons.mpr ⟨frT (fr_Tw_operandSort_b553 _ _) (fS_mono rfl rfl) fq_rf, (List.forall_mem_cons.mpr ⟨frT (fr_Tw_operandSort_b561 _ _) (fS_mono rfl rfl) fq_rf, (List.forall_mem_cons.mpr ⟨frT (fr_Tw_operandSort_b569 _ _) (fS_mono rfl rfl) fq_rf, (List.forall_mem_cons.mpr ⟨frT (fr_Tw_operandSort_b577 _ _) (fS_mono rfl rfl) fq_rf, (List.forall_mem_cons.mpr ⟨frT (fr_Tw_operandSort_b585 _ _) (fS_mono rfl rfl) fq_rf, (List.forall_mem_cons.mpr ⟨frT (fr_Tw_operandSort_b394 _ _) (fS_mono rfl rfl) fq_rf, (fun _ h => nomatch h)⟩)⟩)⟩)⟩)⟩)⟩)⟩)⟩)⟩)⟩)⟩)⟩)⟩)⟩)⟩) (frS fq_rf)))
theorem fr_Tw_assigned_b59 (x1 : Int) (G : St) : Fr (fS [] [(100, 7), (100, 8)]) G (fun q => q.2) (Tw_assigned_b59 x1 G) := by
  unfold Tw_assigned_b59
  exact frCB (frBd (fr_Tw_fail _ _ _) (fS_mono rfl rfl) fq_rf (fun _ G4 hG4 => frS hG4))
theorem fr_Tw_assigned_b56 (x1 : Int) (s0 : Int) (s1 : Int) (G : St) : Fr (fS [] [(100, 7), (100, 8)]) G (fun q => q.2) (Tw_assigned_b56 x1 s0 s1 G) := by
  unfold Tw_assigned_b56
  exact frIf (frS fq_rf) (frT (fr_Tw_assigned_b59 _ _) (fS_mono rfl rfl) fq_rf)
theorem fr_Tw_assigned_b28 (x1 : Int) (x2 : Int) (s0 : Int) (G : St) : Fr (fS [] [(100, 7), (100, 8)]) G (fun q => q.2) (Tw_assigned_b28 x1 x2 s0 G) := by
  unfold Tw_assigned_b28
  exact frCB (frIf (frCB (frT (fr_Tw_assigned_b56 _ _ _ _) (fS_mono rfl rfl) fq_rf)) (frT (fr_Tw_assigned_b59 _ _) (fS_mono rfl rfl) fq_rf))
theorem fr_Tw_assigned (x1 : Int) (G : St) : Fr (fS [] [(100, 7), (100, 8)]) G (fun q => q.2) (Tw_assigned x1 G) := by
  unfold Tw_assigned
  exact frBd (fr_Tw_used _ _) (fS_mono rfl rfl) fq_rf (fun _ G2 hG2 => frIf (frS hG2) (frCB (frT (fr_Tw_assigned_b28 _ _ _ _) (fS_mono rfl rfl) hG2)))
theorem fr_Tw_comes (x1 : Int) (G : St) : Fr (fS [] [(100, 7), (100, 8)]) G (fun q => q.2) (Tw_comes x1 G) := by
  unfold Tw_comes
  exact frCB (frBd (fr_Tw_visible _ _) (fS_mono rfl rfl) fq_rf (fun _ G2 hG2 => frIf (frS hG2) (frCB (frBd (fr_Tw_fail _ _ _) (fS_mono rfl rfl) hG2 (fun _ G4 hG4 => frS hG4)))))
theorem fr_Tw_elementSort (x1 : Int) (G : St) : Fr (fS [151, 152, 153, 154, 156] [(100, 7), (100, 8), (100, 43)]) G (fun q => q.2) (Tw_elementSort x1 G) := by
  unfold Tw_elementSort
  exact frCB (frBd (fr_Tw_visible _ _) (fS_mono rfl rfl) fq_rf (fun _ G2 hG2 => frCB (frBd (fr_Tw_must _ _) (fS_mono rfl rfl) hG2 (fun _ G4 hG4 => frCI (frTk (fq_upK rfl hG4) (fun G5 hG5 => frBd (fr_Tw_refer _ _ _) (fS_mono rfl rfl) hG5 (fun _ G7 hG7 => frCB (frCB (frCB (frTk (fq_upL rfl hG7) (fun G8 hG8 => frS hG8)))))))))))
theorem fr_Tw_symbol (x1 : Int) (x2 : Int) (x3 : Int) (x4 : Int) (x5 : Int) (G : St) : Fr (fS [136, 137, 138, 139, 140, 141] [(100, 34)]) G (fun q => q.2) (Tw_symbol x1 x2 x3 x4 x5 G) := by
  unfold Tw_symbol
  exact frCB (frTk (fq_upL rfl fq_rf) (fun G1 hG1 => frCB (frTk (fq_upL rfl hG1) (fun G2 hG2 => frCB (frTk (fq_upL rfl hG2) (fun G3 hG3 => frCB (frTk (fq_upL rfl hG3) (fun G4 hG4 => frCB (frTk (fq_upL rfl hG4) (fun G5 hG5 => frCB (frCB (frTk (fq_upL rfl hG5) (fun G6 hG6 => frCI (frTk (fq_upK rfl hG6) (fun G7 hG7 => frCI (frS hG7))))))))))))))))
theorem fr_Tw_paramSort_b121 (x1 : Int) (G : St) : Fr (fS [] [(100, 7), (100, 8)]) G (fun q => q.2) (Tw_paramSort_b121 x1 G) := by
  unfold Tw_paramSort_b121
  exact frCB (frBd (fr_Tw_fail _ _ _) (fS_mono rfl rfl) fq_rf (fun _ G2 hG2 => frS hG2))
theorem fr_Tw_paramSort_b106 (x1 : Int) (x2 : Int) (x4 : Int) (s0 : Int) (G : St) : Fr (fS [] []) G (Sum.elim (fun q => q.2.2) (fun q => q.2)) (Tw_paramSort_b106 x1 x2 x4 s0 G) := by
  unfold Tw_paramSort_b106
  exact frCI (frS fq_rf)
theorem fr_Tw_paramSort_s51 (x1 : Int) (x2 : Int) (x3 : Int) (x4 : Int) (G : St) : Fr (fS [136, 137, 138, 139, 140, 141, 165] [(100, 7), (100, 8), (100, 34), (100, 60)]) G (Sum.elim (fun q => q.2.2) (fun q => q.2)) (Tw_paramSort_s51 x1 x2 x3 x4 G) := by
  unfold Tw_paramSort_s51
  exact frIf (frIf (frCB (frIf (frT (fr_Tw_paramSort_b106 _ _ _ _ _) (fS_mono rfl rfl) fq_rf) (frCB (frIf (frCB (frCB (frT (fr_Tw_paramSort_b106 _ _ _ _ _) (fS_mono rfl rfl) fq_rf))) (frT (fr_Tw_paramSort_b106 _ _ _ _ _) (fS_mono rfl rfl) fq_rf))))) (frT (fr_Tw_paramSort_b106 _ _ _ _ _) (fS_mono rfl rfl) fq_rf)) (frEx (frIf (frIf (frCB (frCB (frTk (fq_upL rfl fq_rf) (fun G3 hG3 => frCI (frTk (fq_upK rfl hG3) (fun G4 hG4 => frCB (frCB (frCI (frCI (frBd (fr_Tw_symbol _ _ _ _ _ _) (fS_mono rfl rfl) hG4 (fun _ G6 hG6 => frCB (frCB (frTk (fq_upL rfl hG6) (fun G7 hG7 => frS hG7)))))))))))))) (frT (fr_Tw_paramSort_b121 _ _) (fS_mono rfl rfl) fq_rf)) (frT (fr_Tw_paramSort_b121 _ _) (fS_mono rfl rfl) fq_rf)))
theorem fr_Tw_paramSort_l51 (x1 : Int) (x2 : Int) (x3 : Int) (x4 : Int) (G : St) : Fr (fS [136, 137, 138, 139, 140, 141, 165] [(100, 7), (100, 8), (100, 34), (100, 60)]) G (fun q => q.2) (Tw_paramSort_l51 x1 x2 x3 x4 G) := frWh (pi := fun (s : (Int × Int × St)) => s.2.2) (fun (s : (Int × Int × St)) => fr_Tw_paramSort_s51 x1 x2 s.1 s.2.1 s.2.2)
theorem fr_Tw_paramSort_b39 (x1 : Int) (x3 : Int) (s0 : Int) (G : St) : Fr (fS [] []) G (Sum.elim (fun q => q.2.2) (fun q => q.2)) (Tw_paramSort_b39 x1 x3 s0 G) := by
  unfold Tw_paramSort_b39
  exact frCI (frS fq_rf)
theorem fr_Tw_paramSort_s7 (x1 : Int) (x2 : Int) (x3 : Int) (G : St) : Fr (fS [136, 137, 138, 139, 140, 141, 165] [(100, 7), (100, 8), (100, 34), (100, 60)]) G (Sum.elim (fun q => q.2.2) (fun q => q.2)) (Tw_paramSort_s7 x1 x2 x3 G) := by
  unfold Tw_paramSort_s7
  exact frIf (frIf (frCB (frCB (frT (fr_Tw_paramSort_b39 _ _ _ _) (fS_mono rfl rfl) fq_rf))) (frT (fr_Tw_paramSort_b39 _ _ _ _) (fS_mono rfl rfl) fq_rf)) (frEx (frT (fr_Tw_paramSort_l51 _ _ _ _ _) (fS_mono rfl rfl) fq_rf))
theorem fr_Tw_paramSort_l7 (x1 : Int) (x2 : Int) (x3 : Int) (G : St) : Fr (fS [136, 137, 138, 139, 140, 141, 165] [(100, 7), (100, 8), (100, 34), (100, 60)]) G (fun q => q.2) (Tw_paramSort_l7 x1 x2 x3 G) := frWh (pi := fun (s : (Int × Int × St)) => s.2.2) (fun (s : (Int × Int × St)) => fr_Tw_paramSort_s7 x1 s.1 s.2.1 s.2.2)
theorem fr_Tw_paramSort (x1 : Int) (G : St) : Fr (fS [136, 137, 138, 139, 140, 141, 165] [(100, 7), (100, 8), (100, 34), (100, 60)]) G (fun q => q.2) (Tw_paramSort x1 G) := by
  unfold Tw_paramSort
  exact frT (fr_Tw_paramSort_l7 _ _ _ _) (fS_mono rfl rfl) fq_rf
theorem fr_Tw_statementSort_b104 (x1 : Int) (G : St) : Fr (fS [] [(100, 7), (100, 8), (100, 61), (100, 62), (100, 63)]) G (fun q => q.2) (Tw_statementSort_b104 x1 G) := by
  unfold Tw_statementSort_b104
  exact frBd (fr_Tw_comes _ _) (fS_mono rfl rfl) fq_rf (fun _ G2 hG2 => frCB (frIf (frTk (fq_upK rfl hG2) (fun G3 hG3 => frTk (fq_upK rfl hG3) (fun G4 hG4 => frTk (fq_upK rfl hG4) (fun G5 hG5 => frS hG5)))) (frS hG2)))
theorem fr_Tw_statementSort_b211 (s0 : Int) (s1 : Int) (G : St) : Fr (fS [] [(100, 59)]) G (fun q => q.2) (Tw_statementSort_b211 s0 s1 G) := by
  unfold Tw_statementSort_b211
  exact frCI (frTk (fq_upK rfl fq_rf) (fun G9 hG9 => frS hG9))
theorem fr_Tw_statementSort_b152 (x1 : Int) (G : St) : Fr (fS [134, 136, 137, 138, 139, 140, 141] [(100, 34), (100, 59)]) G (fun q => q.2) (Tw_statementSort_b152 x1 G) := by
  unfold Tw_statementSort_b152
  exact frCB (frCB (frCB (frBd (fr_Tw_symbol _ _ _ _ _ _) (fS_mono rfl rfl) fq_rf (fun _ G7 hG7 => frCB (frTk (fq_upL rfl hG7) (fun G8 hG8 => frT (fr_Tw_statementSort_b211 _ _ _) (fS_mono rfl rfl) hG8))))))
theorem fr_Tw_statementSort_b251 (x1 : Int) (G : St) : Fr (fS [136, 137, 138, 139, 140, 141] [(100, 34)]) G (fun q => q.2) (Tw_statementSort_b251 x1 G) := by
  unfold Tw_statementSort_b251
  exact frIf (frCB (frCB (frCB (frCB (frBd (fr_Tw_symbol _ _ _ _ _ _) (fS_mono rfl rfl) fq_rf (fun _ G11 hG11 => frS hG11)))))) (frS fq_rf)
theorem fr_Tw_statementSort_b218 (x1 : Int) (G : St) : Fr (fS [136, 137, 138, 139, 140, 141] [(100, 7), (100, 8), (100, 34), (100, 43)]) G (fun q => q.2) (Tw_statementSort_b218 x1 G) := by
  unfold Tw_statementSort_b218
  exact frCB (frIf (frT (fr_Tw_statementSort_b251 _ _) (fS_mono rfl rfl) fq_rf) (frCB (frBd (fr_Tw_must _ _) (fS_mono rfl rfl) fq_rf (fun _ G13 hG13 => frCI (frTk (fq_upK rfl hG13) (fun G14 hG14 => frT (fr_Tw_statementSort_b251 _ _) (fS_mono rfl rfl) hG14))))))
theorem fr_Tw_statementSort_b144 (x1 : Int) (G : St) : Fr (fS [136, 137, 138, 139, 140, 141, 165] [(100, 7), (100, 8), (100, 34), (100, 60)]) G (fun q => q.2) (Tw_statementSort_b144 x1 G) := by
  unfold Tw_statementSort_b144
  exact frBd (fr_Tw_paramSort _ _) (fS_mono rfl rfl) fq_rf (fun _ G16 hG16 => frS hG16)
theorem fr_Tw_statementSort_s309 (x2 : Int) (G : St) : Fr (fS [141] []) G (Sum.elim (fun q => q.2) (fun q => q.2)) (Tw_statementSort_s309 x2 G) := by
  unfold Tw_statementSort_s309
  exact frIf (frCB (frCB (frTk (fq_upL rfl fq_rf) (fun G18 hG18 => frCI (frS hG18))))) (frEx (frS fq_rf))
theorem fr_Tw_statementSort_l309 (x2 : Int) (G : St) : Fr (fS [141] []) G (fun q => q.2) (Tw_statementSort_l309 x2 G) := frWh (pi := fun (s : (Int × St)) => s.2) (fun (s : (Int × St)) => fr_Tw_statementSort_s309 s.1 s.2)
theorem fr_Tw_statementSort_b299 (G : St) : Fr (fS [141] [(100, 47)]) G (fun q => q.2) (Tw_statementSort_b299 G) := by
  unfold Tw_statementSort_b299
  exact frCB (frTk (fq_upK rfl fq_rf) (fun G17 hG17 => frT (fr_Tw_statementSort_l309 _ _) (fS_mono rfl rfl) hG17))
theorem fr_Tw_statementSort_b333 (x1 : Int) (G : St) : Fr (fS [136, 137, 138, 139, 140, 141, 142, 143] [(100, 7), (100, 8), (100, 34), (100, 43), (100, 47)]) G (fun q => q.2) (Tw_statementSort_b333 x1 G) := by
  unfold Tw_statementSort_b333
  exact frCB (frBd (fr_Tw_must _ _) (fS_mono rfl rfl) fq_rf (fun _ G20 hG20 => frCI (frTk (fq_upK rfl hG20) (fun G21 hG21 => frCB (frTk (fq_upK rfl hG21) (fun G22 hG22 => frTk (fq_upK rfl hG22) (fun G23 hG23 => frIf (frCB (frCB (frBd (fr_Tw_symbol _ _ _ _ _ _) (fS_mono rfl rfl) hG23 (fun _ G25 hG25 => frCB (frTk (fq_upL rfl hG25) (fun G26 hG26 => frCI (frCB (frTk (fq_upL rfl hG26) (fun G27 hG27 => frS hG27))))))))) (frS hG23))))))))
theorem fr_Tw_statementSort_b424 (x1 : Int) (G : St) : Fr (fS [117] [(100, 43)]) G (fun q => q.2) (Tw_statementSort_b424 x1 G) := by
  unfold Tw_statementSort_b424
  exact frCI (frCB (frCB (frTk (fq_upL rfl fq_rf) (fun G28 hG28 => frCI (frTk (fq_upK rfl hG28) (fun G29 hG29 => frS hG29))))))
theorem fr_Tw_statementSort_b454 (x1 : Int) (G : St) : Fr (fS [] [(100, 7), (100, 8)]) G (fun q => q.2) (Tw_statementSort_b454 x1 G) := by
  unfold Tw_statementSort_b454
  exact frBd (fr_Tw_assigned _ _) (fS_mono rfl rfl) fq_rf (fun _ G31 hG31 => frS hG31)
theorem fr_Tw_statementSort_b462 (x1 : Int) (G : St) : Fr (fS [151, 152, 153, 154] [(100, 7), (100, 8), (100, 43)]) G (fun q => q.2) (Tw_statementSort_b462 x1 G) := by
  unfold Tw_statementSort_b462
  exact frCB (frBd (fr_Tw_visible _ _) (fS_mono rfl rfl) fq_rf (fun _ G33 hG33 => frBd (fr_Tw_refer _ _ _) (fS_mono rfl rfl) hG33 (fun _ G35 hG35 => frCB (frBd (fr_Tw_must _ _) (fS_mono rfl rfl) hG35 (fun _ G37 hG37 => frCI (frTk (fq_upK rfl hG37) (fun G38 hG38 => frS hG38)))))))
theorem fr_Tw_statementSort_b500 (x1 : Int) (G : St) : Fr (fS [151, 152, 153, 154, 156] [(100, 7), (100, 8), (100, 43)]) G (fun q => q.2) (Tw_statementSort_b500 x1 G) := by
  unfold Tw_statementSort_b500
  exact frBd (fr_Tw_elementSort _ _) (fS_mono rfl rfl) fq_rf (fun _ G40 hG40 => frS hG40)
theorem fr_Tw_statementSort_b565 (G : St) : Fr (fS [149] [(100, 7), (100, 8), (100, 43), (100, 49)]) G (fun q => q.2) (Tw_statementSort_b565 G) := by
  unfold Tw_statementSort_b565
  exact frBd (fr_Tw_must _ _) (fS_mono rfl rfl) fq_rf (fun _ G42 hG42 => frCI (frTk (fq_upK rfl hG42) (fun G43 hG43 => frCB (frTk (fq_upL rfl hG43) (fun G44 hG44 => frCI (frTk (fq_upK rfl hG44) (fun G45 hG45 => frS hG45)))))))
theorem fr_Tw_statementSort_b606 (G : St) : Fr (fS [] [(100, 34)]) G (fun q => q.2) (Tw_statementSort_b606 G) := by
  unfold Tw_statementSort_b606
  exact frCI (frCB (frTk (fq_upK rfl fq_rf) (fun G46 hG46 => frS hG46)))
theorem fr_Tw_statementSort_b695 (G : St) : Fr (fS [] [(100, 34), (100, 49)]) G (fun q => q.2) (Tw_statementSort_b695 G) := by
  unfold Tw_statementSort_b695
  exact frCI (frTk (fq_upK rfl fq_rf) (fun G47 hG47 => frCB (frTk (fq_upK rfl hG47) (fun G48 hG48 => frS hG48))))
theorem fr_Tw_statementSort_b624 (x1 : Int) (G : St) : Fr (fS [] [(100, 7), (100, 8)]) G (fun q => q.2) (Tw_statementSort_b624 x1 G) := by
  unfold Tw_statementSort_b624
  exact frBd (fr_Tw_comes _ _) (fS_mono rfl rfl) fq_rf (fun _ G50 hG50 => frS hG50)
theorem fr_Tw_statementSort_b644 (x1 : Int) (G : St) : Fr (fS [136, 137, 138, 139, 140, 141, 149] [(100, 34), (100, 43), (100, 49)]) G (fun q => q.2) (Tw_statementSort_b644 x1 G) := by
  unfold Tw_statementSort_b644
  exact frCI (frTk (fq_upK rfl fq_rf) (fun G51 hG51 => frCB (frTk (fq_upL rfl hG51) (fun G52 hG52 => frCI (frTk (fq_upK rfl hG52) (fun G53 hG53 => frCB (frBd (fr_Tw_symbol _ _ _ _ _ _) (fS_mono rfl rfl) hG53 (fun _ G55 hG55 => frS hG55))))))))
theorem fr_Tw_statementSort_b632 (G : St) : Fr (fS [] [(100, 7), (100, 8)]) G (fun q => q.2) (Tw_statementSort_b632 G) := by
  unfold Tw_statementSort_b632
  exact frBd (fr_Tw_must _ _) (fS_mono rfl rfl) fq_rf (fun _ G57 hG57 => frBd (fr_Tw_mustPublic _) (fS_mono rfl rfl) hG57 (fun _ G59 hG59 => frS hG59))
theorem fr_Tw_statementSort_b508 (x1 : Int) (G : St) : Fr (fS [151, 152, 153, 154, 155, 156] [(100, 7), (100, 8)]) G (fun q => q.2) (Tw_statementSort_b508 x1 G) := by
  unfold Tw_statementSort_b508
  exact frBd (fr_Tw_must _ _) (fS_mono rfl rfl) fq_rf (fun _ G61 hG61 => frCB (frBd (fr_Tw_visible _ _) (fS_mono rfl rfl) hG61 (fun _ G63 hG63 => frBd (fr_Tw_refer _ _ _) (fS_mono rfl rfl) hG63 (fun _ G65 hG65 => frCI (frCB (frCB (frTk (fq_upL rfl hG65) (fun G66 hG66 => frCI (frCB (frCB (frCB (frTk (fq_upL rfl hG66) (fun G67 hG67 => frS hG67)))))))))))))
theorem fr_Tw_statementSort (x1 : Int) (G : St) : Fr (fS [117, 134, 136, 137, 138, 139, 140, 141, 142, 143, 149, 151, 152, 153, 154, 155, 156, 165] [(100, 7), (100, 8), (100, 34), (100, 43), (100, 47), (100, 49), (100, 59), (100, 60), (100, 61), (100, 62), (100, 63)]) G (fun q => q.2) (Tw_statementSort x1 G) := by
  unfold Tw_statementSort
  exact frCB (frSwt (List.forall_mem_cons.mpr ⟨frT (fr_Tw_statementSort_b104 _ _) (fS_mono rfl rfl) fq_rf, (List.forall_mem_cons.mpr ⟨frT (fr_Tw_statementSort_b152 _ _) (fS_mono rfl rfl) fq_rf, (List.forall_mem_cons.mpr ⟨frT (fr_Tw_statementSort_b104 _ _) (fS_mono rfl rfl) fq_rf, (List.forall_mem_cons.mpr ⟨frT (fr_Tw_statementSort_b218 _ _) (fS_mono rfl rfl) fq_rf, (List.forall_mem_cons.mpr ⟨frT (fr_Tw_statementSort_b104 _ _) (fS_mono rfl rfl) fq_rf, (List.forall_mem_cons.mpr ⟨frT (fr_Tw_statementSort_b144 _ _) (fS_mono rfl rfl) fq_rf, (List.forall_mem_cons.mpr ⟨frT (fr_Tw_statementSort_b299 _) (fS_mono rfl rfl) fq_rf, (List.forall_mem_cons.mpr ⟨frT (fr_Tw_statementSort_b333 _ _) (fS_mono rfl rfl) fq_rf, (List.forall_mem_cons.mpr ⟨frT (fr_Tw_statementSort_b424 _ _) (fS_mono rfl rfl) fq_rf, (List.forall_mem_cons.mpr ⟨frT (fr_Tw_statementSort_b454 _ _) (fS_mono rfl rfl) fq_rf, (List.forall_mem_cons.mpr ⟨frT (fr_Tw_statementSort_b462 _ _) (fS_mono rfl rfl) fq_rf, (List.forall_mem_cons.mpr ⟨frT (fr_Tw_statementSort_b454 _ _) (fS_mono rfl rfl) fq_rf, (List.forall_mem_cons.mpr ⟨frT (fr_Tw_statementSort_b500 _ _) (fS_mono rfl rfl) fq_rf, (List.forall_mem_cons.mpr ⟨frT (fr_Tw_statementSort_b565 _) (fS_mono rfl rfl) fq_rf, (List.forall_mem_cons.mpr ⟨frT (fr_Tw_statementSort_b606 _) (fS_mono rfl rfl) fq_rf, (List.forall_mem_cons.mpr ⟨frT (fr_Tw_statementSort_b695 _) (fS_mono rfl rfl) fq_rf, (List.forall_mem_cons.mpr ⟨frT (fr_Tw_statementSort_b624 _ _) (fS_mono rfl rfl) fq_rf, (List.forall_mem_cons.mpr ⟨frT (fr_Tw_statementSort_b644 _ _) (fS_mono rfl rfl) fq_rf, (List.forall_mem_cons.mpr ⟨frT (fr_Tw_statementSort_b695 _) (fS_mono rfl rfl) fq_rf, (List.forall_mem_cons.mpr ⟨frT (fr_Tw_statementSort_b632 _) (fS_mono rfl rfl) fq_rf, (List.forall_mem_cons.mpr ⟨frT (fr_Tw_statementSort_b508 _ _) (fS_mono rfl rfl) fq_rf, (fun _ h => nomatch h)⟩)⟩)⟩)⟩)⟩)⟩)⟩)⟩)⟩)⟩)⟩)⟩)⟩)⟩)⟩)⟩)⟩)⟩)⟩)⟩)⟩) (frS fq_rf))
theorem fr_Tw_sorts_b76 (x1 : Int) (G : St) : Fr (fS [] []) G (Sum.elim (fun q => q.2) (fun q => q.2)) (Tw_sorts_b76 x1 G) := by
  unfold Tw_sorts_b76
  exact frCI (frS fq_rf)
theorem fr_Tw_sorts_s37 (x1 : Int) (G : St) : Fr (fS [117, 134, 136, 137, 138, 139, 140, 141, 142, 143, 145, 146, 147, 149, 151, 152, 153, 154, 155, 156, 158, 159, 165] [(100, 7), (100, 8), (100, 34), (100, 43), (100, 47), (100, 49), (100, 56), (100, 59), (100, 60), (100, 61), (100, 62), (100, 63)]) G (Sum.elim (fun q => q.2) (fun q => q.2)) (Tw_sorts_s37 x1 G) := by
  unfold Tw_sorts_s37
  exact frIf (frIf (frCB (frIf (frBd (fr_Tw_operandSort _ _) (fS_mono rfl rfl) fq_rf (fun _ G11 hG11 => frT (fr_Tw_sorts_b76 _ _) (fS_mono rfl rfl) hG11)) (frBd (fr_Tw_statementSort _ _) (fS_mono rfl rfl) fq_rf (fun _ G9 hG9 => frT (fr_Tw_sorts_b76 _ _) (fS_mono rfl rfl) hG9)))) (frEx (frS fq_rf))) (frEx (frS fq_rf))
theorem fr_Tw_sorts_l37 (x1 : Int) (G : St) : Fr (fS [117, 134, 136, 137, 138, 139, 140, 141, 142, 143, 145, 146, 147, 149, 151, 152, 153, 154, 155, 156, 158, 159, 165] [(100, 7), (100, 8), (100, 34), (100, 43), (100, 47), (100, 49), (100, 56), (100, 59), (100, 60), (100, 61), (100, 62), (100, 63)]) G (fun q => q.2) (Tw_sorts_l37 x1 G) := frWh (pi := fun (s : (Int × St)) => s.2) (fun (s : (Int × St)) => fr_Tw_sorts_s37 s.1 s.2)
theorem fr_Tw_sorts (G : St) : Fr (fS [117, 134, 136, 137, 138, 139, 140, 141, 142, 143, 145, 146, 147, 149, 151, 152, 153, 154, 155, 156, 158, 159, 165] [(100, 7), (100, 8), (100, 34), (100, 43), (100, 47), (100, 49), (100, 56), (100, 59), (100, 60), (100, 61), (100, 62), (100, 63)]) G (fun q => q.2) (Tw_sorts G) := by
  unfold Tw_sorts
  exact frTk (fq_upK rfl fq_rf) (fun G1 hG1 => frTk (fq_upK rfl hG1) (fun G2 hG2 => frTk (fq_upK rfl hG2) (fun G3 hG3 => frTk (fq_upK rfl hG3) (fun G4 hG4 => frTk (fq_upK rfl hG4) (fun G5 hG5 => frCB (frTk (fq_upK rfl hG5) (fun G6 hG6 => frTk (fq_upK rfl hG6) (fun G7 hG7 => frT (fr_Tw_sorts_l37 _ _) (fS_mono rfl rfl) hG7))))))))
theorem fr_Tw_compile_b167 (P W : Int) (G : St) : Fr (fS [] []) G (fun q => q.2) (Tw_compile_b167 P W G) := by
  unfold Tw_compile_b167
  exact frS fq_rf
theorem fr_Tw_compile_s133 (P W : Int) (x1 : Int) (G : St) : Fr (fS [245] []) G (Sum.elim (fun q => q.2) (fun q => q.2)) (Tw_compile_s133 P W x1 G) := by
  unfold Tw_compile_s133
  exact frIf (frCB (frCB (frCB (frCI (frCB (frTk (fq_upL rfl fq_rf) (fun G12 hG12 => frCI (frS hG12)))))))) (frEx (frT (fr_Tw_compile_b167 _ _ _) (fS_mono rfl rfl) fq_rf))
theorem fr_Tw_compile_l133 (P W : Int) (x1 : Int) (G : St) : Fr (fS [245] []) G (fun q => q.2) (Tw_compile_l133 P W x1 G) := frWh (pi := fun (s : (Int × St)) => s.2) (fun (s : (Int × St)) => fr_Tw_compile_s133 P W s.1 s.2)
theorem fr_Tw_compile_s110 (P W : Int) (x1 : Int) (G : St) : Fr (fS [245] []) G (Sum.elim (fun q => q.2) (fun q => q.2)) (Tw_compile_s110 P W x1 G) := by
  unfold Tw_compile_s110
  exact frIf (frCB (frTk (fq_upL rfl fq_rf) (fun G13 hG13 => frCI (frS hG13)))) (frEx (frT (fr_Tw_compile_l133 _ _ _ _) (fS_mono rfl rfl) fq_rf))
theorem fr_Tw_compile_l110 (P W : Int) (x1 : Int) (G : St) : Fr (fS [245] []) G (fun q => q.2) (Tw_compile_l110 P W x1 G) := frWh (pi := fun (s : (Int × St)) => s.2) (fun (s : (Int × St)) => fr_Tw_compile_s110 P W s.1 s.2)
theorem fr_Tw_compile_s79 (P W : Int) (x1 : Int) (G : St) : Fr (fS [245] [(100, 145)]) G (Sum.elim (fun q => q.2) (fun q => q.2)) (Tw_compile_s79 P W x1 G) := by
  unfold Tw_compile_s79
  exact frIf (frCB (frCI (frTk (fq_upK rfl fq_rf) (fun G14 hG14 => frCI (frS hG14))))) (frEx (frT (fr_Tw_compile_l110 _ _ _ _) (fS_mono rfl rfl) fq_rf))
theorem fr_Tw_compile_l79 (P W : Int) (x1 : Int) (G : St) : Fr (fS [245] [(100, 145)]) G (fun q => q.2) (Tw_compile_l79 P W x1 G) := frWh (pi := fun (s : (Int × St)) => s.2) (fun (s : (Int × St)) => fr_Tw_compile_s79 P W s.1 s.2)
theorem fr_Tw_compile_b53 (P W : Int) (s0 : Int) (G : St) : Fr (fS [230, 231, 245] [(100, 5), (100, 83), (100, 145)]) G (fun q => q.2) (Tw_compile_b53 P W s0 G) := by
  unfold Tw_compile_b53
  exact frCB (frTk (fq_upK rfl fq_rf) (fun G7 hG7 => frTk (fq_upK rfl hG7) (fun G8 hG8 => frIf (frT (fr_Tw_compile_b167 _ _ _) (fS_mono rfl rfl) hG8) (frBd (fr_Tw_levels _) (fS_mono rfl rfl) hG8 (fun _ G10 hG10 => frTk (fq_upK rfl hG10) (fun G11 hG11 => frT (fr_Tw_compile_l79 _ _ _ _) (fS_mono rfl rfl) hG11))))))
theorem fr_Tw_compile_b40 (P W : Int) (G : St) : Fr (fS [230, 231, 245] [(100, 5), (100, 83), (100, 145)]) G (fun q => q.2) (Tw_compile_b40 P W G) := by
  unfold Tw_compile_b40
  exact frT (fr_Tw_compile_b53 _ _ _ _) (fS_mono rfl rfl) fq_rf
theorem fr_Tw_done_b40 (P W : Int) (x2 : Int) (s0 : Int) (s1 : Int) (G : St) : Fr (fS [] []) G (Sum.elim (fun q => q.2.2) (fun q => q.2)) (Tw_done_b40 P W x2 s0 s1 G) := by
  unfold Tw_done_b40
  exact frCI (frCI (frS fq_rf))
theorem fr_Tw_done_s4 (P W : Int) (x1 : Int) (x2 : Int) (G : St) : Fr (fS [] []) G (Sum.elim (fun q => q.2.2) (fun q => q.2)) (Tw_done_s4 P W x1 x2 G) := by
  unfold Tw_done_s4
  exact frIf (frIf (frT (fr_Tw_done_b40 _ _ _ _ _ _) (fS_mono rfl rfl) fq_rf) (frCB (frCI (frT (fr_Tw_done_b40 _ _ _ _ _ _) (fS_mono rfl rfl) fq_rf)))) (frEx (frS fq_rf))
theorem fr_Tw_done_l4 (P W : Int) (x1 : Int) (x2 : Int) (G : St) : Fr (fS [] []) G (fun q => q.2) (Tw_done_l4 P W x1 x2 G) := frWh (pi := fun (s : (Int × Int × St)) => s.2.2) (fun (s : (Int × Int × St)) => fr_Tw_done_s4 P W s.1 s.2.1 s.2.2)
theorem fr_Tw_done (P W : Int) (G : St) : Fr (fS [] []) G (fun q => q.2) (Tw_done P W G) := by
  unfold Tw_done
  exact frT (fr_Tw_done_l4 _ _ _ _ _) (fS_mono rfl rfl) fq_rf
theorem fr_Tw_look_b96 (P W : Int) (G : St) : Fr (fS [] []) G (fun q => q.2) (Tw_look_b96 P W G) := by
  unfold Tw_look_b96
  exact frS fq_rf
theorem fr_Tw_look_b101 (P W : Int) (G : St) : Fr (fS [] []) G (fun q => q.2) (Tw_look_b101 P W G) := by
  unfold Tw_look_b101
  exact frS fq_rf
theorem fr_Tw_look_b106 (P W : Int) (G : St) : Fr (fS [] []) G (fun q => q.2) (Tw_look_b106 P W G) := by
  unfold Tw_look_b106
  exact frS fq_rf
theorem fr_Tw_look_b111 (P W : Int) (G : St) : Fr (fS [] []) G (fun q => q.2) (Tw_look_b111 P W G) := by
  unfold Tw_look_b111
  exact frS fq_rf
theorem fr_Tw_look_b116 (P W : Int) (G : St) : Fr (fS [] []) G (fun q => q.2) (Tw_look_b116 P W G) := by
  unfold Tw_look_b116
  exact frS fq_rf
theorem fr_Tw_look_b121 (P W : Int) (G : St) : Fr (fS [] []) G (fun q => q.2) (Tw_look_b121 P W G) := by
  unfold Tw_look_b121
  exact frS fq_rf
theorem fr_Tw_look_b126 (P W : Int) (G : St) : Fr (fS [] []) G (fun q => q.2) (Tw_look_b126 P W G) := by
  unfold Tw_look_b126
  exact frS fq_rf
theorem fr_Tw_look_b131 (P W : Int) (G : St) : Fr (fS [] []) G (fun q => q.2) (Tw_look_b131 P W G) := by
  unfold Tw_look_b131
  exact frCI (frCI (frCI (frCI (frCI (frCI (frS fq_rf))))))
theorem fr_Tw_look_b157 (P W : Int) (G : St) : Fr (fS [] []) G (fun q => q.2) (Tw_look_b157 P W G) := by
  unfold Tw_look_b157
  exact frS fq_rf
theorem fr_Tw_look_b162 (P W : Int) (G : St) : Fr (fS [] []) G (fun q => q.2) (Tw_look_b162 P W G) := by
  unfold Tw_look_b162
  exact frS fq_rf
theorem fr_Tw_look_b167 (P W : Int) (G : St) : Fr (fS [] []) G (fun q => q.2) (Tw_look_b167 P W G) := by
  unfold Tw_look_b167
  exact frS fq_rf
theorem fr_Tw_look_b172 (P W : Int) (G : St) : Fr (fS [] []) G (fun q => q.2) (Tw_look_b172 P W G) := by
  unfold Tw_look_b172
  exact frBd (fr_Tw_done _ _ _) (fS_mono rfl rfl) fq_rf (fun _ G2 hG2 => frS hG2)
theorem fr_Tw_look_b177 (P W : Int) (G : St) : Fr (fS [] []) G (fun q => q.2) (Tw_look_b177 P W G) := by
  unfold Tw_look_b177
  exact frS fq_rf
theorem fr_Tw_look_b201 (P W : Int) (G : St) : Fr (fS [] []) G (fun q => q.2) (Tw_look_b201 P W G) := by
  unfold Tw_look_b201
  exact frS fq_rf
theorem fr_Tw_look_b206 (P W : Int) (G : St) : Fr (fS [] []) G (fun q => q.2) (Tw_look_b206 P W G) := by
  unfold Tw_look_b206
  exact frS fq_rf
theorem fr_Tw_look_b19 (P W : Int) (x1 : Int) (G : St) : Fr (fS [] []) G (fun q => q.2) (Tw_look_b19 P W x1 G) := by
  unfold Tw_look_b19
  exact frSwt (List.forall_mem_cons.mpr ⟨frT (fr_Tw_look_b96 _ _ _) (fS_mono rfl rfl) fq_rf, (List.forall_mem_cons.mpr ⟨frT (fr_Tw_look_b101 _ _ _) (fS_mono rfl rfl) fq_rf, (List.forall_mem_cons.mpr ⟨frT (fr_Tw_look_b106 _ _ _) (fS_mono rfl rfl) fq_rf, (List.forall_mem_cons.mpr ⟨frT (fr_Tw_look_b111 _ _ _) (fS_mono rfl rfl) fq_rf, (List.forall_mem_cons.mpr ⟨frT (fr_Tw_look_b116 _ _ _) (fS_mono rfl rfl) fq_rf, (List.forall_mem_cons.mpr ⟨frT (fr_Tw_look_b121 _ _ _) (fS_mono rfl rfl) fq_rf, (List.forall_mem_cons.mpr ⟨frT (fr_Tw_look_b126 _ _ _) (fS_mono rfl rfl) fq_rf, (List.forall_mem_cons.mpr ⟨frT (fr_Tw_look_b131 _ _ _) (fS_mono rfl rfl) fq_rf, (List.forall_mem_cons.mpr ⟨frT (fr_Tw_look_b157 _ _ _) (fS_mono rfl rfl) fq_rf, (List.forall_mem_cons.mpr ⟨frT (fr_Tw_look_b162 _ _ _) (fS_mono rfl rfl) fq_rf, (List.forall_mem_cons.mpr ⟨frT (fr_Tw_look_b167 _ _ _) (fS_mono rfl rfl) fq_rf, (List.forall_mem_cons.mpr ⟨frT (fr_Tw_look_b172 _ _ _) (fS_mono rfl rfl) fq_rf, (List.forall_mem_cons.mpr ⟨frT (fr_Tw_look_b177 _ _ _) (fS_mono rfl rfl) fq_rf, (List.forall_mem_cons.mpr ⟨frT (fr_Tw_look_b201 _ _ _) (fS_mono rfl rfl) fq_rf, (List.forall_mem_cons.mpr ⟨frT (fr_Tw_look_b206 _ _ _) (fS_mono rfl rfl) fq_rf, (fun _ h => nomatch h)⟩)⟩)⟩)⟩)⟩)⟩)⟩)⟩)⟩)⟩)⟩)⟩)⟩)⟩)⟩) (frS fq_rf)
theorem fr_Tw_look (P W : Int) (x1 : Int) (G : St) : Fr (fS [] []) G (fun q => q.2) (Tw_look P W x1 G) := by
  unfold Tw_look
  exact frIf (frIf (frIf (frS fq_rf) (frT (fr_Tw_look_b19 _ _ _ _) (fS_mono rfl rfl) fq_rf)) (frT (fr_Tw_look_b19 _ _ _ _) (fS_mono rfl rfl) fq_rf)) (frT (fr_Tw_look_b19 _ _ _ _) (fS_mono rfl rfl) fq_rf)
theorem fr_Tw_gate (x1 : Int) (x2 : Int) (G : St) : Fr (fS [] []) G (fun q => q.2) (Tw_gate x1 x2 G) := by
  unfold Tw_gate
  exact frIf (frS fq_rf) (frIf (frS fq_rf) (frIf (frIf (frS fq_rf) (frIf (frS fq_rf) (frIf (frCB (frS fq_rf)) (frIf (frCB (frS fq_rf)) (frIf (frCB (frS fq_rf)) (frCB (frS fq_rf))))))) (frS fq_rf)))
theorem fr_Tw_literal_b44 (x1 : Int) (x2 : Int) (s0 : Int) (s2 : Int) (G : St) : Fr (fS [] []) G (fun q => q.2) (Tw_literal_b44 x1 x2 s0 s2 G) := by
  unfold Tw_literal_b44
  exact frCB (frIf (frCI (frCI (frCB (frS fq_rf)))) (frS fq_rf))
theorem fr_Tw_literal (x1 : Int) (x2 : Int) (G : St) : Fr (fS [] []) G (fun q => q.2) (Tw_literal x1 x2 G) := by
  unfold Tw_literal
  exact frIf (frS fq_rf) (frIf (frS fq_rf) (frIf (frIf (frS fq_rf) (frT (fr_Tw_literal_b44 _ _ _ _ _) (fS_mono rfl rfl) fq_rf)) (frS fq_rf)))
theorem fr_Tw_input_b28 (G : St) : Fr (fS [] []) G (fun q => q.2) (Tw_input_b28 G) := by
  unfold Tw_input_b28
  exact frS fq_rf
theorem fr_Tw_input (x1 : Int) (x2 : Int) (G : St) : Fr (fS [] []) G (fun q => q.2) (Tw_input x1 x2 G) := by
  unfold Tw_input
  exact frIf (frT (fr_Tw_input_b28 _) (fS_mono rfl rfl) fq_rf) (frIf (frT (fr_Tw_input_b28 _) (fS_mono rfl rfl) fq_rf) (frIf (frIf (frT (fr_Tw_input_b28 _) (fS_mono rfl rfl) fq_rf) (frIf (frT (fr_Tw_input_b28 _) (fS_mono rfl rfl) fq_rf) (frIf (frCB (frS fq_rf)) (frIf (frCB (frS fq_rf)) (frCB (frS fq_rf)))))) (frT (fr_Tw_input_b28 _) (fS_mono rfl rfl) fq_rf)))
theorem fr_Tw_give_b60 (s0 : Int) (G : St) : Fr (fS [] [(100, 119)]) G (fun q => q.2) (Tw_give_b60 s0 G) := by
  unfold Tw_give_b60
  exact frCB (frTk (fq_upK rfl fq_rf) (fun G2 hG2 => frCB (frS hG2)))
theorem fr_Tw_give (x1 : Int) (x2 : Int) (G : St) : Fr (fS [180] [(100, 119)]) G (fun q => q.2) (Tw_give x1 x2 G) := by
  unfold Tw_give
  exact frIf (frCB (frS fq_rf)) (frIf (frCB (frS fq_rf)) (frIf (frCB (frCL (frCB (frTk (fq_upL rfl fq_rf) (fun G1 hG1 => frT (fr_Tw_give_b60 _ _) (fS_mono rfl rfl) hG1))))) (frCB (frS fq_rf))))
theorem fr_Tw_seed (x1 : Int) (G : St) : Fr (fS [] [(100, 120)]) G (fun q => q.2) (Tw_seed x1 G) := by
  unfold Tw_seed
  exact frTk (fq_upK rfl fq_rf) (fun G1 hG1 => frS hG1)
theorem fr_Tw_draws_s27 (x1 : Int) (x3 : Int) (x4 : Int) (G : St) : Fr (fS [224] [(100, 121)]) G (Sum.elim (fun q => q.2) (fun q => q.2)) (Tw_draws_s27 x1 x3 x4 G) := by
  unfold Tw_draws_s27
  exact frIf (frCI (frCD (frCB (frTk (fq_upL rfl fq_rf) (fun G1 hG1 => frCI (frTk (fq_upK rfl hG1) (fun G2 hG2 => frCI (frS hG2)))))))) (frEx (frS fq_rf))
theorem fr_Tw_draws_l27 (x1 : Int) (x3 : Int) (x4 : Int) (G : St) : Fr (fS [224] [(100, 121)]) G (fun q => q.2) (Tw_draws_l27 x1 x3 x4 G) := frWh (pi := fun (s : (Int × St)) => s.2) (fun (s : (Int × St)) => fr_Tw_draws_s27 x1 x3 s.1 s.2)
theorem fr_Tw_draws (x1 : Int) (x3 : Int) (G : St) : Fr (fS [224] [(100, 121)]) G (fun q => q.2) (Tw_draws x1 x3 G) := by
  unfold Tw_draws
  exact frIf (frS fq_rf) (frIf (frS fq_rf) (frCI (frIf (frS fq_rf) (frT (fr_Tw_draws_l27 _ _ _ _) (fS_mono rfl rfl) fq_rf))))
theorem fr_Tw_sendRound_b70 (P W : Int) (x1 : Int) (x2 : Int) (G : St) : Fr (fS [] []) G (Sum.elim (fun q => q.2) (fun q => q.2)) (Tw_sendRound_b70 P W x1 x2 G) := by
  unfold Tw_sendRound_b70
  exact frCI (frS fq_rf)
theorem fr_Tw_sendRound_s2 (P W : Int) (x1 : Int) (x2 : Int) (G : St) : Fr (fS [242, 243, 244] [(100, 131), (100, 139)]) G (Sum.elim (fun q => q.2) (fun q => q.2)) (Tw_sendRound_s2 P W x1 x2 G) := by
  unfold Tw_sendRound_s2
  exact frIf (frIf (frT (fr_Tw_sendRound_b70 _ _ _ _ _) (fS_mono rfl rfl) fq_rf) (frCB (frTk (fq_upL rfl fq_rf) (fun G1 hG1 => frCB (frTk (fq_upL rfl hG1) (fun G2 hG2 => frCB (frCB (frTk (fq_upL rfl hG2) (fun G3 hG3 => frCI (frTk (fq_upK rfl hG3) (fun G4 hG4 => frCI (frTk (fq_upK rfl hG4) (fun G5 hG5 => frT (fr_Tw_sendRound_b70 _ _ _ _ _) (fS_mono rfl rfl) hG5))))))))))))) (frEx (frS fq_rf))
theorem fr_Tw_sendRound_l2 (P W : Int) (x1 : Int) (x2 : Int) (G : St) : Fr (fS [242, 243, 244] [(100, 131), (100, 139)]) G (fun q => q.2) (Tw_sendRound_l2 P W x1 x2 G) := frWh (pi := fun (s : (Int × St)) => s.2) (fun (s : (Int × St)) => fr_Tw_sendRound_s2 P W x1 s.1 s.2)
theorem fr_Tw_sendRound (P W : Int) (x1 : Int) (G : St) : Fr (fS [242, 243, 244] [(100, 131), (100, 139)]) G (fun q => q.2) (Tw_sendRound P W x1 G) := by
  unfold Tw_sendRound
  exact frT (fr_Tw_sendRound_l2 _ _ _ _ _) (fS_mono rfl rfl) fq_rf
theorem fr_Tw_draw (G : St) : Fr (fS [] [(100, 120), (100, 121), (100, 122)]) G (fun q => q.2) (Tw_draw G) := by
  unfold Tw_draw
  exact frIf (frCB (frCD (frTk (fq_upK rfl fq_rf) (fun G2 hG2 => frTk (fq_upK rfl hG2) (fun G3 hG3 => frS hG3))))) (frTk (fq_upK rfl fq_rf) (fun G1 hG1 => frS hG1))
theorem fr_In_bitCount (x0 : Int) (G : St) : Fr (fS [] []) G (fun q => q.2) (In_bitCount x0 G) := by
  unfold In_bitCount
  exact frVl (fun _ => frVl (fun _ => frVl (fun _ => frVl (fun _ => frS fq_rf))))
theorem fr_Tw_parity (x0 : Int) (G : St) : Fr (fS [] []) G (fun q => q.2) (Tw_parity x0 G) := by
  unfold Tw_parity
  exact frBd (fr_In_bitCount _ _) (fS_mono rfl rfl) fq_rf (fun _ G2 hG2 => frS hG2)
theorem fr_Tw_shareOf (x1 : Int) (G : St) : Fr (fS [] []) G (fun q => q.2) (Tw_shareOf x1 G) := by
  unfold Tw_shareOf
  exact frIf (frS fq_rf) (frCB (frS fq_rf))
theorem fr_Tw_shareAll_b421 (P W : Int) (x1 : Int) (G : St) : Fr (fS [] []) G (Sum.elim (fun q => q.2) (fun q => q.2)) (Tw_shareAll_b421 P W x1 G) := by
  unfold Tw_shareAll_b421
  exact frCI (frS fq_rf)
theorem fr_Tw_shareAll_b413 (P W : Int) (x1 : Int) (x4 : Int) (x5 : Int) (s0 : Int) (s1 : Int) (s2 : Int) (G : St) : Fr (fS [226] []) G (Sum.elim (fun q => q.2) (fun q => q.2)) (Tw_shareAll_b413 P W x1 x4 x5 s0 s1 s2 G) := by
  unfold Tw_shareAll_b413
  exact frCB (frTk (fq_upL rfl fq_rf) (fun G9 hG9 => frT (fr_Tw_shareAll_b421 _ _ _ _) (fS_mono rfl rfl) hG9))
theorem fr_Tw_shareAll_b396 (P W : Int) (x1 : Int) (x4 : Int) (x5 : Int) (s0 : Int) (s1 : Int) (s2 : Int) (G : St) : Fr (fS [226] []) G (Sum.elim (fun q => q.2) (fun q => q.2)) (Tw_shareAll_b396 P W x1 x4 x5 s0 s1 s2 G) := by
  unfold Tw_shareAll_b396
  exact frIf (frCB (frT (fr_Tw_shareAll_b413 _ _ _ _ _ _ _ _ _) (fS_mono rfl rfl) fq_rf)) (frT (fr_Tw_shareAll_b413 _ _ _ _ _ _ _ _ _) (fS_mono rfl rfl) fq_rf)
theorem fr_Tw_shareAll_s282 (P W : Int) (x1 : Int) (G : St) : Fr (fS [226] []) G (Sum.elim (fun q => q.2) (fun q => q.2)) (Tw_shareAll_s282 P W x1 G) := by
  unfold Tw_shareAll_s282
  exact frIf (frCB (frBd (fr_Tw_shareOf _ _) (fS_mono rfl rfl) fq_rf (fun _ G2 hG2 => frCB (frBd (fr_Tw_shareOf _ _) (fS_mono rfl rfl) hG2 (fun _ G4 hG4 => frCB (frIf (frCI (frCB (frTk (fq_upL rfl hG4) (fun G10 hG10 => frT (fr_Tw_shareAll_b421 _ _ _ _) (fS_mono rfl rfl) hG10)))) (frCB (frBd (fr_Tw_parity _ _) (fS_mono rfl rfl) hG4 (fun _ G6 hG6 => frCB (frBd (fr_Tw_parity _ _) (fS_mono rfl rfl) hG6 (fun _ G8 hG8 => frCI (frCB (frIf (frCB (frT (fr_Tw_shareAll_b396 _ _ _ _ _ _ _ _ _) (fS_mono rfl rfl) hG8)) (frT (fr_Tw_shareAll_b396 _ _ _ _ _ _ _ _ _) (fS_mono rfl rfl) hG8)))))))))))))) (frEx (frS fq_rf))
theorem fr_Tw_shareAll_l282 (P W : Int) (x1 : Int) (G : St) : Fr (fS [226] []) G (fun q => q.2) (Tw_shareAll_l282 P W x1 G) := frWh (pi := fun (s : (Int × St)) => s.2) (fun (s : (Int × St)) => fr_Tw_shareAll_s282 P W s.1 s.2)
theorem fr_Tw_shareAll_b274 (P W : Int) (x1 : Int) (G : St) : Fr (fS [] []) G (Sum.elim (fun q => q.2) (fun q => q.2)) (Tw_shareAll_b274 P W x1 G) := by
  unfold Tw_shareAll_b274
  exact frCI (frS fq_rf)
theorem fr_Tw_shareAll_s209 (P W : Int) (x1 : Int) (x2 : Int) (x3 : Int) (x4 : Int) (x5 : Int) (G : St) : Fr (fS [227, 228, 229] [(100, 120), (100, 121), (100, 122)]) G (Sum.elim (fun q => q.2.2) (Sum.elim (fun q => q.2) (fun q => q.2))) (Tw_shareAll_s209 P W x1 x2 x3 x4 x5 G) := by
  unfold Tw_shareAll_s209
  exact frIf (frBd (fr_Tw_draw _) (fS_mono rfl rfl) fq_rf (fun _ G21 hG21 => frCI (frS hG21))) (frEx (frCB (frTk (fq_upL rfl fq_rf) (fun G11 hG11 => frCB (frTk (fq_upL rfl hG11) (fun G12 hG12 => frBd (fr_Tw_parity _ _) (fS_mono rfl rfl) hG12 (fun _ G14 hG14 => frBd (fr_Tw_parity _ _) (fS_mono rfl rfl) hG14 (fun _ G16 hG16 => frBd (fr_Tw_parity _ _) (fS_mono rfl rfl) hG16 (fun _ G18 hG18 => frCB (frTk (fq_upL rfl hG18) (fun G19 hG19 => frT (fr_Tw_shareAll_b274 _ _ _ _) (fS_mono rfl rfl) hG19)))))))))))
theorem fr_Tw_shareAll_l209 (P W : Int) (x1 : Int) (x2 : Int) (x3 : Int) (x4 : Int) (x5 : Int) (G : St) : Fr (fS [227, 228, 229] [(100, 120), (100, 121), (100, 122)]) G (Sum.elim (fun q => q.2) (fun q => q.2)) (Tw_shareAll_l209 P W x1 x2 x3 x4 x5 G) := frWh (pi := fun (s : (Int × Int × St)) => s.2.2) (fun (s : (Int × Int × St)) => fr_Tw_shareAll_s209 P W x1 x2 x3 s.1 s.2.1 s.2.2)
theorem fr_Tw_shareAll_s181 (P W : Int) (x1 : Int) (x2 : Int) (x4 : Int) (x3 : Int) (x5 : Int) (G : St) : Fr (fS [227, 228, 229] [(100, 120), (100, 121), (100, 122)]) G (Sum.elim (fun q => q.2.2) (Sum.elim (fun q => q.2) (fun q => q.2))) (Tw_shareAll_s181 P W x1 x2 x4 x3 x5 G) := by
  unfold Tw_shareAll_s181
  exact frIf (frBd (fr_Tw_draw _) (fS_mono rfl rfl) fq_rf (fun _ G23 hG23 => frCI (frS hG23))) (frEx (frT (fr_Tw_shareAll_l209 _ _ _ _ _ _ _ _) (fS_mono rfl rfl) fq_rf))
theorem fr_Tw_shareAll_l181 (P W : Int) (x1 : Int) (x2 : Int) (x4 : Int) (x3 : Int) (x5 : Int) (G : St) : Fr (fS [227, 228, 229] [(100, 120), (100, 121), (100, 122)]) G (Sum.elim (fun q => q.2) (fun q => q.2)) (Tw_shareAll_l181 P W x1 x2 x4 x3 x5 G) := frWh (pi := fun (s : (Int × Int × St)) => s.2.2) (fun (s : (Int × Int × St)) => fr_Tw_shareAll_s181 P W x1 x2 x4 s.1 s.2.1 s.2.2)
theorem fr_Tw_shareAll_s153 (P W : Int) (x1 : Int) (x3 : Int) (x4 : Int) (x2 : Int) (x5 : Int) (G : St) : Fr (fS [227, 228, 229] [(100, 120), (100, 121), (100, 122)]) G (Sum.elim (fun q => q.2.2) (Sum.elim (fun q => q.2) (fun q => q.2))) (Tw_shareAll_s153 P W x1 x3 x4 x2 x5 G) := by
  unfold Tw_shareAll_s153
  exact frIf (frBd (fr_Tw_draw _) (fS_mono rfl rfl) fq_rf (fun _ G25 hG25 => frCI (frS hG25))) (frEx (frT (fr_Tw_shareAll_l181 _ _ _ _ _ _ _ _) (fS_mono rfl rfl) fq_rf))
theorem fr_Tw_shareAll_l153 (P W : Int) (x1 : Int) (x3 : Int) (x4 : Int) (x2 : Int) (x5 : Int) (G : St) : Fr (fS [227, 228, 229] [(100, 120), (100, 121), (100, 122)]) G (Sum.elim (fun q => q.2) (fun q => q.2)) (Tw_shareAll_l153 P W x1 x3 x4 x2 x5 G) := frWh (pi := fun (s : (Int × Int × St)) => s.2.2) (fun (s : (Int × Int × St)) => fr_Tw_shareAll_s153 P W x1 x3 x4 s.1 s.2.1 s.2.2)
theorem fr_Tw_shareAll_s125 (P W : Int) (x1 : Int) (G : St) : Fr (fS [226, 227, 228, 229] [(100, 120), (100, 121), (100, 122)]) G (Sum.elim (fun q => q.2) (fun q => q.2)) (Tw_shareAll_s125 P W x1 G) := by
  unfold Tw_shareAll_s125
  exact frIf (frCB (frIf (frT (fr_Tw_shareAll_l153 _ _ _ _ _ _ _ _) (fS_mono rfl rfl) fq_rf) (frT (fr_Tw_shareAll_b274 _ _ _ _) (fS_mono rfl rfl) fq_rf))) (frEx (frT (fr_Tw_shareAll_l282 _ _ _ _) (fS_mono rfl rfl) fq_rf))
theorem fr_Tw_shareAll_l125 (P W : Int) (x1 : Int) (G : St) : Fr (fS [226, 227, 228, 229] [(100, 120), (100, 121), (100, 122)]) G (fun q => q.2) (Tw_shareAll_l125 P W x1 G) := frWh (pi := fun (s : (Int × St)) => s.2) (fun (s : (Int × St)) => fr_Tw_shareAll_s125 P W s.1 s.2)
theorem fr_Tw_shareAll_b63 (P W : Int) (x1 : Int) (x2 : Int) (x3 : Int) (x5 : Int) (s0 : Int) (s1 : Int) (G : St) : Fr (fS [] []) G (Sum.elim (fun q => q.2.2) (Sum.elim (fun q => q.2) (Sum.elim (fun q => q.2) (fun q => q.2)))) (Tw_shareAll_b63 P W x1 x2 x3 x5 s0 s1 G) := by
  unfold Tw_shareAll_b63
  exact frCI (frS fq_rf)
theorem fr_Tw_shareAll_s35 (P W : Int) (x1 : Int) (x2 : Int) (x3 : Int) (x4 : Int) (x5 : Int) (G : St) : Fr (fS [226] [(100, 120), (100, 121), (100, 122)]) G (Sum.elim (fun q => q.2.2) (Sum.elim (fun q => q.2) (Sum.elim (fun q => q.2) (fun q => q.2)))) (Tw_shareAll_s35 P W x1 x2 x3 x4 x5 G) := by
  unfold Tw_shareAll_s35
  exact frIf (frIf (frT (fr_Tw_shareAll_b63 _ _ _ _ _ _ _ _ _) (fS_mono rfl rfl) fq_rf) (frBd (fr_Tw_draw _) (fS_mono rfl rfl) fq_rf (fun _ G31 hG31 => frT (fr_Tw_shareAll_b63 _ _ _ _ _ _ _ _ _) (fS_mono rfl rfl) hG31))) (frEx (frCB (frVl (fun _ => frCB (frCI (frBd (fr_Tw_parity _ _) (fS_mono rfl rfl) fq_rf (fun _ G28 hG28 => frCB (frTk (fq_upL rfl hG28) (fun G29 hG29 => frCI (frS hG29))))))))))
theorem fr_Tw_shareAll_l35 (P W : Int) (x1 : Int) (x2 : Int) (x3 : Int) (x4 : Int) (x5 : Int) (G : St) : Fr (fS [226] [(100, 120), (100, 121), (100, 122)]) G (Sum.elim (fun q => q.2) (Sum.elim (fun q => q.2) (fun q => q.2))) (Tw_shareAll_l35 P W x1 x2 x3 x4 x5 G) := frWh (pi := fun (s : (Int × Int × St)) => s.2.2) (fun (s : (Int × Int × St)) => fr_Tw_shareAll_s35 P W x1 x2 x3 s.1 s.2.1 s.2.2)
theorem fr_Tw_shareAll_s12 (P W : Int) (x1 : Int) (x2 : Int) (G : St) : Fr (fS [226] [(100, 120), (100, 121), (100, 122)]) G (Sum.elim (fun q => q.2) (Sum.elim (fun q => q.2) (fun q => q.2))) (Tw_shareAll_s12 P W x1 x2 G) := by
  unfold Tw_shareAll_s12
  exact frCB (frIf (frCB (frT (fr_Tw_shareAll_l35 _ _ _ _ _ _ _ _) (fS_mono rfl rfl) fq_rf)) (frEx (frCI (frS fq_rf))))
theorem fr_Tw_shareAll_l12 (P W : Int) (x1 : Int) (x2 : Int) (G : St) : Fr (fS [226] [(100, 120), (100, 121), (100, 122)]) G (Sum.elim (fun q => q.2) (fun q => q.2)) (Tw_shareAll_l12 P W x1 x2 G) := frWh (pi := fun (s : (Int × St)) => s.2) (fun (s : (Int × St)) => fr_Tw_shareAll_s12 P W x1 s.1 s.2)
theorem fr_Tw_shareAll_s2 (P W : Int) (x1 : Int) (G : St) : Fr (fS [226, 227, 228, 229] [(100, 120), (100, 121), (100, 122)]) G (Sum.elim (fun q => q.2) (fun q => q.2)) (Tw_shareAll_s2 P W x1 G) := by
  unfold Tw_shareAll_s2
  exact frIf (frT (fr_Tw_shareAll_l12 _ _ _ _ _) (fS_mono rfl rfl) fq_rf) (frEx (frT (fr_Tw_shareAll_l125 _ _ _ _) (fS_mono rfl rfl) fq_rf))
theorem fr_Tw_shareAll_l2 (P W : Int) (x1 : Int) (G : St) : Fr (fS [226, 227, 228, 229] [(100, 120), (100, 121), (100, 122)]) G (fun q => q.2) (Tw_shareAll_l2 P W x1 G) := frWh (pi := fun (s : (Int × St)) => s.2) (fun (s : (Int × St)) => fr_Tw_shareAll_s2 P W s.1 s.2)
theorem fr_Tw_shareAll (P W : Int) (G : St) : Fr (fS [226, 227, 228, 229] [(100, 120), (100, 121), (100, 122)]) G (fun q => q.2) (Tw_shareAll P W G) := by
  unfold Tw_shareAll
  exact frT (fr_Tw_shareAll_l2 _ _ _ _) (fS_mono rfl rfl) fq_rf
theorem fr_Tw_deal_s103 (P W : Int) (x1 : Int) (G : St) : Fr (fS [242, 243, 244] [(100, 131), (100, 139)]) G (Sum.elim (fun q => q.2) (fun q => q.2)) (Tw_deal_s103 P W x1 G) := by
  unfold Tw_deal_s103
  exact frIf (frBd (fr_Tw_sendRound _ _ _ _) (fS_mono rfl rfl) fq_rf (fun _ G7 hG7 => frCI (frS hG7))) (frEx (frCB (frS fq_rf)))
theorem fr_Tw_deal_l103 (P W : Int) (x1 : Int) (G : St) : Fr (fS [242, 243, 244] [(100, 131), (100, 139)]) G (fun q => q.2) (Tw_deal_l103 P W x1 G) := frWh (pi := fun (s : (Int × St)) => s.2) (fun (s : (Int × St)) => fr_Tw_deal_s103 P W s.1 s.2)
theorem fr_Tw_deal_s52 (P W : Int) (x1 : Int) (G : St) : Fr (fS [233, 234, 235, 236, 237, 242, 243, 244] [(100, 131), (100, 139)]) G (Sum.elim (fun q => q.2) (fun q => q.2)) (Tw_deal_s52 P W x1 G) := by
  unfold Tw_deal_s52
  exact frIf (frCB (frTk (fq_upL rfl fq_rf) (fun G8 hG8 => frCB (frTk (fq_upL rfl hG8) (fun G9 hG9 => frCB (frTk (fq_upL rfl hG9) (fun G10 hG10 => frCB (frTk (fq_upL rfl hG10) (fun G11 hG11 => frCB (frTk (fq_upL rfl hG11) (fun G12 hG12 => frCI (frS hG12)))))))))))) (frEx (frT (fr_Tw_deal_l103 _ _ _ _) (fS_mono rfl rfl) fq_rf))
theorem fr_Tw_deal_l52 (P W : Int) (x1 : Int) (G : St) : Fr (fS [233, 234, 235, 236, 237, 242, 243, 244] [(100, 131), (100, 139)]) G (fun q => q.2) (Tw_deal_l52 P W x1 G) := frWh (pi := fun (s : (Int × St)) => s.2) (fun (s : (Int × St)) => fr_Tw_deal_s52 P W s.1 s.2)
theorem fr_Tw_deal_s20 (P W : Int) (x1 : Int) (G : St) : Fr (fS [181, 226, 227, 228, 229, 233, 234, 235, 236, 237, 242, 243, 244] [(100, 120), (100, 121), (100, 122), (100, 131), (100, 139)]) G (Sum.elim (fun q => q.2) (fun q => q.2)) (Tw_deal_s20 P W x1 G) := by
  unfold Tw_deal_s20
  exact frIf (frCB (frCB (frTk (fq_upL rfl fq_rf) (fun G13 hG13 => frCI (frS hG13))))) (frEx (frBd (fr_Tw_shareAll _ _ _) (fS_mono rfl rfl) fq_rf (fun _ G5 hG5 => frT (fr_Tw_deal_l52 _ _ _ _) (fS_mono rfl rfl) hG5)))
theorem fr_Tw_deal_l20 (P W : Int) (x1 : Int) (G : St) : Fr (fS [181, 226, 227, 228, 229, 233, 234, 235, 236, 237, 242, 243, 244] [(100, 120), (100, 121), (100, 122), (100, 131), (100, 139)]) G (fun q => q.2) (Tw_deal_l20 P W x1 G) := frWh (pi := fun (s : (Int × St)) => s.2) (fun (s : (Int × St)) => fr_Tw_deal_s20 P W s.1 s.2)
theorem fr_Tw_deal (P W : Int) (G : St) : Fr (fS [181, 226, 227, 228, 229, 233, 234, 235, 236, 237, 242, 243, 244] [(100, 119), (100, 120), (100, 121), (100, 122), (100, 124), (100, 131), (100, 139), (100, 140)]) G (fun q => q.2) (Tw_deal P W G) := by
  unfold Tw_deal
  exact frIf (frCB (frS fq_rf)) (frBd (fr_Tw_forget _) (fS_mono rfl rfl) fq_rf (fun _ G2 hG2 => frCB (frTk (fq_upK rfl hG2) (fun G3 hG3 => frT (fr_Tw_deal_l20 _ _ _ _) (fS_mono rfl rfl) hG3))))
theorem fr_Tw_lengthOf (x1 : Int) (x2 : Int) (G : St) : Fr (fS [] []) G (fun q => q.2) (Tw_lengthOf x1 x2 G) := by
  unfold Tw_lengthOf
  exact frIf (frCB (frS fq_rf)) (frIf (frS fq_rf) (frCI (frCB (frCB (frCI (frCI (frS fq_rf)))))))
theorem fr_Tw_sentBit_s177 (x1 : Int) (x5 : Int) (x6 : Int) (G : St) : Fr (fS [] []) G (Sum.elim (fun q => q.2.2) (fun q => q.2)) (Tw_sentBit_s177 x1 x5 x6 G) := by
  unfold Tw_sentBit_s177
  exact frCB (frIf (frEx (frCI (frCI (frCB (frBd (fr_Tw_shareOf _ _) (fS_mono rfl rfl) fq_rf (fun _ G2 hG2 => frS hG2)))))) (frCB (frCI (frCI (frS fq_rf)))))
theorem fr_Tw_sentBit_l177 (x1 : Int) (x5 : Int) (x6 : Int) (G : St) : Fr (fS [] []) G (fun q => q.2) (Tw_sentBit_l177 x1 x5 x6 G) := frWh (pi := fun (s : (Int × Int × St)) => s.2.2) (fun (s : (Int × Int × St)) => fr_Tw_sentBit_s177 x1 s.1 s.2.1 s.2.2)
theorem fr_Tw_sentBit_b161 (x1 : Int) (s0 : Int) (G : St) : Fr (fS [] []) G (fun q => q.2) (Tw_sentBit_b161 x1 s0 G) := by
  unfold Tw_sentBit_b161
  exact frS fq_rf
theorem fr_Tw_sentBit_b58 (x1 : Int) (x2 : Int) (x5 : Int) (s0 : Int) (s1 : Int) (G : St) : Fr (fS [] []) G (Sum.elim (fun q => q.2.2) (fun q => q.2)) (Tw_sentBit_b58 x1 x2 x5 s0 s1 G) := by
  unfold Tw_sentBit_b58
  exact frCI (frCI (frS fq_rf))
theorem fr_Tw_sentBit_b34 (x1 : Int) (x2 : Int) (x5 : Int) (x6 : Int) (G : St) : Fr (fS [] []) G (Sum.elim (fun q => q.2.2) (fun q => q.2)) (Tw_sentBit_b34 x1 x2 x5 x6 G) := by
  unfold Tw_sentBit_b34
  exact frCB (frIf (frCB (frT (fr_Tw_sentBit_b58 _ _ _ _ _ _) (fS_mono rfl rfl) fq_rf)) (frT (fr_Tw_sentBit_b58 _ _ _ _ _ _) (fS_mono rfl rfl) fq_rf))
theorem fr_Tw_sentBit_s11 (x1 : Int) (x2 : Int) (x5 : Int) (x6 : Int) (G : St) : Fr (fS [] []) G (Sum.elim (fun q => q.2.2) (fun q => q.2)) (Tw_sentBit_s11 x1 x2 x5 x6 G) := by
  unfold Tw_sentBit_s11
  exact frCB (frIf (frCB (frIf (frEx (frCB (frCI (frCB (frS fq_rf))))) (frT (fr_Tw_sentBit_b34 _ _ _ _ _) (fS_mono rfl rfl) fq_rf))) (frT (fr_Tw_sentBit_b34 _ _ _ _ _) (fS_mono rfl rfl) fq_rf))
theorem fr_Tw_sentBit_l11 (x1 : Int) (x2 : Int) (x5 : Int) (x6 : Int) (G : St) : Fr (fS [] []) G (fun q => q.2) (Tw_sentBit_l11 x1 x2 x5 x6 G) := frWh (pi := fun (s : (Int × Int × St)) => s.2.2) (fun (s : (Int × Int × St)) => fr_Tw_sentBit_s11 x1 x2 s.1 s.2.1 s.2.2)
theorem fr_Tw_sentBit (x1 : Int) (x2 : Int) (x3 : Int) (x4 : Int) (G : St) : Fr (fS [] []) G (fun q => q.2) (Tw_sentBit x1 x2 x3 x4 G) := by
  unfold Tw_sentBit
  exact frIf (frT (fr_Tw_sentBit_l11 _ _ _ _ _) (fS_mono rfl rfl) fq_rf) (frIf (frT (fr_Tw_sentBit_l177 _ _ _ _) (fS_mono rfl rfl) fq_rf) (frCB (frCD (frCI (frCB (frCD (frIf (frCB (frBd (fr_Tw_shareOf _ _) (fS_mono rfl rfl) fq_rf (fun _ G6 hG6 => frCB (frT (fr_Tw_sentBit_b161 _ _ _) (fS_mono rfl rfl) hG6)))) (frCB (frBd (fr_Tw_shareOf _ _) (fS_mono rfl rfl) fq_rf (fun _ G4 hG4 => frCB (frT (fr_Tw_sentBit_b161 _ _ _) (fS_mono rfl rfl) hG4)))))))))))
theorem fr_Tw_message (x1 : Int) (x2 : Int) (G : St) : Fr (fS [] []) G (fun q => q.2) (Tw_message x1 x2 G) := by
  unfold Tw_message
  exact frIf (frS fq_rf) (frIf (frIf (frS fq_rf) (frCB (frCB (frBd (fr_Tw_lengthOf _ _ _) (fS_mono rfl rfl) fq_rf (fun _ G2 hG2 => frIf (frIf (frCB (frS hG2)) (frIf (frCB (frS hG2)) (frIf (frCB (frS hG2)) (frS hG2)))) (frCI (frIf (frCB (frCB (frCB (frCI (frBd (fr_Tw_sentBit _ _ _ _ _) (fS_mono rfl rfl) hG2 (fun _ G4 hG4 => frS hG4)))))) (frS hG2)))))))) (frS fq_rf))
theorem fr_Tw_takeMessage_b308 (P W : Int) (G : St) : Fr (fS [] []) G (fun q => q.2) (Tw_takeMessage_b308 P W G) := by
  unfold Tw_takeMessage_b308
  exact frS fq_rf
theorem fr_Tw_takeMessage_s226 (P W : Int) (x3 : Int) (G : St) : Fr (fS [233, 234, 235, 242, 243, 244] [(100, 131), (100, 139)]) G (Sum.elim (fun q => q) (fun q => q.2)) (Tw_takeMessage_s226 P W x3 G) := by
  unfold Tw_takeMessage_s226
  exact frCB (frCI (frIf (frEx (frT (fr_Tw_takeMessage_b308 _ _ _) (fS_mono rfl rfl) fq_rf)) (frCB (frCI (frIf (frCB (frCI (frCB (frTk (fq_upL rfl fq_rf) (fun G12 hG12 => frCB (frCB (frTk (fq_upL rfl hG12) (fun G13 hG13 => frCB (frTk (fq_upL rfl hG13) (fun G14 hG14 => frCB (frCI (frIf (frS hG14) (frBd (fr_Tw_sendRound _ _ _ _) (fS_mono rfl rfl) hG14 (fun _ G16 hG16 => frS hG16)))))))))))))) (frEx (frT (fr_Tw_takeMessage_b308 _ _ _) (fS_mono rfl rfl) fq_rf)))))))
theorem fr_Tw_takeMessage_l226 (P W : Int) (x3 : Int) (G : St) : Fr (fS [233, 234, 235, 242, 243, 244] [(100, 131), (100, 139)]) G (fun q => q.2) (Tw_takeMessage_l226 P W x3 G) := frWh (pi := fun (s : (St)) => s) (fun (s : (St)) => fr_Tw_takeMessage_s226 P W x3 s)
theorem fr_Tw_takeMessage_b219 (P W : Int) (x3 : Int) (s0 : Int) (s1 : Int) (s2 : Int) (G : St) : Fr (fS [233, 234, 235, 242, 243, 244] [(100, 131), (100, 139)]) G (fun q => q.2) (Tw_takeMessage_b219 P W x3 s0 s1 s2 G) := by
  unfold Tw_takeMessage_b219
  exact frCI (frCB (frTk (fq_upL rfl fq_rf) (fun G10 hG10 => frTk (fq_upK rfl hG10) (fun G11 hG11 => frT (fr_Tw_takeMessage_l226 _ _ _ _) (fS_mono rfl rfl) hG11))))
theorem fr_Tw_takeMessage_b194 (P W : Int) (x3 : Int) (x4 : Int) (s0 : Int) (s1 : Int) (s2 : Int) (G : St) : Fr (fS [233, 234, 235, 242, 243, 244] [(100, 131), (100, 139)]) G (fun q => q.2) (Tw_takeMessage_b194 P W x3 x4 s0 s1 s2 G) := by
  unfold Tw_takeMessage_b194
  exact frCI (frCB (frTk (fq_upL rfl fq_rf) (fun G9 hG9 => frCB (frCB (frT (fr_Tw_takeMessage_b219 _ _ _ _ _ _ _) (fS_mono rfl rfl) hG9)))))
theorem fr_Tw_takeMessage_s35 (P W : Int) (x2 : Int) (x3 : Int) (x4 : Int) (x5 : Int) (G : St) : Fr (fS [233, 234, 235, 236, 237, 238, 239, 242, 243, 244] [(100, 131), (100, 139), (100, 140)]) G (Sum.elim (fun q => q.2) (fun q => q.2)) (Tw_takeMessage_s35 P W x2 x3 x4 x5 G) := by
  unfold Tw_takeMessage_s35
  exact frIf (frCI (frCB (frCB (frTk (fq_upL rfl fq_rf) (fun G17 hG17 => frCI (frCB (frCB (frTk (fq_upL rfl hG17) (fun G18 hG18 => frCI (frCB (frCB (frTk (fq_upL rfl hG18) (fun G19 hG19 => frCI (frS hG19)))))))))))))) (frEx (frCI (frCB (frCI (frCB (frTk (fq_upL rfl fq_rf) (fun G2 hG2 => frCI (frCB (frCI (frCB (frTk (fq_upL rfl hG2) (fun G3 hG3 => frCB (frCI (frCB (frTk (fq_upL rfl hG3) (fun G4 hG4 => frCB (frBd (fr_Tw_lengthOf _ _ _) (fS_mono rfl rfl) hG4 (fun _ G6 hG6 => frCI (frCB (frTk (fq_upL rfl hG6) (fun G7 hG7 => frCI (frTk (fq_upK rfl hG7) (fun G8 hG8 => frCB (frCB (frT (fr_Tw_takeMessage_b194 _ _ _ _ _ _ _ _) (fS_mono rfl rfl) hG8)))))))))))))))))))))))))
theorem fr_Tw_takeMessage_l35 (P W : Int) (x2 : Int) (x3 : Int) (x4 : Int) (x5 : Int) (G : St) : Fr (fS [233, 234, 235, 236, 237, 238, 239, 242, 243, 244] [(100, 131), (100, 139), (100, 140)]) G (fun q => q.2) (Tw_takeMessage_l35 P W x2 x3 x4 x5 G) := frWh (pi := fun (s : (Int × St)) => s.2) (fun (s : (Int × St)) => fr_Tw_takeMessage_s35 P W x2 x3 x4 s.1 s.2)
theorem fr_Tw_takeMessage (P W : Int) (x1 : Int) (G : St) : Fr (fS [233, 234, 235, 236, 237, 238, 239, 242, 243, 244] [(100, 131), (100, 139), (100, 140)]) G (fun q => q.2) (Tw_takeMessage P W x1 G) := by
  unfold Tw_takeMessage
  exact frCB (frCB (frCB (frCI (frTk (fq_upK rfl fq_rf) (fun G1 hG1 => frT (fr_Tw_takeMessage_l35 _ _ _ _ _ _ _) (fS_mono rfl rfl) hG1)))))
theorem fr_Tw_deliver (P W : Int) (x1 : Int) (G : St) : Fr (fS [233, 234, 235, 236, 237, 238, 239, 242, 243, 244] [(100, 131), (100, 139), (100, 140)]) G (fun q => q.2) (Tw_deliver P W x1 G) := by
  unfold Tw_deliver
  exact frIf (frS fq_rf) (frIf (frBd (fr_Tw_takeMessage _ _ _ _) (fS_mono rfl rfl) fq_rf (fun _ G2 hG2 => frS hG2)) (frS fq_rf))
theorem fr_Tw_rush_b59 (P W : Int) (x3 : Int) (G : St) : Fr (fS [] []) G (fun q => q.2) (Tw_rush_b59 P W x3 G) := by
  unfold Tw_rush_b59
  exact frS fq_rf
theorem fr_Tw_rush_b54 (P W : Int) (x1 : Int) (x2 : Int) (s0 : Int) (s1 : Int) (G : St) : Fr (fS [] []) G (Sum.elim (fun q => q.2) (fun q => q.2)) (Tw_rush_b54 P W x1 x2 s0 s1 G) := by
  unfold Tw_rush_b54
  exact frCI (frS fq_rf)
theorem fr_Tw_rush_s19 (P W : Int) (x1 : Int) (x2 : Int) (x3 : Int) (G : St) : Fr (fS [233, 234, 235, 236, 237, 238, 239, 242, 243, 244] [(100, 131), (100, 139), (100, 140)]) G (Sum.elim (fun q => q.2) (fun q => q.2)) (Tw_rush_s19 P W x1 x2 x3 G) := by
  unfold Tw_rush_s19
  exact frIf (frIf (frCD (frBd (fr_Tw_takeMessage _ _ _ _) (fS_mono rfl rfl) fq_rf (fun _ G2 hG2 => frT (fr_Tw_rush_b54 _ _ _ _ _ _ _) (fS_mono rfl rfl) hG2))) (frEx (frT (fr_Tw_rush_b59 _ _ _ _) (fS_mono rfl rfl) fq_rf))) (frEx (frT (fr_Tw_rush_b59 _ _ _ _) (fS_mono rfl rfl) fq_rf))
theorem fr_Tw_rush_l19 (P W : Int) (x1 : Int) (x2 : Int) (x3 : Int) (G : St) : Fr (fS [233, 234, 235, 236, 237, 238, 239, 242, 243, 244] [(100, 131), (100, 139), (100, 140)]) G (fun q => q.2) (Tw_rush_l19 P W x1 x2 x3 G) := frWh (pi := fun (s : (Int × St)) => s.2) (fun (s : (Int × St)) => fr_Tw_rush_s19 P W x1 x2 s.1 s.2)
theorem fr_Tw_rush (P W : Int) (x1 : Int) (x2 : Int) (G : St) : Fr (fS [233, 234, 235, 236, 237, 238, 239, 242, 243, 244] [(100, 131), (100, 139), (100, 140)]) G (fun q => q.2) (Tw_rush P W x1 x2 G) := by
  unfold Tw_rush
  exact frIf (frS fq_rf) (frIf (frS fq_rf) (frIf (frS fq_rf) (frT (fr_Tw_rush_l19 _ _ _ _ _ _) (fS_mono rfl rfl) fq_rf)))
theorem fr_Tw_viewBits (P W : Int) (x1 : Int) (G : St) : Fr (fS [] []) G (fun q => q.2) (Tw_viewBits P W x1 G) := by
  unfold Tw_viewBits
  exact frCB (frCI (frCI (frCI (frCB (frCI (frS fq_rf))))))
theorem fr_Tw_party (P W : Int) (x1 : Int) (x2 : Int) (G : St) : Fr (fS [] []) G (fun q => q.2) (Tw_party P W x1 x2 G) := by
  unfold Tw_party
  exact frIf (frS fq_rf) (frIf (frS fq_rf) (frIf (frIf (frS fq_rf) (frIf (frS fq_rf) (frIf (frCB (frS fq_rf)) (frIf (frCB (frS fq_rf)) (frBd (fr_Tw_viewBits _ _ _ _) (fS_mono rfl rfl) fq_rf (fun _ G2 hG2 => frS hG2)))))) (frS fq_rf)))
theorem fr_Tw_dealt_b86 (P W : Int) (x1 : Int) (s0 : Int) (G : St) : Fr (fS [] []) G (fun q => q.2) (Tw_dealt_b86 P W x1 s0 G) := by
  unfold Tw_dealt_b86
  exact frS fq_rf
theorem fr_Tw_dealt (P W : Int) (x1 : Int) (x2 : Int) (x3 : Int) (G : St) : Fr (fS [] []) G (fun q => q.2) (Tw_dealt P W x1 x2 x3 G) := by
  unfold Tw_dealt
  exact frIf (frS fq_rf) (frIf (frS fq_rf) (frIf (frIf (frS fq_rf) (frIf (frIf (frS fq_rf) (frIf (frS fq_rf) (frCB (frIf (frS fq_rf) (frIf (frCB (frT (fr_Tw_dealt_b86 _ _ _ _ _) (fS_mono rfl rfl) fq_rf)) (frIf (frCB (frT (fr_Tw_dealt_b86 _ _ _ _ _) (fS_mono rfl rfl) fq_rf)) (frCB (frT (fr_Tw_dealt_b86 _ _ _ _ _) (fS_mono rfl rfl) fq_rf)))))))) (frS fq_rf))) (frS fq_rf)))
theorem fr_Tw_share_b61 (P W : Int) (x1 : Int) (x2 : Int) (s0 : Int) (G : St) : Fr (fS [] []) G (fun q => q.2) (Tw_share_b61 P W x1 x2 s0 G) := by
  unfold Tw_share_b61
  exact frCB (frIf (frCB (frS fq_rf)) (frS fq_rf))
theorem fr_Tw_share (P W : Int) (x1 : Int) (x2 : Int) (G : St) : Fr (fS [] []) G (fun q => q.2) (Tw_share P W x1 x2 G) := by
  unfold Tw_share
  exact frIf (frS fq_rf) (frIf (frS fq_rf) (frIf (frIf (frS fq_rf) (frCI (frIf (frIf (frT (fr_Tw_share_b61 _ _ _ _ _ _) (fS_mono rfl rfl) fq_rf) (frCI (frCB (frT (fr_Tw_share_b61 _ _ _ _ _ _) (fS_mono rfl rfl) fq_rf)))) (frS fq_rf)))) (frS fq_rf)))
theorem fr_Tw_view_s357 (P W : Int) (x1 : Int) (x3 : Int) (x5 : Int) (G : St) : Fr (fS [] []) G (Sum.elim (fun q => q.2.2) (fun q => q.2)) (Tw_view_s357 P W x1 x3 x5 G) := by
  unfold Tw_view_s357
  exact frCB (frCB (frBd (fr_Tw_lengthOf _ _ _) (fS_mono rfl rfl) fq_rf (fun _ G5 hG5 => frIf (frEx (frCB (frCB (frBd (fr_Tw_sentBit _ _ _ _ _) (fS_mono rfl rfl) hG5 (fun _ G7 hG7 => frS hG7))))) (frCB (frCB (frBd (fr_Tw_lengthOf _ _ _) (fS_mono rfl rfl) hG5 (fun _ G9 hG9 => frCI (frCI (frS hG9)))))))))
theorem fr_Tw_view_l357 (P W : Int) (x1 : Int) (x3 : Int) (x5 : Int) (G : St) : Fr (fS [] []) G (fun q => q.2) (Tw_view_l357 P W x1 x3 x5 G) := frWh (pi := fun (s : (Int × Int × St)) => s.2.2) (fun (s : (Int × Int × St)) => fr_Tw_view_s357 P W x1 s.1 s.2.1 s.2.2)
theorem fr_Tw_view_b278 (P W : Int) (x1 : Int) (x3 : Int) (x5 : Int) (x6 : Int) (G : St) : Fr (fS [] []) G (Sum.elim (fun q => q.2.2) (fun q => q.2)) (Tw_view_b278 P W x1 x3 x5 x6 G) := by
  unfold Tw_view_b278
  exact frCB (frCI (frCI (frS fq_rf)))
theorem fr_Tw_view_b336 (P W : Int) (x1 : Int) (s0 : Int) (G : St) : Fr (fS [] []) G (fun q => q.2) (Tw_view_b336 P W x1 s0 G) := by
  unfold Tw_view_b336
  exact frS fq_rf
theorem fr_Tw_view_s260 (P W : Int) (x1 : Int) (x3 : Int) (x5 : Int) (x6 : Int) (G : St) : Fr (fS [] []) G (Sum.elim (fun q => q.2.2) (fun q => q.2)) (Tw_view_s260 P W x1 x3 x5 x6 G) := by
  unfold Tw_view_s260
  exact frCB (frIf (frT (fr_Tw_view_b278 _ _ _ _ _ _ _) (fS_mono rfl rfl) fq_rf) (frCD (frIf (frT (fr_Tw_view_b278 _ _ _ _ _ _ _) (fS_mono rfl rfl) fq_rf) (frEx (frCD (frIf (frCB (frT (fr_Tw_view_b336 _ _ _ _ _) (fS_mono rfl rfl) fq_rf)) (frCD (frIf (frCB (frT (fr_Tw_view_b336 _ _ _ _ _) (fS_mono rfl rfl) fq_rf)) (frCB (frT (fr_Tw_view_b336 _ _ _ _ _) (fS_mono rfl rfl) fq_rf))))))))))
theorem fr_Tw_view_l260 (P W : Int) (x1 : Int) (x3 : Int) (x5 : Int) (x6 : Int) (G : St) : Fr (fS [] []) G (fun q => q.2) (Tw_view_l260 P W x1 x3 x5 x6 G) := frWh (pi := fun (s : (Int × Int × St)) => s.2.2) (fun (s : (Int × Int × St)) => fr_Tw_view_s260 P W x1 x3 s.1 s.2.1 s.2.2)
theorem fr_Tw_view_b156 (P W : Int) (x1 : Int) (x3 : Int) (x4 : Int) (x5 : Int) (x7 : Int) (s0 : Int) (s1 : Int) (G : St) : Fr (fS [] []) G (Sum.elim (fun q => q.2.2) (fun q => q.2)) (Tw_view_b156 P W x1 x3 x4 x5 x7 s0 s1 G) := by
  unfold Tw_view_b156
  exact frCI (frCI (frS fq_rf))
theorem fr_Tw_view_b132 (P W : Int) (x1 : Int) (x3 : Int) (x4 : Int) (x5 : Int) (x6 : Int) (x7 : Int) (G : St) : Fr (fS [] []) G (Sum.elim (fun q => q.2.2) (fun q => q.2)) (Tw_view_b132 P W x1 x3 x4 x5 x6 x7 G) := by
  unfold Tw_view_b132
  exact frCB (frIf (frCB (frT (fr_Tw_view_b156 _ _ _ _ _ _ _ _ _ _) (fS_mono rfl rfl) fq_rf)) (frT (fr_Tw_view_b156 _ _ _ _ _ _ _ _ _ _) (fS_mono rfl rfl) fq_rf))
theorem fr_Tw_view_b210 (P W : Int) (x6 : Int) (x7 : Int) (s0 : Int) (s1 : Int) (G : St) : Fr (fS [] []) G (fun q => q.2) (Tw_view_b210 P W x6 x7 s0 s1 G) := by
  unfold Tw_view_b210
  exact frCI (frCB (frCI (frCB (frS fq_rf))))
theorem fr_Tw_view_s109 (P W : Int) (x1 : Int) (x3 : Int) (x4 : Int) (x5 : Int) (x6 : Int) (x7 : Int) (G : St) : Fr (fS [] []) G (Sum.elim (fun q => q.2.2) (fun q => q.2)) (Tw_view_s109 P W x1 x3 x4 x5 x6 x7 G) := by
  unfold Tw_view_s109
  exact frCB (frIf (frCB (frIf (frEx (frIf (frCB (frS fq_rf)) (frCI (frCI (frCD (frT (fr_Tw_view_b210 _ _ _ _ _ _ _) (fS_mono rfl rfl) fq_rf)))))) (frT (fr_Tw_view_b132 _ _ _ _ _ _ _ _ _) (fS_mono rfl rfl) fq_rf))) (frT (fr_Tw_view_b132 _ _ _ _ _ _ _ _ _) (fS_mono rfl rfl) fq_rf))
theorem fr_Tw_view_l109 (P W : Int) (x1 : Int) (x3 : Int) (x4 : Int) (x5 : Int) (x6 : Int) (x7 : Int) (G : St) : Fr (fS [] []) G (fun q => q.2) (Tw_view_l109 P W x1 x3 x4 x5 x6 x7 G) := frWh (pi := fun (s : (Int × Int × St)) => s.2.2) (fun (s : (Int × Int × St)) => fr_Tw_view_s109 P W x1 x3 x4 x5 s.1 s.2.1 s.2.2)
theorem fr_Tw_view_b104 (P W : Int) (x1 : Int) (x3 : Int) (x4 : Int) (x5 : Int) (s0 : Int) (G : St) : Fr (fS [] []) G (fun q => q.2) (Tw_view_b104 P W x1 x3 x4 x5 s0 G) := by
  unfold Tw_view_b104
  exact frT (fr_Tw_view_l109 _ _ _ _ _ _ _ _ _) (fS_mono rfl rfl) fq_rf
theorem fr_Tw_view_b82 (P W : Int) (x1 : Int) (x3 : Int) (x4 : Int) (s0 : Int) (G : St) : Fr (fS [] []) G (fun q => q.2) (Tw_view_b82 P W x1 x3 x4 s0 G) := by
  unfold Tw_view_b82
  exact frIf (frT (fr_Tw_view_b104 _ _ _ _ _ _ _ _) (fS_mono rfl rfl) fq_rf) (frCI (frCI (frCD (frT (fr_Tw_view_b104 _ _ _ _ _ _ _ _) (fS_mono rfl rfl) fq_rf))))
theorem fr_Tw_view_b42 (P W : Int) (x1 : Int) (x2 : Int) (s0 : Int) (s2 : Int) (G : St) : Fr (fS [] []) G (fun q => q.2) (Tw_view_b42 P W x1 x2 s0 s2 G) := by
  unfold Tw_view_b42
  exact frBd (fr_Tw_viewBits _ _ _ _) (fS_mono rfl rfl) fq_rf (fun _ G2 hG2 => frIf (frCB (frCI (frIf (frT (fr_Tw_view_b82 _ _ _ _ _ _ _) (fS_mono rfl rfl) hG2) (frCI (frCI (frCI (frIf (frT (fr_Tw_view_l260 _ _ _ _ _ _ _) (fS_mono rfl rfl) hG2) (frCI (frCI (frVl (fun _ => frCI (frT (fr_Tw_view_l357 _ _ _ _ _ _) (fS_mono rfl rfl) hG2)))))))))))) (frS hG2))
theorem fr_Tw_view (P W : Int) (x1 : Int) (x2 : Int) (G : St) : Fr (fS [] []) G (fun q => q.2) (Tw_view P W x1 x2 G) := by
  unfold Tw_view
  exact frIf (frS fq_rf) (frIf (frS fq_rf) (frIf (frIf (frS fq_rf) (frT (fr_Tw_view_b42 _ _ _ _ _ _ _) (fS_mono rfl rfl) fq_rf)) (frS fq_rf)))
theorem fr_Tw_told_b31 (P W : Int) (G : St) : Fr (fS [] []) G (fun q => q.2) (Tw_told_b31 P W G) := by
  unfold Tw_told_b31
  exact frS fq_rf
theorem fr_Tw_told_s59 (P W : Int) (x2 : Int) (x3 : Int) (x5 : Int) (G : St) : Fr (fS [] []) G (Sum.elim (fun q => q.2.2) (fun q => q.2)) (Tw_told_s59 P W x2 x3 x5 G) := by
  unfold Tw_told_s59
  exact frCB (frIf (frCI (frCI (frCB (frBd (fr_Tw_shareOf _ _) (fS_mono rfl rfl) fq_rf (fun _ G2 hG2 => frBd (fr_Tw_parity _ _) (fS_mono rfl rfl) hG2 (fun _ G4 hG4 => frCL (frCI (frS hG4)))))))) (frEx (frS fq_rf)))
theorem fr_Tw_told_l59 (P W : Int) (x2 : Int) (x3 : Int) (x5 : Int) (G : St) : Fr (fS [] []) G (fun q => q.2) (Tw_told_l59 P W x2 x3 x5 G) := frWh (pi := fun (s : (Int × Int × St)) => s.2.2) (fun (s : (Int × Int × St)) => fr_Tw_told_s59 P W x2 s.1 s.2.1 s.2.2)
theorem fr_Tw_told (P W : Int) (x1 : Int) (x2 : Int) (G : St) : Fr (fS [] []) G (fun q => q.2) (Tw_told P W x1 x2 G) := by
  unfold Tw_told
  exact frIf (frT (fr_Tw_told_b31 _ _ _) (fS_mono rfl rfl) fq_rf) (frIf (frT (fr_Tw_told_b31 _ _ _) (fS_mono rfl rfl) fq_rf) (frIf (frIf (frT (fr_Tw_told_b31 _ _ _) (fS_mono rfl rfl) fq_rf) (frIf (frCB (frCI (frIf (frS fq_rf) (frT (fr_Tw_told_l59 _ _ _ _ _ _) (fS_mono rfl rfl) fq_rf)))) (frT (fr_Tw_told_b31 _ _ _) (fS_mono rfl rfl) fq_rf))) (frT (fr_Tw_told_b31 _ _ _) (fS_mono rfl rfl) fq_rf)))
theorem fr_Tw_inputWord (x1 : Int) (G : St) : Fr (fS [] []) G (fun q => q.2) (Tw_inputWord x1 G) := by
  unfold Tw_inputWord
  exact frIf (frCB (frS fq_rf)) (frCB (frS fq_rf))
theorem fr_Tw_signed (P W : Int) (x1 : Int) (G : St) : Fr (fS [] []) G (fun q => q.2) (Tw_signed P W x1 G) := by
  unfold Tw_signed
  exact frCI (frIf (frCL (frS fq_rf)) (frS fq_rf))
theorem fr_Tw_meanBinary_b84 (P W : Int) (x2 : Int) (x4 : Int) (G : St) : Fr (fS [] []) G (fun q => q.2) (Tw_meanBinary_b84 P W x2 x4 G) := by
  unfold Tw_meanBinary_b84
  exact frS fq_rf
theorem fr_Tw_meanBinary_b89 (P W : Int) (x2 : Int) (x4 : Int) (G : St) : Fr (fS [] []) G (fun q => q.2) (Tw_meanBinary_b89 P W x2 x4 G) := by
  unfold Tw_meanBinary_b89
  exact frS fq_rf
theorem fr_Tw_meanBinary_b94 (P W : Int) (x2 : Int) (x4 : Int) (G : St) : Fr (fS [] []) G (fun q => q.2) (Tw_meanBinary_b94 P W x2 x4 G) := by
  unfold Tw_meanBinary_b94
  exact frS fq_rf
theorem fr_Tw_meanBinary_b99 (P W : Int) (x2 : Int) (x4 : Int) (G : St) : Fr (fS [] []) G (fun q => q.2) (Tw_meanBinary_b99 P W x2 x4 G) := by
  unfold Tw_meanBinary_b99
  exact frS fq_rf
theorem fr_Tw_meanBinary_b112 (P W : Int) (x2 : Int) (x4 : Int) (G : St) : Fr (fS [] []) G (fun q => q.2) (Tw_meanBinary_b112 P W x2 x4 G) := by
  unfold Tw_meanBinary_b112
  exact frS fq_rf
theorem fr_Tw_meanBinary_b125 (P W : Int) (x2 : Int) (x4 : Int) (G : St) : Fr (fS [] []) G (fun q => q.2) (Tw_meanBinary_b125 P W x2 x4 G) := by
  unfold Tw_meanBinary_b125
  exact frBd (fr_Tw_signed _ _ _ _) (fS_mono rfl rfl) fq_rf (fun _ G2 hG2 => frBd (fr_Tw_signed _ _ _ _) (fS_mono rfl rfl) hG2 (fun _ G4 hG4 => frS hG4))
theorem fr_Tw_meanBinary_b146 (P W : Int) (x2 : Int) (x4 : Int) (G : St) : Fr (fS [] []) G (fun q => q.2) (Tw_meanBinary_b146 P W x2 x4 G) := by
  unfold Tw_meanBinary_b146
  exact frBd (fr_Tw_signed _ _ _ _) (fS_mono rfl rfl) fq_rf (fun _ G6 hG6 => frBd (fr_Tw_signed _ _ _ _) (fS_mono rfl rfl) hG6 (fun _ G8 hG8 => frS hG8))
theorem fr_Tw_meanBinary_b167 (P W : Int) (x2 : Int) (x4 : Int) (G : St) : Fr (fS [] []) G (fun q => q.2) (Tw_meanBinary_b167 P W x2 x4 G) := by
  unfold Tw_meanBinary_b167
  exact frBd (fr_Tw_signed _ _ _ _) (fS_mono rfl rfl) fq_rf (fun _ G10 hG10 => frBd (fr_Tw_signed _ _ _ _) (fS_mono rfl rfl) hG10 (fun _ G12 hG12 => frS hG12))
theorem fr_Tw_meanBinary_b188 (P W : Int) (x2 : Int) (x4 : Int) (G : St) : Fr (fS [] []) G (fun q => q.2) (Tw_meanBinary_b188 P W x2 x4 G) := by
  unfold Tw_meanBinary_b188
  exact frBd (fr_Tw_signed _ _ _ _) (fS_mono rfl rfl) fq_rf (fun _ G14 hG14 => frBd (fr_Tw_signed _ _ _ _) (fS_mono rfl rfl) hG14 (fun _ G16 hG16 => frS hG16))
theorem fr_Tw_meanBinary_b209 (P W : Int) (x2 : Int) (x4 : Int) (G : St) : Fr (fS [] []) G (fun q => q.2) (Tw_meanBinary_b209 P W x2 x4 G) := by
  unfold Tw_meanBinary_b209
  exact frS fq_rf
theorem fr_Tw_meanBinary_b220 (P W : Int) (x2 : Int) (x4 : Int) (G : St) : Fr (fS [] []) G (fun q => q.2) (Tw_meanBinary_b220 P W x2 x4 G) := by
  unfold Tw_meanBinary_b220
  exact frS fq_rf
theorem fr_Tw_meanBinary_b226 (P W : Int) (x2 : Int) (x4 : Int) (G : St) : Fr (fS [] []) G (fun q => q.2) (Tw_meanBinary_b226 P W x2 x4 G) := by
  unfold Tw_meanBinary_b226
  exact frCL (frS fq_rf)
theorem fr_Tw_meanBinary_b236 (P W : Int) (x2 : Int) (x4 : Int) (G : St) : Fr (fS [] []) G (fun q => q.2) (Tw_meanBinary_b236 P W x2 x4 G) := by
  unfold Tw_meanBinary_b236
  exact frCL (frS fq_rf)
theorem fr_Tw_meanBinary_b246 (P W : Int) (x2 : Int) (x4 : Int) (G : St) : Fr (fS [] []) G (fun q => q.2) (Tw_meanBinary_b246 P W x2 x4 G) := by
  unfold Tw_meanBinary_b246
  exact frS fq_rf
theorem fr_Tw_meanBinary_b256 (P W : Int) (x2 : Int) (x4 : Int) (G : St) : Fr (fS [] []) G (fun q => q.2) (Tw_meanBinary_b256 P W x2 x4 G) := by
  unfold Tw_meanBinary_b256
  exact frIf (frS fq_rf) (frCD (frS fq_rf))
theorem fr_Tw_meanBinary_b275 (P W : Int) (x2 : Int) (x4 : Int) (G : St) : Fr (fS [] []) G (fun q => q.2) (Tw_meanBinary_b275 P W x2 x4 G) := by
  unfold Tw_meanBinary_b275
  exact frIf (frS fq_rf) (frCD (frS fq_rf))
theorem fr_Tw_meanBinary (P W : Int) (x1 : Int) (x2 : Int) (x4 : Int) (G : St) : Fr (fS [] []) G (fun q => q.2) (Tw_meanBinary P W x1 x2 x4 G) := by
  unfold Tw_meanBinary
  exact frSwt (List.forall_mem_cons.mpr ⟨frT (fr_Tw_meanBinary_b84 _ _ _ _ _) (fS_mono rfl rfl) fq_rf, (List.forall_mem_cons.mpr ⟨frT (fr_Tw_meanBinary_b89 _ _ _ _ _) (fS_mono rfl rfl) fq_rf, (List.forall_mem_cons.mpr ⟨frT (fr_Tw_meanBinary_b84 _ _ _ _ _) (fS_mono rfl rfl) fq_rf, (List.forall_mem_cons.mpr ⟨frT (fr_Tw_meanBinary_b94 _ _ _ _ _) (fS_mono rfl rfl) fq_rf, (List.forall_mem_cons.mpr ⟨frT (fr_Tw_meanBinary_b89 _ _ _ _ _) (fS_mono rfl rfl) fq_rf, (List.forall_mem_cons.mpr ⟨frT (fr_Tw_meanBinary_b99 _ _ _ _ _) (fS_mono rfl rfl) fq_rf, (List.forall_mem_cons.mpr ⟨frT (fr_Tw_meanBinary_b112 _ _ _ _ _) (fS_mono rfl rfl) fq_rf, (List.forall_mem_cons.mpr ⟨frT (fr_Tw_meanBinary_b125 _ _ _ _ _) (fS_mono rfl rfl) fq_rf, (List.forall_mem_cons.mpr ⟨frT (fr_Tw_meanBinary_b146 _ _ _ _ _) (fS_mono rfl rfl) fq_rf, (List.forall_mem_cons.mpr ⟨frT (fr_Tw_meanBinary_b167 _ _ _ _ _) (fS_mono rfl rfl) fq_rf, (List.forall_mem_cons.mpr ⟨frT (fr_Tw_meanBinary_b188 _ _ _ _ _) (fS_mono rfl rfl) fq_rf, (List.forall_mem_cons.mpr ⟨frT (fr_Tw_meanBinary_b209 _ _ _ _ _) (fS_mono rfl rfl) fq_rf, (List.forall_mem_cons.mpr ⟨frT (fr_Tw_meanBinary_b220 _ _ _ _ _) (fS_mono rfl rfl) fq_rf, (List.forall_mem_cons.mpr ⟨frT (fr_Tw_meanBinary_b226 _ _ _ _ _) (fS_mono rfl rfl) fq_rf, (List.forall_mem_cons.mpr ⟨frT (fr_Tw_meanBinary_b236 _ _ _ _ _) (fS_mono rfl rfl) fq_rf, (List.forall_mem_cons.mpr ⟨frT (fr_Tw_meanBinary_b246 _ _ _ _ _) (fS_mono rfl rfl) fq_rf, (List.forall_mem_cons.mpr ⟨frT (fr_Tw_meanBinary_b256 _ _ _ _ _) (fS_mono rfl rfl) fq_rf, (fun _ h => nomatch h)⟩)⟩)⟩)⟩)⟩)⟩)⟩)⟩)⟩)⟩)⟩)⟩)⟩)⟩)⟩)⟩)⟩) (frT (fr_Tw_meanBinary_b275 _ _ _ _ _) (fS_mono rfl rfl) fq_rf)
theorem fr_Tw_pushWord (x1 : Int) (G : St) : Fr (fS [215] [(100, 115)]) G (fun q => q.2) (Tw_pushWord x1 G) := by
  unfold Tw_pushWord
  exact frCB (frTk (fq_upL rfl fq_rf) (fun G1 hG1 => frCI (frTk (fq_upK rfl hG1) (fun G2 hG2 => frS hG2))))
theorem fr_Tw_meanOperand_b596 (P W : Int) (x1 : Int) (G : St) : Fr (fS [] []) G (fun q => q.2) (Tw_meanOperand_b596 P W x1 G) := by
  unfold Tw_meanOperand_b596
  exact frCI (frS fq_rf)
theorem fr_Tw_meanOperand_b72 (P W : Int) (x1 : Int) (G : St) : Fr (fS [215] [(100, 115)]) G (fun q => q.2) (Tw_meanOperand_b72 P W x1 G) := by
  unfold Tw_meanOperand_b72
  exact frCB (frBd (fr_Tw_pushWord _ _) (fS_mono rfl rfl) fq_rf (fun _ G2 hG2 => frT (fr_Tw_meanOperand_b596 _ _ _ _) (fS_mono rfl rfl) hG2))
theorem fr_Tw_meanOperand_b101 (P W : Int) (x1 : Int) (s0 : Int) (G : St) : Fr (fS [215] [(100, 115)]) G (fun q => q.2) (Tw_meanOperand_b101 P W x1 s0 G) := by
  unfold Tw_meanOperand_b101
  exact frBd (fr_Tw_pushWord _ _) (fS_mono rfl rfl) fq_rf (fun _ G4 hG4 => frT (fr_Tw_meanOperand_b596 _ _ _ _) (fS_mono rfl rfl) hG4)
theorem fr_Tw_meanOperand_b85 (P W : Int) (x1 : Int) (G : St) : Fr (fS [215] [(100, 115)]) G (fun q => q.2) (Tw_meanOperand_b85 P W x1 G) := by
  unfold Tw_meanOperand_b85
  exact frCB (frT (fr_Tw_meanOperand_b101 _ _ _ _ _) (fS_mono rfl rfl) fq_rf)
theorem fr_Tw_meanOperand_b210 (P W : Int) (x1 : Int) (s0 : Int) (G : St) : Fr (fS [215] [(100, 115)]) G (fun q => q.2) (Tw_meanOperand_b210 P W x1 s0 G) := by
  unfold Tw_meanOperand_b210
  exact frBd (fr_Tw_pushWord _ _) (fS_mono rfl rfl) fq_rf (fun _ G6 hG6 => frT (fr_Tw_meanOperand_b596 _ _ _ _) (fS_mono rfl rfl) hG6)
theorem fr_Tw_meanOperand_b201 (P W : Int) (x1 : Int) (s0 : Int) (G : St) : Fr (fS [215] [(100, 115)]) G (fun q => q.2) (Tw_meanOperand_b201 P W x1 s0 G) := by
  unfold Tw_meanOperand_b201
  exact frCB (frCB (frCI (frCB (frT (fr_Tw_meanOperand_b210 _ _ _ _ _) (fS_mono rfl rfl) fq_rf))))
theorem fr_Tw_meanOperand_b107 (P W : Int) (x1 : Int) (G : St) : Fr (fS [215] [(100, 115)]) G (fun q => q.2) (Tw_meanOperand_b107 P W x1 G) := by
  unfold Tw_meanOperand_b107
  exact frCB (frIf (frCB (frBd (fr_Tw_inputWord _ _) (fS_mono rfl rfl) fq_rf (fun _ G8 hG8 => frT (fr_Tw_meanOperand_b210 _ _ _ _ _) (fS_mono rfl rfl) hG8))) (frIf (frCB (frCB (frT (fr_Tw_meanOperand_b210 _ _ _ _ _) (fS_mono rfl rfl) fq_rf))) (frIf (frCB (frCB (frT (fr_Tw_meanOperand_b210 _ _ _ _ _) (fS_mono rfl rfl) fq_rf))) (frIf (frCI (frT (fr_Tw_meanOperand_b201 _ _ _ _ _) (fS_mono rfl rfl) fq_rf)) (frT (fr_Tw_meanOperand_b201 _ _ _ _ _) (fS_mono rfl rfl) fq_rf)))))
theorem fr_Tw_meanOperand_b293 (P W : Int) (x1 : Int) (x4 : Int) (G : St) : Fr (fS [215] [(100, 115)]) G (fun q => q.2) (Tw_meanOperand_b293 P W x1 x4 G) := by
  unfold Tw_meanOperand_b293
  exact frBd (fr_Tw_pushWord _ _) (fS_mono rfl rfl) fq_rf (fun _ G11 hG11 => frT (fr_Tw_meanOperand_b596 _ _ _ _) (fS_mono rfl rfl) hG11)
theorem fr_Tw_meanOperand_b291 (P W : Int) (x1 : Int) (s0 : Int) (G : St) : Fr (fS [215] [(100, 115)]) G (fun q => q.2) (Tw_meanOperand_b291 P W x1 s0 G) := by
  unfold Tw_meanOperand_b291
  exact frT (fr_Tw_meanOperand_b293 _ _ _ _ _) (fS_mono rfl rfl) fq_rf
theorem fr_Tw_meanOperand_b216 (P W : Int) (x1 : Int) (G : St) : Fr (fS [215] [(100, 115)]) G (fun q => q.2) (Tw_meanOperand_b216 P W x1 G) := by
  unfold Tw_meanOperand_b216
  exact frCI (frTk (fq_upK rfl fq_rf) (fun G9 hG9 => frCB (frCB (frIf (frCB (frIf (frCB (frCI (frBd (fr_Tw_inputWord _ _) (fS_mono rfl rfl) hG9 (fun _ G13 hG13 => frT (fr_Tw_meanOperand_b291 _ _ _ _ _) (fS_mono rfl rfl) hG13)))) (frCB (frCI (frCB (frT (fr_Tw_meanOperand_b291 _ _ _ _ _) (fS_mono rfl rfl) hG9)))))) (frT (fr_Tw_meanOperand_b293 _ _ _ _ _) (fS_mono rfl rfl) hG9)))))
theorem fr_Tw_meanOperand_b302 (P W : Int) (x1 : Int) (G : St) : Fr (fS [212, 213] [(100, 110)]) G (fun q => q.2) (Tw_meanOperand_b302 P W x1 G) := by
  unfold Tw_meanOperand_b302
  exact frCB (frCB (frCI (frCB (frTk (fq_upL rfl fq_rf) (fun G14 hG14 => frCI (frCB (frTk (fq_upL rfl hG14) (fun G15 hG15 => frCI (frTk (fq_upK rfl hG15) (fun G16 hG16 => frBd (fr_Tw_bodyOf _ _) (fS_mono rfl rfl) hG16 (fun _ G18 hG18 => frS hG18)))))))))))
theorem fr_Tw_meanOperand_b357 (P W : Int) (x1 : Int) (G : St) : Fr (fS [215] [(100, 115)]) G (fun q => q.2) (Tw_meanOperand_b357 P W x1 G) := by
  unfold Tw_meanOperand_b357
  exact frCI (frTk (fq_upK rfl fq_rf) (fun G19 hG19 => frCI (frCI (frCB (frCB (frCB (frTk (fq_upL rfl hG19) (fun G20 hG20 => frT (fr_Tw_meanOperand_b596 _ _ _ _) (fS_mono rfl rfl) hG20))))))))
theorem fr_Tw_meanOperand_b475 (P W : Int) (x1 : Int) (s0 : Int) (s1 : Int) (G : St) : Fr (fS [215] []) G (fun q => q.2) (Tw_meanOperand_b475 P W x1 s0 s1 G) := by
  unfold Tw_meanOperand_b475
  exact frCB (frTk (fq_upL rfl fq_rf) (fun G21 hG21 => frT (fr_Tw_meanOperand_b596 _ _ _ _) (fS_mono rfl rfl) hG21))
theorem fr_Tw_meanOperand_b405 (P W : Int) (x1 : Int) (G : St) : Fr (fS [215] []) G (fun q => q.2) (Tw_meanOperand_b405 P W x1 G) := by
  unfold Tw_meanOperand_b405
  exact frCI (frCB (frCI (frCB (frIf (frCL (frT (fr_Tw_meanOperand_b475 _ _ _ _ _ _) (fS_mono rfl rfl) fq_rf)) (frCB (frIf (frCL (frT (fr_Tw_meanOperand_b475 _ _ _ _ _ _) (fS_mono rfl rfl) fq_rf)) (frT (fr_Tw_meanOperand_b475 _ _ _ _ _ _) (fS_mono rfl rfl) fq_rf)))))))
theorem fr_Tw_meanOperand_b479 (P W : Int) (x1 : Int) (G : St) : Fr (fS [215] [(100, 115)]) G (fun q => q.2) (Tw_meanOperand_b479 P W x1 G) := by
  unfold Tw_meanOperand_b479
  exact frCI (frTk (fq_upK rfl fq_rf) (fun G22 hG22 => frCI (frCB (frCI (frCB (frCB (frBd (fr_Tw_meanBinary _ _ _ _ _ _) (fS_mono rfl rfl) hG22 (fun _ G24 hG24 => frCB (frTk (fq_upL rfl hG24) (fun G25 hG25 => frT (fr_Tw_meanOperand_b596 _ _ _ _) (fS_mono rfl rfl) hG25))))))))))
theorem fr_Tw_meanOperand_b592 (P W : Int) (x1 : Int) (s0 : Int) (s1 : Int) (G : St) : Fr (fS [215] []) G (fun q => q.2) (Tw_meanOperand_b592 P W x1 s0 s1 G) := by
  unfold Tw_meanOperand_b592
  exact frCB (frTk (fq_upL rfl fq_rf) (fun G27 hG27 => frT (fr_Tw_meanOperand_b596 _ _ _ _) (fS_mono rfl rfl) hG27))
theorem fr_Tw_meanOperand_b533 (P W : Int) (x1 : Int) (G : St) : Fr (fS [215] [(100, 115)]) G (fun q => q.2) (Tw_meanOperand_b533 P W x1 G) := by
  unfold Tw_meanOperand_b533
  exact frCI (frTk (fq_upK rfl fq_rf) (fun G26 hG26 => frCI (frCI (frCB (frIf (frCB (frT (fr_Tw_meanOperand_b592 _ _ _ _ _ _) (fS_mono rfl rfl) hG26)) (frCI (frCB (frT (fr_Tw_meanOperand_b592 _ _ _ _ _ _) (fS_mono rfl rfl) hG26))))))))
theorem fr_Tw_meanOperand (P W : Int) (x1 : Int) (G : St) : Fr (fS [212, 213, 215] [(100, 110), (100, 115)]) G (fun q => q.2) (Tw_meanOperand P W x1 G) := by
  unfold Tw_meanOperand
  exact frCB (frSwt (List.forall_mem_cons.mpr ⟨frT (fr_Tw_meanOperand_b72 _ _ _ _) (fS_mono rfl rfl) fq_rf, (List.forall_mem_cons.mpr ⟨frT (fr_Tw_meanOperand_b85 _ _ _ _) (fS_mono rfl rfl) fq_rf, (List.forall_mem_cons.mpr ⟨frT (fr_Tw_meanOperand_b85 _ _ _ _) (fS_mono rfl rfl) fq_rf, (List.forall_mem_cons.mpr ⟨frT (fr_Tw_meanOperand_b107 _ _ _ _) (fS_mono rfl rfl) fq_rf, (List.forall_mem_cons.mpr ⟨frT (fr_Tw_meanOperand_b596 _ _ _ _) (fS_mono rfl rfl) fq_rf, (List.forall_mem_cons.mpr ⟨frT (fr_Tw_meanOperand_b216 _ _ _ _) (fS_mono rfl rfl) fq_rf, (List.forall_mem_cons.mpr ⟨frT (fr_Tw_meanOperand_b596 _ _ _ _) (fS_mono rfl rfl) fq_rf, (List.forall_mem_cons.mpr ⟨frT (fr_Tw_meanOperand_b302 _ _ _ _) (fS_mono rfl rfl) fq_rf, (List.forall_mem_cons.mpr ⟨frT (fr_Tw_meanOperand_b596 _ _ _ _) (fS_mono rfl rfl) fq_rf, (List.forall_mem_cons.mpr ⟨frT (fr_Tw_meanOperand_b357 _ _ _ _) (fS_mono rfl rfl) fq_rf, (List.forall_mem_cons.mpr ⟨frT (fr_Tw_meanOperand_b405 _ _ _ _) (fS_mono rfl rfl) fq_rf, (List.forall_mem_cons.mpr ⟨frT (fr_Tw_meanOperand_b479 _ _ _ _) (fS_mono rfl rfl) fq_rf, (List.forall_mem_cons.mpr ⟨frT (fr_Tw_meanOperand_b533 _ _ _ _) (fS_mono rfl rfl) fq_rf, (fun _ h => nomatch h)⟩)⟩)⟩)⟩)⟩)⟩)⟩)⟩)⟩)⟩)⟩)⟩)⟩) (frT (fr_Tw_meanOperand_b596 _ _ _ _) (fS_mono rfl rfl) fq_rf))
theorem fr_Tw_meanStatement_b558 (x1 : Int) (G : St) : Fr (fS [] []) G (fun q => q.2) (Tw_meanStatement_b558 x1 G) := by
  unfold Tw_meanStatement_b558
  exact frCI (frS fq_rf)
theorem fr_Tw_meanStatement_b151 (x1 : Int) (x2 : Int) (x4 : Int) (x5 : Int) (s0 : Int) (s1 : Int) (G : St) : Fr (fS [217] []) G (Sum.elim (fun q => q.2) (fun q => q.2)) (Tw_meanStatement_b151 x1 x2 x4 x5 s0 s1 G) := by
  unfold Tw_meanStatement_b151
  exact frIf (frCB (frCI (frCB (frTk (fq_upL rfl fq_rf) (fun G2 hG2 => frCI (frS hG2)))))) (frEx (frT (fr_Tw_meanStatement_b558 _ _) (fS_mono rfl rfl) fq_rf))
theorem fr_Tw_meanStatement_s138 (x1 : Int) (x2 : Int) (x4 : Int) (x5 : Int) (G : St) : Fr (fS [217] []) G (Sum.elim (fun q => q.2) (fun q => q.2)) (Tw_meanStatement_s138 x1 x2 x4 x5 G) := by
  unfold Tw_meanStatement_s138
  exact frT (fr_Tw_meanStatement_b151 _ _ _ _ _ _ _) (fS_mono rfl rfl) fq_rf
theorem fr_Tw_meanStatement_l138 (x1 : Int) (x2 : Int) (x4 : Int) (x5 : Int) (G : St) : Fr (fS [217] []) G (fun q => q.2) (Tw_meanStatement_l138 x1 x2 x4 x5 G) := frWh (pi := fun (s : (Int × St)) => s.2) (fun (s : (Int × St)) => fr_Tw_meanStatement_s138 x1 x2 x4 s.1 s.2)
theorem fr_Tw_meanStatement_b119 (x1 : Int) (x2 : Int) (G : St) : Fr (fS [217] []) G (fun q => q.2) (Tw_meanStatement_b119 x1 x2 G) := by
  unfold Tw_meanStatement_b119
  exact frCB (frVl (fun _ => frT (fr_Tw_meanStatement_l138 _ _ _ _ _) (fS_mono rfl rfl) fq_rf))
theorem fr_Tw_meanStatement_b84 (x1 : Int) (G : St) : Fr (fS [217] [(100, 115)]) G (fun q => q.2) (Tw_meanStatement_b84 x1 G) := by
  unfold Tw_meanStatement_b84
  exact frCB (frIf (frT (fr_Tw_meanStatement_b119 _ _ _) (fS_mono rfl rfl) fq_rf) (frCI (frTk (fq_upK rfl fq_rf) (fun G3 hG3 => frCB (frT (fr_Tw_meanStatement_b119 _ _ _) (fS_mono rfl rfl) hG3)))))
theorem fr_Tw_meanStatement_b178 (x1 : Int) (G : St) : Fr (fS [] []) G (fun q => q.2) (Tw_meanStatement_b178 x1 G) := by
  unfold Tw_meanStatement_b178
  exact frCB (frCI (frS fq_rf))
theorem fr_Tw_meanStatement_b188 (G : St) : Fr (fS [215] [(100, 110), (100, 115)]) G (fun q => q.2) (Tw_meanStatement_b188 G) := by
  unfold Tw_meanStatement_b188
  exact frCI (frTk (fq_upK rfl fq_rf) (fun G4 hG4 => frCB (frCI (frCB (frCB (frTk (fq_upL rfl hG4) (fun G5 hG5 => frCB (frCI (frTk (fq_upK rfl hG5) (fun G6 hG6 => frCB (frS hG6)))))))))))
theorem fr_Tw_meanStatement_b248 (x1 : Int) (G : St) : Fr (fS [218] [(100, 115), (100, 118)]) G (fun q => q.2) (Tw_meanStatement_b248 x1 G) := by
  unfold Tw_meanStatement_b248
  exact frCI (frTk (fq_upK rfl fq_rf) (fun G7 hG7 => frCB (frCB (frTk (fq_upL rfl hG7) (fun G8 hG8 => frCI (frTk (fq_upK rfl hG8) (fun G9 hG9 => frT (fr_Tw_meanStatement_b558 _ _) (fS_mono rfl rfl) hG9)))))))
theorem fr_Tw_meanStatement_b289 (x1 : Int) (G : St) : Fr (fS [217] [(100, 115)]) G (fun q => q.2) (Tw_meanStatement_b289 x1 G) := by
  unfold Tw_meanStatement_b289
  exact frCI (frTk (fq_upK rfl fq_rf) (fun G10 hG10 => frCB (frCB (frCB (frTk (fq_upL rfl hG10) (fun G11 hG11 => frT (fr_Tw_meanStatement_b558 _ _) (fS_mono rfl rfl) hG11))))))
theorem fr_Tw_meanStatement_b322 (x1 : Int) (G : St) : Fr (fS [217] [(100, 115)]) G (fun q => q.2) (Tw_meanStatement_b322 x1 G) := by
  unfold Tw_meanStatement_b322
  exact frCI (frTk (fq_upK rfl fq_rf) (fun G12 hG12 => frCB (frCB (frIf (frCB (frCB (frCI (frCI (frCB (frCB (frTk (fq_upL rfl hG12) (fun G13 hG13 => frT (fr_Tw_meanStatement_b558 _ _) (fS_mono rfl rfl) hG13)))))))) (frT (fr_Tw_meanStatement_b558 _ _) (fS_mono rfl rfl) hG12)))))
theorem fr_Tw_meanStatement_b388 (x1 : Int) (G : St) : Fr (fS [] [(100, 115)]) G (fun q => q.2) (Tw_meanStatement_b388 x1 G) := by
  unfold Tw_meanStatement_b388
  exact frCI (frTk (fq_upK rfl fq_rf) (fun G14 hG14 => frCB (frIf (frCB (frCI (frS hG14))) (frT (fr_Tw_meanStatement_b558 _ _) (fS_mono rfl rfl) hG14))))
theorem fr_Tw_meanStatement_b421 (x1 : Int) (G : St) : Fr (fS [] []) G (fun q => q.2) (Tw_meanStatement_b421 x1 G) := by
  unfold Tw_meanStatement_b421
  exact frCB (frCI (frS fq_rf))
theorem fr_Tw_meanStatement_b430 (x1 : Int) (G : St) : Fr (fS [208, 209] [(100, 115)]) G (fun q => q.2) (Tw_meanStatement_b430 x1 G) := by
  unfold Tw_meanStatement_b430
  exact frCI (frTk (fq_upK rfl fq_rf) (fun G15 hG15 => frCB (frCI (frCB (frIf (frCB (frCI (frS hG15))) (frCB (frCB (frTk (fq_upL rfl hG15) (fun G16 hG16 => frCI (frCB (frCB (frTk (fq_upL rfl hG16) (fun G17 hG17 => frT (fr_Tw_meanStatement_b558 _ _) (fS_mono rfl rfl) hG17)))))))))))))
theorem fr_Tw_meanStatement_b508 (x1 : Int) (G : St) : Fr (fS [208] []) G (fun q => q.2) (Tw_meanStatement_b508 x1 G) := by
  unfold Tw_meanStatement_b508
  exact frCB (frCB (frCB (frCB (frIf (frCB (frCB (frCL (frCB (frTk (fq_upL rfl fq_rf) (fun G18 hG18 => frCB (frCI (frS hG18)))))))) (frT (fr_Tw_meanStatement_b558 _ _) (fS_mono rfl rfl) fq_rf)))))
theorem fr_Tw_meanStatement (x1 : Int) (G : St) : Fr (fS [208, 209, 215, 217, 218] [(100, 110), (100, 115), (100, 118)]) G (fun q => q.2) (Tw_meanStatement x1 G) := by
  unfold Tw_meanStatement
  exact frCB (frSwt (List.forall_mem_cons.mpr ⟨frT (fr_Tw_meanStatement_b84 _ _) (fS_mono rfl rfl) fq_rf, (List.forall_mem_cons.mpr ⟨frT (fr_Tw_meanStatement_b178 _ _) (fS_mono rfl rfl) fq_rf, (List.forall_mem_cons.mpr ⟨frT (fr_Tw_meanStatement_b558 _ _) (fS_mono rfl rfl) fq_rf, (List.forall_mem_cons.mpr ⟨frT (fr_Tw_meanStatement_b558 _ _) (fS_mono rfl rfl) fq_rf, (List.forall_mem_cons.mpr ⟨frT (fr_Tw_meanStatement_b188 _) (fS_mono rfl rfl) fq_rf, (List.forall_mem_cons.mpr ⟨frT (fr_Tw_meanStatement_b248 _ _) (fS_mono rfl rfl) fq_rf, (List.forall_mem_cons.mpr ⟨frT (fr_Tw_meanStatement_b558 _ _) (fS_mono rfl rfl) fq_rf, (List.forall_mem_cons.mpr ⟨frT (fr_Tw_meanStatement_b289 _ _) (fS_mono rfl rfl) fq_rf, (List.forall_mem_cons.mpr ⟨frT (fr_Tw_meanStatement_b558 _ _) (fS_mono rfl rfl) fq_rf, (List.forall_mem_cons.mpr ⟨frT (fr_Tw_meanStatement_b322 _ _) (fS_mono rfl rfl) fq_rf, (List.forall_mem_cons.mpr ⟨frT (fr_Tw_meanStatement_b388 _ _) (fS_mono rfl rfl) fq_rf, (List.forall_mem_cons.mpr ⟨frT (fr_Tw_meanStatement_b421 _ _) (fS_mono rfl rfl) fq_rf, (List.forall_mem_cons.mpr ⟨frT (fr_Tw_meanStatement_b558 _ _) (fS_mono rfl rfl) fq_rf, (List.forall_mem_cons.mpr ⟨frT (fr_Tw_meanStatement_b558 _ _) (fS_mono rfl rfl) fq_rf, (List.forall_mem_cons.mpr ⟨frT (fr_Tw_meanStatement_b430 _ _) (fS_mono rfl rfl) fq_rf, (List.forall_mem_cons.mpr ⟨frT (fr_Tw_meanStatement_b508 _ _) (fS_mono rfl rfl) fq_rf, (fun _ h => nomatch h)⟩)⟩)⟩)⟩)⟩)⟩)⟩)⟩)⟩)⟩)⟩)⟩)⟩)⟩)⟩)⟩) (frT (fr_Tw_meanStatement_b558 _ _) (fS_mono rfl rfl) fq_rf))
theorem fr_Tw_mean_b49 (P W : Int) (s0 : Int) (G : St) : Fr (fS [] []) G (Sum.elim (fun q => q.2) (fun q => q.2)) (Tw_mean_b49 P W s0 G) := by
  unfold Tw_mean_b49
  exact frS fq_rf
theorem fr_Tw_mean_s17 (P W : Int) (x1 : Int) (G : St) : Fr (fS [208, 209, 212, 213, 215, 217, 218] [(100, 110), (100, 115), (100, 118), (100, 119)]) G (Sum.elim (fun q => q.2) (fun q => q.2)) (Tw_mean_s17 P W x1 G) := by
  unfold Tw_mean_s17
  exact frIf (frCB (frIf (frBd (fr_Tw_meanOperand _ _ _ _) (fS_mono rfl rfl) fq_rf (fun _ G8 hG8 => frT (fr_Tw_mean_b49 _ _ _ _) (fS_mono rfl rfl) hG8)) (frBd (fr_Tw_meanStatement _ _) (fS_mono rfl rfl) fq_rf (fun _ G6 hG6 => frT (fr_Tw_mean_b49 _ _ _ _) (fS_mono rfl rfl) hG6)))) (frEx (frCB (frTk (fq_upK rfl fq_rf) (fun G4 hG4 => frS hG4))))
theorem fr_Tw_mean_l17 (P W : Int) (x1 : Int) (G : St) : Fr (fS [208, 209, 212, 213, 215, 217, 218] [(100, 110), (100, 115), (100, 118), (100, 119)]) G (fun q => q.2) (Tw_mean_l17 P W x1 G) := frWh (pi := fun (s : (Int × St)) => s.2) (fun (s : (Int × St)) => fr_Tw_mean_s17 P W s.1 s.2)
theorem fr_Tw_mean (P W : Int) (G : St) : Fr (fS [208, 209, 212, 213, 215, 217, 218] [(100, 110), (100, 115), (100, 118), (100, 119)]) G (fun q => q.2) (Tw_mean P W G) := by
  unfold Tw_mean
  exact frTk (fq_upK rfl fq_rf) (fun G1 hG1 => frTk (fq_upK rfl hG1) (fun G2 hG2 => frTk (fq_upK rfl hG2) (fun G3 hG3 => frT (fr_Tw_mean_l17 _ _ _ _) (fS_mono rfl rfl) hG3)))
theorem fr_Tw_truth_b19 (P W : Int) (G : St) : Fr (fS [] []) G (fun q => q.2) (Tw_truth_b19 P W G) := by
  unfold Tw_truth_b19
  exact frS fq_rf
theorem fr_Tw_truth_b34 (P W : Int) (x1 : Int) (G : St) : Fr (fS [] []) G (fun q => q.2) (Tw_truth_b34 P W x1 G) := by
  unfold Tw_truth_b34
  exact frCB (frS fq_rf)
theorem fr_Tw_truth (P W : Int) (x1 : Int) (G : St) : Fr (fS [208, 209, 212, 213, 215, 217, 218] [(100, 110), (100, 115), (100, 118), (100, 119)]) G (fun q => q.2) (Tw_truth P W x1 G) := by
  unfold Tw_truth
  exact frIf (frT (fr_Tw_truth_b19 _ _ _) (fS_mono rfl rfl) fq_rf) (frIf (frT (fr_Tw_truth_b19 _ _ _) (fS_mono rfl rfl) fq_rf) (frIf (frIf (frBd (fr_Tw_mean _ _ _) (fS_mono rfl rfl) fq_rf (fun _ G2 hG2 => frT (fr_Tw_truth_b34 _ _ _ _) (fS_mono rfl rfl) hG2)) (frT (fr_Tw_truth_b34 _ _ _ _) (fS_mono rfl rfl) fq_rf)) (frT (fr_Tw_truth_b19 _ _ _) (fS_mono rfl rfl) fq_rf)))
