/-! PLAIN: an operator with both its sides read -/
theorem wf_le {P W : Int} {G T : St} {t i j a b x y z : Int} (h : WF P W G T t i j a b x y z) : i ≤ j ∧ a ≤ b := ⟨(h.cg (G1 := G) (T1 := T)).1, (h.cg (G1 := G) (T1 := T)).2.1⟩
theorem adC_s (G : St) (op w p m : Int) : adC G op w p m 110 4 = G 110 4 + 1 := up_s _ _ _ _
theorem adC_o {G : St} {op w p m o k : Int} (h : ¬ ((o = 111 ∨ o = 112 ∨ o = 113 ∨ o = 114) ∧ k = G 110 4)) (h2 : ¬ (o = 110 ∧ k = 4)) : adC G op w p m o k = G o k := by
  unfold adC
  simp only [up_ap]
  rw [if_neg h2, if_neg (by omega), if_neg (by omega), if_neg (by omega), if_neg (by omega)]
theorem adC_v (G : St) (op w p m : Int) : adC G op w p m 111 (G 110 4) = op ∧ adC G op w p m 112 (G 110 4) = w ∧ adC G op w p m 113 (G 110 4) = p ∧ adC G op w p m 114 (G 110 4) = m := by
  unfold adC
  simp [up_ap]
theorem adT_s (T : St) (k a b p : Int) : adT T k a b p 100 13 = T 100 13 + 1 := up_s _ _ _ _
theorem adT_o {T : St} {k a b p o j : Int} (h : ¬ ((o = 115 ∨ o = 116 ∨ o = 117 ∨ o = 118) ∧ j = T 100 13)) (h2 : ¬ (o = 100 ∧ j = 13)) : adT T k a b p o j = T o j := by
  unfold adT
  simp only [up_ap]
  rw [if_neg h2, if_neg (by omega), if_neg (by omega), if_neg (by omega), if_neg (by omega)]
theorem adT_v (T : St) (k a b p : Int) : adT T k a b p 115 (T 100 13) = k ∧ adT T k a b p 116 (T 100 13) = a ∧ adT T k a b p 117 (T 100 13) = b ∧ adT T k a b p 118 (T 100 13) = p := by
  unfold adT
  simp [up_ap]
theorem fop_o {n : Int} {f : Int → Int} {G : St} {t l o k : Int} (h : ¬ (o = 150 ∧ (k = 2 ∨ k = 13 ∨ k = 14 ∨ k = 15))) : fop n f G t l o k = G o k := by
  unfold fop skC
  simp only [up_ap]
  rw [if_neg (by omega), if_neg (by omega), if_neg (by omega), if_neg (by omega)]
theorem fop_at {n : Int} {f : Int → Int} {G : St} {t l : Int} : fop n f G t l 150 2 = sk n f (G 150 2) := by
  unfold fop skC
  simp [up_ap]
theorem psT_o {T : St} {k a p o j : Int} (h : ¬ ((o = 122 ∨ o = 123 ∨ o = 124 ∨ o = 125) ∧ j = T 100 20)) (h2 : ¬ (o = 100 ∧ j = 20)) : psT T k a p o j = T o j := by
  unfold psT
  simp only [up_ap]
  rw [if_neg h2, if_neg (by omega), if_neg (by omega), if_neg (by omega), if_neg (by omega)]
theorem psT_s (T : St) (k a p : Int) : psT T k a p 100 20 = T 100 20 + 1 := up_s _ _ _ _
theorem psT_v (T : St) (k a p : Int) : psT T k a p 122 (T 100 20) = k ∧ psT T k a p 123 (T 100 20) = a ∧ psT T k a p 124 (T 100 20) = p ∧ psT T k a p 125 (T 100 20) = 0 := by
  unfold psT
  simp [up_ap]
theorem md_o {T : St} {x y o k : Int} (h : ¬ (o = 100 ∧ (k = 6 ∨ k = 25))) : md T x y o k = T o k := by
  unfold md
  simp only [up_ap]
  rw [if_neg (by omega), if_neg (by omega)]
theorem popB_o {T : St} {o j : Int} (h : ¬ ((o = 115 ∨ o = 116 ∨ o = 117 ∨ o = 118) ∧ j = T 100 13)) (h2 : ¬ (o = 100 ∧ (j = 13 ∨ j = 20))) : popB T o j = T o j := by
  unfold popB
  have e : up T 100 20 (T 100 20 - 1) 100 13 = T 100 13 := by simp [up_ap]
  rw [adT_o (by rw [e]; exact h) (by omega), up_ap, if_neg (by omega)]
theorem popB_v (T : St) : popB T 115 (T 100 13) = 13 ∧ popB T 116 (T 100 13) = T 123 (T 100 20 - 1) ∧ popB T 118 (T 100 13) = T 124 (T 100 20 - 1) ∧ popB T 100 13 = T 100 13 + 1 ∧ popB T 100 20 = T 100 20 - 1 := by
  unfold popB adT
  simp [up_ap]
