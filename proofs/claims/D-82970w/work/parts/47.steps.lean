/-! PLAIN: steps that are added, waits, depth -/
def adC (G : St) (op w p m : Int) : St := up (up (up (up (up G 111 (G 110 4) op) 112 (G 110 4) w) 113 (G 110 4) p) 114 (G 110 4) m) 110 4 (G 110 4 + 1)
theorem Cd_add_e {G : St} {op w p m : Int} (h0 : 0 ≤ G 110 4) (h1 : G 110 4 < 12000) (o0 : 0 ≤ op) (o1 : op < 61) : Cd_add op w p m G = some (G 110 4, adC G op w p m) := by
  unfold Cd_add adC
  simp (disch := omega) only [tk, vl, bd_some, up_ap, acp_ap, ckI_p, ckL_p, ckB_p, ckA_p, ckD_p, ckQ_p, ite_bind, ckI_bind, ckL_bind, ckB_bind, ckA_bind, ckD_bind, ckQ_bind, bd_bind, tk_bind, vl_bind, ex_bind, lb_inl, lb_some, lk_inl, lk_inr, Int.reduceEq, Int.reduceLT, Int.reduceLE, Int.reduceNe, Int.reduceAdd, Int.reduceSub, Int.reduceMul, Int.reduceNeg, ite_self, ex, Option.map_some, Option.bind_some, and_true, true_and, and_false, false_and, if_true, if_false, ite_true, ite_false, reduceIte, not_true, not_false_eq_true]
  rw [show G 110 4 + 1 - 1 = G 110 4 by omega]
def adT (T : St) (k a b p : Int) : St := up (up (up (up (up T 115 (T 100 13) k) 116 (T 100 13) a) 117 (T 100 13) b) 118 (T 100 13) p) 100 13 (T 100 13 + 1)
theorem Tw_put_e {T : St} {k a b p : Int} (h0 : 0 ≤ T 100 13) (h1 : T 100 13 < 12000) : Tw_put k a b p T = some (T 100 13, adT T k a b p) := by
  unfold Tw_put adT
  rw [if_neg (by omega)]
  simp (disch := omega) only [tk, vl, bd_some, up_ap, acp_ap, ckI_p, ckL_p, ckB_p, ckA_p, ckD_p, ckQ_p, ite_bind, ckI_bind, ckL_bind, ckB_bind, ckA_bind, ckD_bind, ckQ_bind, bd_bind, tk_bind, vl_bind, ex_bind, lb_inl, lb_some, lk_inl, lk_inr, Int.reduceEq, Int.reduceLT, Int.reduceLE, Int.reduceNe, Int.reduceAdd, Int.reduceSub, Int.reduceMul, Int.reduceNeg, ite_self, ex, Option.map_some, Option.bind_some, and_true, true_and, and_false, false_and, if_true, if_false, ite_true, ite_false, reduceIte, not_true, not_false_eq_true]
  rw [show T 100 13 + 1 - 1 = T 100 13 by omega]
def psT (T : St) (k a p : Int) : St := up (up (up (up (up T 122 (T 100 20) k) 123 (T 100 20) a) 124 (T 100 20) p) 125 (T 100 20) 0) 100 20 (T 100 20 + 1)
theorem Tw_push_e {T : St} {k a p : Int} (h0 : 0 ≤ T 100 20) (h1 : T 100 20 < 4100) : Tw_push k a p T = some (0, psT T k a p) := by
  unfold Tw_push psT
  simp (disch := omega) only [tk, vl, bd_some, up_ap, acp_ap, ckI_p, ckL_p, ckB_p, ckA_p, ckD_p, ckQ_p, ite_bind, ckI_bind, ckL_bind, ckB_bind, ckA_bind, ckD_bind, ckQ_bind, bd_bind, tk_bind, vl_bind, ex_bind, lb_inl, lb_some, lk_inl, lk_inr, Int.reduceEq, Int.reduceLT, Int.reduceLE, Int.reduceNe, Int.reduceAdd, Int.reduceSub, Int.reduceMul, Int.reduceNeg, ite_self, ex, Option.map_some, Option.bind_some, and_true, true_and, and_false, false_and, if_true, if_false, ite_true, ite_false, reduceIte, not_true, not_false_eq_true]
theorem Rd_enter_e {G : St} {x : Int} (h : G 150 3 ≠ 30) (h0 : -1000000 ≤ G 150 3) (h1 : G 150 3 ≤ 1000000) : Rd_enter x G = some (0, up G 150 3 (G 150 3 + 1)) := by
  unfold Rd_enter Rd_enter_b18
  rw [if_neg h]
  simp (disch := omega) only [tk, vl, bd_some, up_ap, acp_ap, ckI_p, ckL_p, ckB_p, ckA_p, ckD_p, ckQ_p, ite_bind, ckI_bind, ckL_bind, ckB_bind, ckA_bind, ckD_bind, ckQ_bind, bd_bind, tk_bind, vl_bind, ex_bind, lb_inl, lb_some, lk_inl, lk_inr, Int.reduceEq, Int.reduceLT, Int.reduceLE, Int.reduceNe, Int.reduceAdd, Int.reduceSub, Int.reduceMul, Int.reduceNeg, ite_self, ex, Option.map_some, Option.bind_some, and_true, true_and, and_false, false_and, if_true, if_false, ite_true, ite_false, reduceIte, not_true, not_false_eq_true]
theorem Rd_enter_f {G : St} {x : Int} (h : G 150 3 = 30) (hF : G 130 0 = 0) : Rd_enter x G = some (0, up (fC 3 x G) 150 3 31) := by
  unfold Rd_enter Rd_enter_b18
  rw [if_pos h, Ft_set_e hF, bd_some]
  have e : fC 3 x G 150 3 = 30 := by simp [fC, up_ap, h]
  rw [e]
  simp (disch := omega) only [tk, vl, bd_some, up_ap, acp_ap, ckI_p, ckL_p, ckB_p, ckA_p, ckD_p, ckQ_p, ite_bind, ckI_bind, ckL_bind, ckB_bind, ckA_bind, ckD_bind, ckQ_bind, bd_bind, tk_bind, vl_bind, ex_bind, lb_inl, lb_some, lk_inl, lk_inr, Int.reduceEq, Int.reduceLT, Int.reduceLE, Int.reduceNe, Int.reduceAdd, Int.reduceSub, Int.reduceMul, Int.reduceNeg, ite_self, ex, Option.map_some, Option.bind_some, and_true, true_and, and_false, false_and, if_true, if_false, ite_true, ite_false, reduceIte, not_true, not_false_eq_true]
theorem Tw_deeper_e {T : St} {x : Int} (h : T 100 19 ≠ 30) (h0 : -1000000 ≤ T 100 19) (h1 : T 100 19 ≤ 1000000) : Tw_deeper x T = some (0, up T 100 19 (T 100 19 + 1)) := by
  unfold Tw_deeper Tw_deeper_b15
  rw [if_neg h]
  simp (disch := omega) only [tk, vl, bd_some, up_ap, acp_ap, ckI_p, ckL_p, ckB_p, ckA_p, ckD_p, ckQ_p, ite_bind, ckI_bind, ckL_bind, ckB_bind, ckA_bind, ckD_bind, ckQ_bind, bd_bind, tk_bind, vl_bind, ex_bind, lb_inl, lb_some, lk_inl, lk_inr, Int.reduceEq, Int.reduceLT, Int.reduceLE, Int.reduceNe, Int.reduceAdd, Int.reduceSub, Int.reduceMul, Int.reduceNeg, ite_self, ex, Option.map_some, Option.bind_some, and_true, true_and, and_false, false_and, if_true, if_false, ite_true, ite_false, reduceIte, not_true, not_false_eq_true]
theorem Tw_deeper_f {T : St} {x : Int} (h : T 100 19 = 30) (hF : T 100 7 = 0) : Tw_deeper x T = some (0, up (fT 3 x T) 100 19 31) := by
  unfold Tw_deeper Tw_deeper_b15
  rw [if_pos h, Tw_fail_e hF, bd_some]
  have e : fT 3 x T 100 19 = 30 := by simp [fT, up_ap, h]
  rw [e]
  simp (disch := omega) only [tk, vl, bd_some, up_ap, acp_ap, ckI_p, ckL_p, ckB_p, ckA_p, ckD_p, ckQ_p, ite_bind, ckI_bind, ckL_bind, ckB_bind, ckA_bind, ckD_bind, ckQ_bind, bd_bind, tk_bind, vl_bind, ex_bind, lb_inl, lb_some, lk_inl, lk_inr, Int.reduceEq, Int.reduceLT, Int.reduceLE, Int.reduceNe, Int.reduceAdd, Int.reduceSub, Int.reduceMul, Int.reduceNeg, ite_self, ex, Option.map_some, Option.bind_some, and_true, true_and, and_false, false_and, if_true, if_false, ite_true, ite_false, reduceIte, not_true, not_false_eq_true]
/-- both have gone on: what must be told anew -/
theorem PR.st {n : Int} {f : Int → Int} {G T G' T' : St} (h : PR n f G T)
    (hC : ∀ o k, ¬ fS [111, 112, 113, 114] [(110, 4), (150, 2), (150, 3), (150, 10), (150, 11), (150, 12), (150, 13), (150, 14), (150, 15)] o k → G' o k = G o k)
    (hT : ∀ o k, ¬ fS [115, 116, 117, 118, 119, 122, 123, 124, 125, 134, 128, 129] [(100, 6), (100, 12), (100, 13), (100, 19), (100, 20), (100, 25), (100, 31), (100, 32), (100, 26)] o k → T' o k = T o k)
    (a1 : G 150 2 ≤ G' 150 2) (a2 : G' 150 2 ≤ n) (b1 : T 100 6 ≤ T' 100 6) (b2 : T' 100 6 ≤ n) (e : sk n f (G' 150 2) = sk n f (T' 100 6))
    (d : G' 150 3 = T' 100 19 ∧ 0 ≤ G' 150 3 ∧ G' 150 3 ≤ 30) (s : 0 ≤ G' 110 4 ∧ G' 110 4 ≤ 2 * G' 150 2 + 2)
    (m : 0 ≤ T' 100 13 ∧ 0 ≤ T' 100 20 ∧ 0 ≤ T' 100 26 ∧ T' 100 26 ≤ T' 100 19 ∧ T' 100 13 + 2 * T' 100 20 + 4 * T' 100 26 ≤ 4 * T' 100 6 + 4) : PR n f G' T' := by
  have c : ∀ o k, o ≠ 111 → o ≠ 112 → o ≠ 113 → o ≠ 114 → (o = 110 → k ≠ 4) → (o = 150 → k ≠ 2 ∧ k ≠ 3 ∧ k ≠ 10 ∧ k ≠ 11 ∧ k ≠ 12 ∧ k ≠ 13 ∧ k ≠ 14 ∧ k ≠ 15) → G' o k = G o k := by
    intro o k q1 q2 q3 q4 q5 q6
    refine hC o k ?_
    unfold fS
    intro hh
    simp only [List.not_mem_nil, List.mem_cons, Prod.mk.injEq, or_false] at hh
    by_cases ho : o = 150
    · have := q6 ho; omega
    · by_cases ho2 : o = 110
      · have := q5 ho2; omega
      · omega
  have t : ∀ o k, (o = 100 ∨ o = 105 ∨ o = 111 ∨ o = 112) → (o = 100 → k ≠ 6 ∧ k ≠ 12 ∧ k ≠ 13 ∧ k ≠ 19 ∧ k ≠ 20 ∧ k ≠ 25 ∧ k ≠ 31 ∧ k ≠ 32 ∧ k ≠ 26) → T' o k = T o k := by
    intro o k q1 q
    refine hT o k ?_
    unfold fS
    intro hh
    simp only [List.not_mem_nil, List.mem_cons, Prod.mk.injEq, or_false] at hh
    by_cases ho : o = 100
    · have := q ho; omega
    · omega
  obtain ⟨⟨x1, x2, ⟨y1, y2, y3, y4, y5⟩, x4, x5⟩, ⟨z1, z2, z3, z4⟩, w1, w2, w3, w4⟩ := h
  have cf : ∀ o, o = 120 ∨ o = 121 ∨ o = 122 ∨ o = 123 ∨ o = 130 ∨ o = 151 → G' o = G o := fun o ho => funext fun k => c o k (by omega) (by omega) (by omega) (by omega) (by omega) (by omega)
  have tf : ∀ o, o = 105 ∨ o = 111 ∨ o = 112 → T' o = T o := fun o ho => funext fun k => t o k (by omega) (by omega)
  have c1 := c 150 1 (by decide) (by decide) (by decide) (by decide) (by decide) (by omega)
  have c4 := c 150 4 (by decide) (by decide) (by decide) (by decide) (by decide) (by omega)
  have c5 := c 150 5 (by decide) (by decide) (by decide) (by decide) (by decide) (by omega)
  have t1 := t 100 5 (by omega) (by omega)
  have t2 := t 100 7 (by omega) (by omega)
  have t3 := t 100 9 (by omega) (by omega)
  have t8 := t 100 29 (by omega) (by omega)
  have t9 := t 100 30 (by omega) (by omega)
  refine ⟨⟨x1.cg c1 (cf _ (by decide)), x2.cg t1 (tf _ (by decide)), ⟨by omega, a2, by omega, b2, e⟩, ?_, by omega⟩, ⟨?_, ?_, ?_, ?_⟩, d, s, m, ?_⟩
  · rw [cf 130 (by decide)]; exact x4
  · unfold NmC at *
    rw [cf 120 (by decide), cf 122 (by decide), cf 123 (by decide)]; exact z1
  · unfold NmT at *
    rw [t3, tf 111 (by decide), tf 112 (by decide)]; exact z2
  · unfold NmR at *
    rw [t3, cf 120 (by decide), cf 122 (by decide), cf 123 (by decide), cf 121 (by decide), tf 111 (by decide), tf 112 (by decide), tf 105 (by decide)]; exact z3
  · rw [cf 120 (by decide)]; omega
  · rw [c4, c5]; exact w4
/-- the operator that stands at a: its number in the twin (0: none) -/
def oprF (c d : Int) : Int := if prF c d = 0 then (if c = 124 then 3 else if c = 94 then 4 else if c = 38 then 5 else if c = 60 then 8 else if c = 62 then 10 else if c = 43 then 14 else if c = 45 then 15 else if c = 42 then 16 else if c = 47 then 17 else if c = 37 then 18 else 0) else (if c = 124 then 1 else if c = 38 then 2 else if c = 61 then 6 else if c = 33 then 7 else if c = 60 then (if d = 60 then 12 else 9) else if d = 62 then 13 else 11)
def rkF (t : Int) : Int := if t = 7 then 6 else if 8 ≤ t ∧ t ≤ 11 then 7 else if t = 12 ∨ t = 13 then 8 else if t = 14 ∨ t = 15 then 9 else if 16 ≤ t then 10 else t
def opn (n : Int) (f : Int → Int) (a : Int) : Int := oprF (lkF n f a) (lkF n f (a + 1))
def opl (n : Int) (f : Int → Int) (a : Int) : Int := if prF (lkF n f a) (lkF n f (a + 1)) = 0 then 1 else 2
theorem Tw_operator_e {n : Int} {f : Int → Int} {T : St} (h : TT n f T) (h0 : 0 ≤ T 100 6) (hm : T 100 6 ≤ 30000) : Tw_operator T = some (opn n f (T 100 6), T) := by
  unfold Tw_operator opn oprF
  simp only [Tw_look0_e h h0 hm (Int.le_refl 0) (show (0 : Int) ≤ 30000 by decide), Tw_look0_e h h0 hm (show (0 : Int) ≤ 1 by decide) (show (1 : Int) ≤ 30000 by decide), bd_some, Int.add_zero, Tw_isPair_e h h0 hm, si]
theorem Tw_rank_e (t : Int) (T : St) : Tw_rank t T = some (rkF t, T) := by
  unfold rkF
  simp only [Tw_rank, Tw_rank_b28]
  (repeat' split) <;> first | rfl | (exfalso; omega)
def fop (n : Int) (f : Int → Int) (G : St) (t l : Int) : St := up (up (up (skC n f G) 150 13 (if t = 0 then 60 else t + 37)) 150 14 (if t = 0 then 0 else l)) 150 15 (rkF t - 1)
theorem Rd_is_e (x y z : Int) (G : St) : Rd_is x y z G = some (0, up (up (up G 150 13 x) 150 14 y) 150 15 z) := by
  unfold Rd_is; rfl
theorem is_is (G : St) (x y z x' y' z' : Int) : up (up (up (up (up (up G 150 13 x) 150 14 y) 150 15 z) 150 13 x') 150 14 y') 150 15 z' = up (up (up G 150 13 x') 150 14 y') 150 15 z' := by
  funext o k
  simp only [up_ap]
  by_cases h1 : o = 150 ∧ k = 15
  · simp only [if_pos h1]
  · by_cases h2 : o = 150 ∧ k = 14
    · simp only [if_neg h1, if_pos h2]
    · by_cases h3 : o = 150 ∧ k = 13
      · simp only [if_neg h1, if_neg h2, if_pos h3]
      · simp only [if_neg h1, if_neg h2, if_neg h3]
theorem Rd_findOperator_e {n : Int} {f : Int → Int} {G : St} (h : CT n f G) (h0 : 0 ≤ G 150 2) (hm : G 150 2 ≤ n) : Rd_findOperator G = some (0, fop n f G (opn n f (sk n f (G 150 2))) (opl n f (sk n f (G 150 2)))) := by
  have hn := h.2.2.1
  have s1 := sk_ge n f (G 150 2)
  have s2 := sk_le (f := f) hm
  unfold Rd_findOperator
  rw [Rd_skip_e h h0, bd_some, show up G 150 2 (sk n f (G 150 2)) = skC n f G from rfl, Rd_is_e, bd_some]
  generalize hG4 : up (up (up (skC n f G) 150 13 60) 150 14 0) 150 15 (-1) = G4
  have c4 : CT n f G4 := by rw [← hG4]; exact (((skC_CT h).at _ _ (by decide)).at _ _ (by decide)).at _ _ (by decide)
  have a4 : G4 150 2 = sk n f (G 150 2) := by rw [← hG4, up_k _ (by decide), up_k _ (by decide), up_k _ (by decide), skC_at]
  rw [Rd_look_e c4 (by rw [a4]; omega) (by rw [a4]; omega) (Int.le_refl 0) (by decide), bd_some, Rd_look_e c4 (by rw [a4]; omega) (by rw [a4]; omega) (by decide) (by decide), bd_some, a4, Int.add_zero]
  unfold opn opl
  generalize lkF n f (sk n f (G 150 2)) = c
  generalize lkF n f (sk n f (G 150 2) + 1) = d
  have fin : ∀ x y z : Int, Rd_is x y z G4 = some (0, up (up (up (skC n f G) 150 13 x) 150 14 y) 150 15 z) := by
    intro x y z
    rw [Rd_is_e, ← hG4, is_is]
  have non : G4 = up (up (up (skC n f G) 150 13 60) 150 14 0) 150 15 (-1) := hG4.symm
  clear hG4
  simp only [sw, Rd_findOperator, Rd_findOperator_b132, Rd_findOperator_b148, Rd_findOperator_b159, Rd_findOperator_b170, Rd_findOperator_b220, Rd_findOperator_b332, Rd_findOperator_b360, Rd_findOperator_b377, Rd_findOperator_b390, Rd_findOperator_b232, Rd_findOperator_b268, Rd_findOperator_b296, Rd_findOperator_b313, Rd_findOperator_b326, Rd_findOperator_b435, Rd_findOperator_b409, Rd_findOperator_b396, Rd_findOperator_b422, Rd_findOperator_b176, Rd_findOperator_b192, Rd_findOperator_b203, Rd_findOperator_b214, Rd_findOperator_b448, Rd_findOperator_b250, fin, bd_some, fop, oprF, rkF, prF]
  by_cases c1 : c = 33
  · subst c1
    by_cases d1 : d = 61 <;> simp [d1, non]
  by_cases c2 : c = 37
  · subst c2
    simp
  by_cases c3 : c = 38
  · subst c3
    by_cases d1 : d = 38 <;> simp [d1]
  by_cases c4 : c = 42
  · subst c4
    simp
  by_cases c5 : c = 43
  · subst c5
    simp
  by_cases c6 : c = 45
  · subst c6
    simp
  by_cases c7 : c = 47
  · subst c7
    simp
  by_cases c8 : c = 60
  · subst c8
    by_cases d1 : d = 61
    · simp [d1]
    · by_cases d2 : d = 60 <;> simp [d1, d2]
  by_cases c9 : c = 61
  · subst c9
    by_cases d1 : d = 61 <;> simp [d1, non]
  by_cases c10 : c = 62
  · subst c10
    by_cases d1 : d = 61
    · simp [d1]
    · by_cases d2 : d = 62 <;> simp [d1, d2]
  by_cases c11 : c = 94
  · subst c11
    simp
  by_cases c12 : c = 124
  · subst c12
    by_cases d1 : d = 124 <;> simp [d1]
  simp [c1, c2, c3, c4, c5, c6, c7, c8, c9, c10, c11, c12, non]
theorem oprF_r (c d : Int) : 0 ≤ oprF c d ∧ oprF c d ≤ 18 := by
  unfold oprF
  (repeat' split) <;> omega
theorem rkF_r {t : Int} (h0 : 0 ≤ t) (h1 : t ≤ 18) : 0 ≤ rkF t ∧ rkF t ≤ 10 ∧ (0 < t → 0 < rkF t) := by
  unfold rkF
  (repeat' split) <;> omega
