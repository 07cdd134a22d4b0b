/-! PLAIN: what waits in the twin, and is put -/
def popU (T : St) : St := adT (up (up T 100 20 (T 100 20 - 1)) 100 19 (T 100 19 - 1)) 12 (T 123 (T 100 20 - 1)) 0 (T 124 (T 100 20 - 1))
def popB (T : St) : St := adT (up T 100 20 (T 100 20 - 1)) 13 (T 123 (T 100 20 - 1)) 0 (T 124 (T 100 20 - 1))
def popS (T : St) : St := adT (up (up T 100 20 (T 100 20 - 1)) 100 19 (T 100 19 - 1)) 14 0 0 (T 124 (T 100 20 - 1))
/-- the counts are well in their bounds -/
def TB (T : St) : Prop := 0 ≤ T 100 20 ∧ T 100 20 ≤ 4000 ∧ 0 ≤ T 100 13 ∧ T 100 13 < 11000 ∧ -100000 ≤ T 100 19 ∧ T 100 19 ≤ 100000
theorem so_stop {base : Int} {T : St} (hb : TB T) (h : T 100 20 ≤ base ∨ T 122 (T 100 20 - 1) ≠ 2) (h0 : 0 ≤ base) : Tw_signsOver base T = some (0, T) := by
  obtain ⟨b1, b2, b3, b4, b5, b6⟩ := hb
  unfold Tw_signsOver
  rw [Tw_signsOver_l0_eq]
  unfold Tw_signsOver_s0
  by_cases q : base < T 100 20
  · rcases h with h | h
    · omega
    · rw [if_pos q, if_neg h]
      simp (disch := omega) only [tk, vl, bd_some, up_ap, acp_ap, ckI_p, ckL_p, ckB_p, ckA_p, ckD_p, ckQ_p, ite_bind, ckI_bind, ckL_bind, ckB_bind, ckA_bind, ckD_bind, ckQ_bind, bd_bind, tk_bind, vl_bind, ex_bind, lb_inl, lb_some, lk_inl, lk_inr, Int.reduceEq, Int.reduceLT, Int.reduceLE, Int.reduceNe, Int.reduceAdd, Int.reduceSub, Int.reduceMul, Int.reduceNeg, ite_self, ex, Option.map_some, Option.bind_some, and_true, true_and, and_false, false_and, if_true, if_false, ite_true, ite_false, reduceIte, not_true, not_false_eq_true]
  · rw [if_neg q]
    simp only [tk, vl, bd_some, up_ap, acp_ap, ckI_p, ckL_p, ckB_p, ckA_p, ckD_p, ckQ_p, ite_bind, ckI_bind, ckL_bind, ckB_bind, ckA_bind, ckD_bind, ckQ_bind, bd_bind, tk_bind, vl_bind, ex_bind, lb_inl, lb_some, lk_inl, lk_inr, Int.reduceEq, Int.reduceLT, Int.reduceLE, Int.reduceNe, Int.reduceAdd, Int.reduceSub, Int.reduceMul, Int.reduceNeg, ite_self, ex, Option.map_some, Option.bind_some, and_true, true_and, and_false, false_and, if_true, if_false, ite_true, ite_false, reduceIte, not_true, not_false_eq_true]
theorem so_pop {base : Int} {T : St} (hb : TB T) (h : base < T 100 20) (h2 : T 122 (T 100 20 - 1) = 2) (h0 : 0 ≤ base) : Tw_signsOver base T = Tw_signsOver base (popU T) := by
  obtain ⟨b1, b2, b3, b4, b5, b6⟩ := hb
  unfold Tw_signsOver
  rw [Tw_signsOver_l0_eq]
  unfold Tw_signsOver_s0
  rw [if_pos h, if_pos h2]
  simp (disch := omega) only [tk, vl, bd_some, up_ap, acp_ap, ckI_p, ckL_p, ckB_p, ckA_p, ckD_p, ckQ_p, ite_bind, ckI_bind, ckL_bind, ckB_bind, ckA_bind, ckD_bind, ckQ_bind, bd_bind, tk_bind, vl_bind, ex_bind, lb_inl, lb_some, lk_inl, lk_inr, Int.reduceEq, Int.reduceLT, Int.reduceLE, Int.reduceNe, Int.reduceAdd, Int.reduceSub, Int.reduceMul, Int.reduceNeg, ite_self, ex, Option.map_some, Option.bind_some, and_true, true_and, and_false, false_and, if_true, if_false, ite_true, ite_false, reduceIte, not_true, not_false_eq_true]
  rw [Tw_put_e (by simp [up_ap]; omega) (by simp [up_ap]; omega)]
  rfl
theorem rd_stop {base r : Int} {T : St} (hb : TB T) (h : T 100 20 ≤ base ∨ T 122 (T 100 20 - 1) ≠ 1 ∨ rkF (T 123 (T 100 20 - 1)) < r) (h0 : 0 ≤ base) : Tw_reduce base r T = some (0, T) := by
  obtain ⟨b1, b2, b3, b4, b5, b6⟩ := hb
  unfold Tw_reduce
  rw [Tw_reduce_l0_eq]
  unfold Tw_reduce_s0
  by_cases q : base < T 100 20
  · rw [if_pos q]
    by_cases q2 : T 122 (T 100 20 - 1) = 1
    · have q3 : rkF (T 123 (T 100 20 - 1)) < r := by
        rcases h with h | h | h
        · omega
        · exact absurd q2 h
        · exact h
      rw [if_pos q2, Tw_rank_e, bd_some, if_pos q3]
      simp (disch := omega) only [tk, vl, bd_some, up_ap, acp_ap, ckI_p, ckL_p, ckB_p, ckA_p, ckD_p, ckQ_p, ite_bind, ckI_bind, ckL_bind, ckB_bind, ckA_bind, ckD_bind, ckQ_bind, bd_bind, tk_bind, vl_bind, ex_bind, lb_inl, lb_some, lk_inl, lk_inr, Int.reduceEq, Int.reduceLT, Int.reduceLE, Int.reduceNe, Int.reduceAdd, Int.reduceSub, Int.reduceMul, Int.reduceNeg, ite_self, ex, Option.map_some, Option.bind_some, and_true, true_and, and_false, false_and, if_true, if_false, ite_true, ite_false, reduceIte, not_true, not_false_eq_true]
    · rw [if_neg q2]
      simp (disch := omega) only [tk, vl, bd_some, up_ap, acp_ap, ckI_p, ckL_p, ckB_p, ckA_p, ckD_p, ckQ_p, ite_bind, ckI_bind, ckL_bind, ckB_bind, ckA_bind, ckD_bind, ckQ_bind, bd_bind, tk_bind, vl_bind, ex_bind, lb_inl, lb_some, lk_inl, lk_inr, Int.reduceEq, Int.reduceLT, Int.reduceLE, Int.reduceNe, Int.reduceAdd, Int.reduceSub, Int.reduceMul, Int.reduceNeg, ite_self, ex, Option.map_some, Option.bind_some, and_true, true_and, and_false, false_and, if_true, if_false, ite_true, ite_false, reduceIte, not_true, not_false_eq_true]
  · rw [if_neg q]
    simp only [tk, vl, bd_some, up_ap, acp_ap, ckI_p, ckL_p, ckB_p, ckA_p, ckD_p, ckQ_p, ite_bind, ckI_bind, ckL_bind, ckB_bind, ckA_bind, ckD_bind, ckQ_bind, bd_bind, tk_bind, vl_bind, ex_bind, lb_inl, lb_some, lk_inl, lk_inr, Int.reduceEq, Int.reduceLT, Int.reduceLE, Int.reduceNe, Int.reduceAdd, Int.reduceSub, Int.reduceMul, Int.reduceNeg, ite_self, ex, Option.map_some, Option.bind_some, and_true, true_and, and_false, false_and, if_true, if_false, ite_true, ite_false, reduceIte, not_true, not_false_eq_true]
theorem rd_pop {base r : Int} {T : St} (hb : TB T) (h : base < T 100 20) (h2 : T 122 (T 100 20 - 1) = 1) (h3 : r ≤ rkF (T 123 (T 100 20 - 1))) (h0 : 0 ≤ base) : Tw_reduce base r T = Tw_reduce base r (popB T) := by
  obtain ⟨b1, b2, b3, b4, b5, b6⟩ := hb
  unfold Tw_reduce
  rw [Tw_reduce_l0_eq]
  unfold Tw_reduce_s0
  rw [if_pos h, if_pos h2, Tw_rank_e, bd_some, if_neg (show ¬ rkF (T 123 (T 100 20 - 1)) < r by omega)]
  simp (disch := omega) only [tk, vl, bd_some, up_ap, acp_ap, ckI_p, ckL_p, ckB_p, ckA_p, ckD_p, ckQ_p, ite_bind, ckI_bind, ckL_bind, ckB_bind, ckA_bind, ckD_bind, ckQ_bind, bd_bind, tk_bind, vl_bind, ex_bind, lb_inl, lb_some, lk_inl, lk_inr, Int.reduceEq, Int.reduceLT, Int.reduceLE, Int.reduceNe, Int.reduceAdd, Int.reduceSub, Int.reduceMul, Int.reduceNeg, ite_self, ex, Option.map_some, Option.bind_some, and_true, true_and, and_false, false_and, if_true, if_false, ite_true, ite_false, reduceIte, not_true, not_false_eq_true]
  rw [Tw_put_e (by simp [up_ap]; omega) (by simp [up_ap]; omega)]
  rfl
theorem ra_red {base : Int} {T T' : St} (h : Tw_reduce base 0 T = Tw_reduce base 0 T') : Tw_reduceAll base T = Tw_reduceAll base T' := by
  unfold Tw_reduceAll
  rw [h]
theorem ra_stop {base : Int} {T : St} (hb : TB T) (h : T 100 20 ≤ base ∨ (T 122 (T 100 20 - 1) ≠ 1 ∧ T 122 (T 100 20 - 1) ≠ 4)) (h0 : 0 ≤ base) : Tw_reduceAll base T = some (0, T) := by
  have hr : Tw_reduce base 0 T = some (0, T) := rd_stop hb (by rcases h with h | h; exact Or.inl h; exact Or.inr (Or.inl h.1)) h0
  obtain ⟨b1, b2, b3, b4, b5, b6⟩ := hb
  unfold Tw_reduceAll
  rw [hr, bd_some, Tw_reduceAll_l6_eq]
  unfold Tw_reduceAll_s6
  by_cases q : base < T 100 20
  · rcases h with h | h
    · omega
    · rw [if_pos q, if_neg h.2]
      simp (disch := omega) only [tk, vl, bd_some, up_ap, acp_ap, ckI_p, ckL_p, ckB_p, ckA_p, ckD_p, ckQ_p, ite_bind, ckI_bind, ckL_bind, ckB_bind, ckA_bind, ckD_bind, ckQ_bind, bd_bind, tk_bind, vl_bind, ex_bind, lb_inl, lb_some, lk_inl, lk_inr, Int.reduceEq, Int.reduceLT, Int.reduceLE, Int.reduceNe, Int.reduceAdd, Int.reduceSub, Int.reduceMul, Int.reduceNeg, ite_self, ex, Option.map_some, Option.bind_some, and_true, true_and, and_false, false_and, if_true, if_false, ite_true, ite_false, reduceIte, not_true, not_false_eq_true]
  · rw [if_neg q]
    simp only [tk, vl, bd_some, up_ap, acp_ap, ckI_p, ckL_p, ckB_p, ckA_p, ckD_p, ckQ_p, ite_bind, ckI_bind, ckL_bind, ckB_bind, ckA_bind, ckD_bind, ckQ_bind, bd_bind, tk_bind, vl_bind, ex_bind, lb_inl, lb_some, lk_inl, lk_inr, Int.reduceEq, Int.reduceLT, Int.reduceLE, Int.reduceNe, Int.reduceAdd, Int.reduceSub, Int.reduceMul, Int.reduceNeg, ite_self, ex, Option.map_some, Option.bind_some, and_true, true_and, and_false, false_and, if_true, if_false, ite_true, ite_false, reduceIte, not_true, not_false_eq_true]
theorem ra_pop {base : Int} {T : St} (hb : TB T) (h : base < T 100 20) (h2 : T 122 (T 100 20 - 1) = 4) (h0 : 0 ≤ base) : Tw_reduceAll base T = Tw_reduceAll base (popS T) := by
  have hr : Tw_reduce base 0 T = some (0, T) := rd_stop hb (Or.inr (Or.inl (by rw [h2]; decide))) h0
  obtain ⟨b1, b2, b3, b4, b5, b6⟩ := hb
  conv => lhs; unfold Tw_reduceAll
  rw [hr, bd_some, Tw_reduceAll_l6_eq]
  unfold Tw_reduceAll_s6
  rw [if_pos h, if_pos h2]
  simp (disch := omega) only [tk, vl, bd_some, up_ap, acp_ap, ckI_p, ckL_p, ckB_p, ckA_p, ckD_p, ckQ_p, ite_bind, ckI_bind, ckL_bind, ckB_bind, ckA_bind, ckD_bind, ckQ_bind, bd_bind, tk_bind, vl_bind, ex_bind, lb_inl, lb_some, lk_inl, lk_inr, Int.reduceEq, Int.reduceLT, Int.reduceLE, Int.reduceNe, Int.reduceAdd, Int.reduceSub, Int.reduceMul, Int.reduceNeg, ite_self, ex, Option.map_some, Option.bind_some, and_true, true_and, and_false, false_and, if_true, if_false, ite_true, ite_false, reduceIte, not_true, not_false_eq_true]
  rw [Tw_put_e (by simp [up_ap]; omega) (by simp [up_ap]; omega), bd_some]
  rfl
