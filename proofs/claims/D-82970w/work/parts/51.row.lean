/-! PLAIN: operators between factors -/
theorem TT_psT {n : Int} {f : Int → Int} {T : St} (h : TT n f T) (k a p : Int) : TT n f (psT T k a p) := by
  refine h.cg ?_ ?_
  · simp [psT, up_ap]
  · funext i; simp [psT, up_ap]
theorem nf_fresh {T : St} (hb : TB T) (hm : 0 < T 100 13) (h : T 115 (T 100 13 - 1) ≠ 8) : Tw_isFresh T = some (0, T) := by
  obtain ⟨b1, b2, b3, b4, b5, b6⟩ := hb
  unfold Tw_isFresh
  rw [if_neg h]
  simp (disch := omega) only [tk, vl, bd_some, up_ap, acp_ap, ckI_p, ckL_p, ckB_p, ckA_p, ckD_p, ckQ_p, ite_bind, ckI_bind, ckL_bind, ckB_bind, ckA_bind, ckD_bind, ckQ_bind, bd_bind, tk_bind, vl_bind, ex_bind, lb_inl, lb_some, lk_inl, lk_inr, Int.reduceEq, Int.reduceLT, Int.reduceLE, Int.reduceNe, Int.reduceAdd, Int.reduceSub, Int.reduceMul, Int.reduceNeg, ite_self, ex, Option.map_some, Option.bind_some, and_true, true_and, and_false, false_and, if_true, if_false, ite_true, ite_false, reduceIte, not_true, not_false_eq_true]
theorem TB_sk {n : Int} {f : Int → Int} {T : St} (h : TB T) : TB (skT n f T) := by
  unfold TB at *
  unfold skT
  simp only [up_ap]
  simpa using h
theorem Lx_op {n : Int} {f : Int → Int} {P W base t a : Int} {T1 T3 : St} (h0 : 0 ≤ base) (hT : TT n f T1) (a0 : 0 ≤ T1 100 6) (a1 : T1 100 6 ≤ n) (hF : T1 100 7 = 0) (hb : TB T1) (hm : 0 < T1 100 13) (hk : T1 115 (T1 100 13 - 1) ≠ 8) (ha : a = sk n f (T1 100 6)) (ht : t = opn n f a) (htp : 0 < t) (hr : Tw_reduce base (rkF t) (skT n f T1) = some (0, T3)) (hb3 : TB T3) (hT3 : TT n f T3) (ha3 : T3 100 6 = a) : Lx P W base 0 T1 = Lx P W base 1 (up (psT T3 1 t a) 100 6 (a + opl n f a)) := by
  subst ha
  have hn := hT.2.2.1
  have s1 := sk_ge n f (T1 100 6)
  have s2 := sk_le (f := f) a1
  have hF2 : T1 100 7 = 0 := hF
  have fr := nf_fresh (TB_sk (n := n) (f := f) hb) (show 0 < skT n f T1 100 13 from hm) hk
  have b142 : (Tw_expression_b142 P W base 0 t (skT n f T1)).bind (lk (fun s => Tw_expression_l9 P W base s.1 s.2.1 s.2.2) some) = Lx P W base 1 (up (psT T3 1 t (sk n f (T1 100 6))) 100 6 (sk n f (T1 100 6) + opl n f (sk n f (T1 100 6)))) := by
    have hat : psT T3 1 t (sk n f (T1 100 6)) 100 6 = sk n f (T1 100 6) := by simp [psT, up_ap, ha3]
    unfold Tw_expression_b142 Tw_expression_b180
    rw [Tw_rank_e, bd_some, hr, bd_some, ha3, Tw_push_e hb3.1 (by have := hb3.2.1; omega), bd_some, Tw_isPair_e (TT_psT hT3 _ _ _) (by rw [hat]; omega) (by rw [hat]; omega), bd_some, hat]
    have ol : (if prF (lkF n f (sk n f (T1 100 6))) (lkF n f (sk n f (T1 100 6) + 1)) = 0 then (1 : Int) else 2) = opl n f (sk n f (T1 100 6)) := rfl
    rw [ol]
    have ob : opl n f (sk n f (T1 100 6)) ≤ 2 ∧ 0 ≤ opl n f (sk n f (T1 100 6)) := by unfold opl; split <;> omega
    simp (disch := omega) only [tk, vl, bd_some, up_ap, acp_ap, ckI_p, ckL_p, ckB_p, ckA_p, ckD_p, ckQ_p, ite_bind, ckI_bind, ckL_bind, ckB_bind, ckA_bind, ckD_bind, ckQ_bind, bd_bind, tk_bind, vl_bind, ex_bind, lb_inl, lb_some, lk_inl, lk_inr, Int.reduceEq, Int.reduceLT, Int.reduceLE, Int.reduceNe, Int.reduceAdd, Int.reduceSub, Int.reduceMul, Int.reduceNeg, ite_self, ex, Option.map_some, Option.bind_some, and_true, true_and, and_false, false_and, if_true, if_false, ite_true, ite_false, reduceIte, not_true, not_false_eq_true]
    rfl
  rw [← b142]
  unfold Lx
  rw [Tw_expression_l9_eq]
  unfold Tw_expression_s9
  obtain ⟨b1, b2, b3, b4, b5, b6⟩ := hb
  rw [if_pos hF, if_pos rfl, if_pos rfl, Tw_gap_e hT a0 a1, bd_some, show up T1 100 6 (sk n f (T1 100 6)) = skT n f T1 from rfl, Tw_operator_e (skT_TT hT) (by rw [skT_at]; omega) (by rw [skT_at]; omega), bd_some, skT_at, ← ht, if_pos htp]
  by_cases q : base < skT n f T1 100 20
  · rw [if_pos q]
    have w1 : skT n f T1 100 20 = T1 100 20 := skT_k _ _ _ _ (by decide)
    rw [w1] at q ⊢
    rw [ckI_p (by omega) (by omega), ckB_p (by omega) (by omega)]
    by_cases q2 : skT n f T1 122 (T1 100 20 - 1) = 7
    · rw [if_pos q2, fr, bd_some, if_pos rfl]
    · rw [if_neg q2]
  · rw [if_neg q]
theorem prF_lt {n : Int} {f : Int → Int} {a : Int} (h : 0 < opn n f a) : a < n ∧ a + opl n f a ≤ n ∧ 1 ≤ opl n f a ∧ opl n f a ≤ 2 := by
  have h1 : a < n := by
    by_cases q : a < n
    · exact q
    · exfalso
      unfold opn lkF at h
      rw [if_neg q] at h
      simp [oprF, prF] at h
  refine ⟨h1, ?_, ?_, ?_⟩
  · unfold opl
    by_cases q : prF (lkF n f a) (lkF n f (a + 1)) = 0
    · rw [if_pos q]; omega
    · rw [if_neg q]
      by_cases q2 : a + 1 < n
      · omega
      · exfalso
        apply q
        have e : lkF n f (a + 1) = -1 := by unfold lkF; rw [if_neg q2]
        rw [e]
        simp [prF]
  · unfold opl; split <;> omega
  · unfold opl; split <;> omega
theorem popB_md {T : St} (x y : Int) : popB (md T x y) = md (popB T) x y := by
  funext o k
  simp only [popB, md, adT, up_ap]
  by_cases h1 : o = 100
  · subst h1
    by_cases k1 : k = 6
    · subst k1; simp
    · by_cases k2 : k = 25
      · subst k2; simp
      · by_cases k3 : k = 13
        · subst k3; simp
        · by_cases k4 : k = 20
          · subst k4; simp
          · simp [k1, k2, k3, k4]
  · simp [h1]
