/-! PLAIN: the text, its blanks and words, for both readers -/
/-- the text in the component, in the twin: n signs f -/
def CT (n : Int) (f : Int → Int) (G : St) : Prop := G 150 1 = n ∧ 0 ≤ n ∧ n ≤ 1999 ∧ ∀ i, 0 ≤ i → i < n → G 151 i = f i
def TT (n : Int) (f : Int → Int) (T : St) : Prop := T 100 5 = n ∧ 0 ≤ n ∧ n ≤ 1999 ∧ ∀ i, 0 ≤ i → i < n → T 105 i = f i
def isLt (c : Int) : Int := if (97 ≤ c ∧ c ≤ 122) ∨ (65 ≤ c ∧ c ≤ 90) ∨ c = 95 then 1 else 0
def isDg (c : Int) : Int := if 48 ≤ c ∧ c ≤ 57 then 1 else 0
theorem isLt_r (c : Int) : 0 ≤ isLt c ∧ isLt c < 2 := by unfold isLt; split <;> omega
theorem isDg_r (c : Int) : 0 ≤ isDg c ∧ isDg c < 2 := by unfold isDg; split <;> omega
theorem Rd_isLetter_e (c : Int) (G : St) : Rd_isLetter c G = some (isLt c, G) := by
  simp only [Rd_isLetter, Rd_isLetter_b12, ckB, isLt]
  (repeat' split) <;> first | rfl | (exfalso; omega)
theorem Tw_isLetter_e (c : Int) (G : St) : Tw_isLetter c G = some (isLt c, G) := by
  simp only [Tw_isLetter, Tw_isLetter_b12, ckB, isLt]
  (repeat' split) <;> first | rfl | (exfalso; omega)
theorem Rd_isDigit_e (c : Int) (G : St) : Rd_isDigit c G = some (isDg c, G) := by
  simp only [Rd_isDigit, ckB, isDg]
  (repeat' split) <;> first | rfl | (exfalso; omega)
theorem Tw_isDigit_e (c : Int) (G : St) : Tw_isDigit c G = some (isDg c, G) := by
  simp only [Tw_isDigit, ckB, isDg]
  (repeat' split) <;> first | rfl | (exfalso; omega)
/-- the sign k places on, or none -/
def lkF (n : Int) (f : Int → Int) (a : Int) : Int := if a < n then f a else -1
theorem Rd_look_e {n : Int} {f : Int → Int} {G : St} (h : CT n f G) {k : Int} (h0 : 0 ≤ G 150 2) (h1 : G 150 2 ≤ 30000) (k0 : 0 ≤ k) (k1 : k ≤ 30000) : Rd_look k G = some (lkF n f (G 150 2 + k), G) := by
  obtain ⟨e1, e2, e3, e4⟩ := h
  simp (disch := omega) only [tk, vl, bd_some, up_ap, acp_ap, ckI_p, ckL_p, ckB_p, ckA_p, ckD_p, ckQ_p, ite_bind, ckI_bind, ckL_bind, ckB_bind, ckA_bind, ckD_bind, ckQ_bind, bd_bind, tk_bind, vl_bind, ex_bind, lb_inl, lb_some, lk_inl, lk_inr, Int.reduceEq, Int.reduceLT, Int.reduceLE, Int.reduceNe, Int.reduceAdd, Int.reduceSub, Int.reduceMul, Int.reduceNeg, ite_self, ex, Option.map_some, Option.bind_some, and_true, true_and, and_false, false_and, if_true, if_false, ite_true, ite_false, reduceIte, not_true, not_false_eq_true, Rd_look, lkF, e1]
  split
  · rw [e4 _ (by omega) (by omega)]
  · rfl
theorem Tw_look0_e {n : Int} {f : Int → Int} {T : St} (h : TT n f T) {k : Int} (h0 : 0 ≤ T 100 6) (h1 : T 100 6 ≤ 30000) (k0 : 0 ≤ k) (k1 : k ≤ 30000) : Tw_look0 k T = some (lkF n f (T 100 6 + k), T) := by
  obtain ⟨e1, e2, e3, e4⟩ := h
  simp (disch := omega) only [tk, vl, bd_some, up_ap, acp_ap, ckI_p, ckL_p, ckB_p, ckA_p, ckD_p, ckQ_p, ite_bind, ckI_bind, ckL_bind, ckB_bind, ckA_bind, ckD_bind, ckQ_bind, bd_bind, tk_bind, vl_bind, ex_bind, lb_inl, lb_some, lk_inl, lk_inr, Int.reduceEq, Int.reduceLT, Int.reduceLE, Int.reduceNe, Int.reduceAdd, Int.reduceSub, Int.reduceMul, Int.reduceNeg, ite_self, ex, Option.map_some, Option.bind_some, and_true, true_and, and_false, false_and, if_true, if_false, ite_true, ite_false, reduceIte, not_true, not_false_eq_true, Tw_look0, lkF, e1]
  split
  · rw [e4 _ (by omega) (by omega)]
  · rfl
/-- over blanks and comments -/
def skF (f : Int → Int) (n : Int) (c : Bool) (a : Int) : Int :=
  if a < n then
    if c = true ∨ f a = 32 ∨ f a = 9 ∨ f a = 10 ∨ f a = 35 then skF f n (decide (f a = 35 ∨ (c = true ∧ f a ≠ 10))) (a + 1) else a
  else a
termination_by (n - a).toNat
theorem skF_ge (f : Int → Int) (n : Int) : ∀ (k : Nat) (c : Bool) (a : Int), (n - a).toNat ≤ k → a ≤ skF f n c a ∧ (a ≤ n → skF f n c a ≤ n) := by
  intro k
  induction k with
  | zero =>
    intro c a h
    rw [skF, if_neg (by omega)]
    exact ⟨Int.le_refl _, fun h => h⟩
  | succ k ih =>
    intro c a h
    rw [skF]
    split
    · split
      · have := ih (decide (f a = 35 ∨ (c = true ∧ f a ≠ 10))) (a + 1) (by omega)
        exact ⟨by omega, fun _ => this.2 (by omega)⟩
      · exact ⟨Int.le_refl _, fun h => h⟩
    · exact ⟨Int.le_refl _, fun h => h⟩
def sk (n : Int) (f : Int → Int) (a : Int) : Int := skF f n false a
theorem sk_ge (n : Int) (f : Int → Int) (a : Int) : a ≤ sk n f a := (skF_ge f n _ false a (Nat.le_refl _)).1
theorem sk_le {n : Int} {f : Int → Int} {a : Int} (h : a ≤ n) : sk n f a ≤ n := (skF_ge f n _ false a (Nat.le_refl _)).2 h
theorem skF_end (f : Int → Int) (n : Int) : ∀ (k : Nat) (c : Bool) (a : Int), (n - a).toNat ≤ k → skF f n c a < n → ¬ (f (skF f n c a) = 32 ∨ f (skF f n c a) = 9 ∨ f (skF f n c a) = 10 ∨ f (skF f n c a) = 35) := by
  intro k
  induction k with
  | zero =>
    intro c a h hl
    rw [skF, if_neg (by omega)] at hl
    omega
  | succ k ih =>
    intro c a h hl
    rw [skF] at hl ⊢
    by_cases h1 : a < n
    · rw [if_pos h1] at hl ⊢
      by_cases h2 : c = true ∨ f a = 32 ∨ f a = 9 ∨ f a = 10 ∨ f a = 35
      · rw [if_pos h2] at hl ⊢
        exact ih _ (a + 1) (by omega) hl
      · rw [if_neg h2]
        exact fun q => h2 (Or.inr q)
    · rw [if_neg h1] at hl
      omega
theorem sk_end {n : Int} {f : Int → Int} {a : Int} (h : sk n f a < n) : f (sk n f a) ≠ 32 ∧ f (sk n f a) ≠ 9 ∧ f (sk n f a) ≠ 10 ∧ f (sk n f a) ≠ 35 := by
  have := skF_end f n _ false a (Nat.le_refl _) h
  exact ⟨fun q => this (Or.inl q), fun q => this (Or.inr (Or.inl q)), fun q => this (Or.inr (Or.inr (Or.inl q))), fun q => this (Or.inr (Or.inr (Or.inr q)))⟩
theorem sk_fix {n : Int} {f : Int → Int} {a : Int} (h : a < n → f a ≠ 32 ∧ f a ≠ 9 ∧ f a ≠ 10 ∧ f a ≠ 35) : sk n f a = a := by
  unfold sk
  rw [skF]
  split
  · rename_i h1
    rw [if_neg]
    obtain ⟨h2, h3, h4, h5⟩ := h h1
    rintro (q | q | q | q | q)
    · cases q
    · exact h2 q
    · exact h3 q
    · exact h4 q
    · exact h5 q
  · rfl
theorem sk_sk (n : Int) (f : Int → Int) (a : Int) : sk n f (sk n f a) = sk n f a := sk_fix (fun h => sk_end h)
theorem CT.at {n : Int} {f : Int → Int} {G : St} (h : CT n f G) (k v : Int) (hk : k ≠ 1) : CT n f (up G 150 k v) := by
  obtain ⟨e1, e2, e3, e4⟩ := h
  refine ⟨?_, e2, e3, fun i h0 h1 => ?_⟩
  · rw [up_k G (by omega)]; exact e1
  · rw [up_o G (by omega)]; exact e4 i h0 h1
theorem TT.at {n : Int} {f : Int → Int} {T : St} (h : TT n f T) (k v : Int) (hk : k ≠ 5) : TT n f (up T 100 k v) := by
  obtain ⟨e1, e2, e3, e4⟩ := h
  refine ⟨?_, e2, e3, fun i h0 h1 => ?_⟩
  · rw [up_k T (by omega)]; exact e1
  · rw [up_o T (by omega)]; exact e4 i h0 h1
theorem Rd_skip_l {n : Int} {f : Int → Int} : ∀ (k : Nat) (c : Int) (G : St), CT n f G → 0 ≤ G 150 2 → (n - G 150 2).toNat ≤ k → (c = 0 ∨ c = 1) → Rd_skip_l2 c G = some (0, up G 150 2 (skF f n (decide (c = 1)) (G 150 2))) := by
  intro k
  induction k with
  | zero =>
    intro c G h h0 hk hc
    rw [Rd_skip_l2_eq, skF, if_neg (by omega), up_id]
    simp only [Rd_skip_s2, h.1, if_neg (show ¬ G 150 2 < n by omega), tk, vl, bd_some, up_ap, acp_ap, ckI_p, ckL_p, ckB_p, ckA_p, ckD_p, ckQ_p, ite_bind, ckI_bind, ckL_bind, ckB_bind, ckA_bind, ckD_bind, ckQ_bind, bd_bind, tk_bind, vl_bind, ex_bind, lb_inl, lb_some, lk_inl, lk_inr, Int.reduceEq, Int.reduceLT, Int.reduceLE, Int.reduceNe, Int.reduceAdd, Int.reduceSub, Int.reduceMul, Int.reduceNeg, ite_self, ex, Option.map_some, Option.bind_some, and_true, true_and, and_false, false_and, if_true, if_false, ite_true, ite_false, reduceIte, not_true, not_false_eq_true]
  | succ k ih =>
    intro c G h h0 hk hc
    have hn := h.2.2.1
    rw [Rd_skip_l2_eq, skF]
    by_cases h1 : G 150 2 < n
    · have hf := h.2.2.2 _ h0 h1
      have go : ∀ v : Int, (v = 0 ∨ v = 1) → Rd_skip_l2 v (up G 150 2 (G 150 2 + 1)) = some (0, up G 150 2 (skF f n (decide (v = 1)) (G 150 2 + 1))) := by
        intro v hv
        rw [ih v _ (h.at _ _ (by decide)) (by rw [up_s]; omega) (by rw [up_s]; omega) hv, up_s, up_up]
      have b73 : (Rd_skip_b73 c G).bind (lk (fun s => Rd_skip_l2 s.1 s.2) some) = some (0, up G 150 2 (skF f n (decide (f (G 150 2) = 35 ∨ (decide (c = 1) = true ∧ f (G 150 2) ≠ 10))) (G 150 2 + 1))) := by
        have go1 := go 1 (Or.inr rfl)
        have go0 := go 0 (Or.inl rfl)
        rcases hc with rfl | rfl
        · by_cases h35 : f (G 150 2) = 35
          · simp (disch := omega) only [tk, vl, bd_some, up_ap, acp_ap, ckI_p, ckL_p, ckB_p, ckA_p, ckD_p, ckQ_p, ite_bind, ckI_bind, ckL_bind, ckB_bind, ckA_bind, ckD_bind, ckQ_bind, bd_bind, tk_bind, vl_bind, ex_bind, lb_inl, lb_some, lk_inl, lk_inr, Int.reduceEq, Int.reduceLT, Int.reduceLE, Int.reduceNe, Int.reduceAdd, Int.reduceSub, Int.reduceMul, Int.reduceNeg, ite_self, ex, Option.map_some, Option.bind_some, and_true, true_and, and_false, false_and, if_true, if_false, ite_true, ite_false, reduceIte, not_true, not_false_eq_true, Rd_skip, Rd_skip_s2, Rd_skip_b73, Rd_skip_b110, hf, h35, go1]
            simp
          · simp (disch := omega) only [tk, vl, bd_some, up_ap, acp_ap, ckI_p, ckL_p, ckB_p, ckA_p, ckD_p, ckQ_p, ite_bind, ckI_bind, ckL_bind, ckB_bind, ckA_bind, ckD_bind, ckQ_bind, bd_bind, tk_bind, vl_bind, ex_bind, lb_inl, lb_some, lk_inl, lk_inr, Int.reduceEq, Int.reduceLT, Int.reduceLE, Int.reduceNe, Int.reduceAdd, Int.reduceSub, Int.reduceMul, Int.reduceNeg, ite_self, ex, Option.map_some, Option.bind_some, and_true, true_and, and_false, false_and, if_true, if_false, ite_true, ite_false, reduceIte, not_true, not_false_eq_true, Rd_skip, Rd_skip_s2, Rd_skip_b73, Rd_skip_b110, hf, h35, go0]
            simp [h35]
        · by_cases h35 : f (G 150 2) = 35
          · simp (disch := omega) only [tk, vl, bd_some, up_ap, acp_ap, ckI_p, ckL_p, ckB_p, ckA_p, ckD_p, ckQ_p, ite_bind, ckI_bind, ckL_bind, ckB_bind, ckA_bind, ckD_bind, ckQ_bind, bd_bind, tk_bind, vl_bind, ex_bind, lb_inl, lb_some, lk_inl, lk_inr, Int.reduceEq, Int.reduceLT, Int.reduceLE, Int.reduceNe, Int.reduceAdd, Int.reduceSub, Int.reduceMul, Int.reduceNeg, ite_self, ex, Option.map_some, Option.bind_some, and_true, true_and, and_false, false_and, if_true, if_false, ite_true, ite_false, reduceIte, not_true, not_false_eq_true, Rd_skip, Rd_skip_s2, Rd_skip_b73, Rd_skip_b110, hf, h35, go1]
            simp
          · by_cases h10 : f (G 150 2) = 10
            · simp (disch := omega) only [tk, vl, bd_some, up_ap, acp_ap, ckI_p, ckL_p, ckB_p, ckA_p, ckD_p, ckQ_p, ite_bind, ckI_bind, ckL_bind, ckB_bind, ckA_bind, ckD_bind, ckQ_bind, bd_bind, tk_bind, vl_bind, ex_bind, lb_inl, lb_some, lk_inl, lk_inr, Int.reduceEq, Int.reduceLT, Int.reduceLE, Int.reduceNe, Int.reduceAdd, Int.reduceSub, Int.reduceMul, Int.reduceNeg, ite_self, ex, Option.map_some, Option.bind_some, and_true, true_and, and_false, false_and, if_true, if_false, ite_true, ite_false, reduceIte, not_true, not_false_eq_true, Rd_skip, Rd_skip_s2, Rd_skip_b73, Rd_skip_b110, hf, h35, h10, go0]
              simp
            · simp (disch := omega) only [tk, vl, bd_some, up_ap, acp_ap, ckI_p, ckL_p, ckB_p, ckA_p, ckD_p, ckQ_p, ite_bind, ckI_bind, ckL_bind, ckB_bind, ckA_bind, ckD_bind, ckQ_bind, bd_bind, tk_bind, vl_bind, ex_bind, lb_inl, lb_some, lk_inl, lk_inr, Int.reduceEq, Int.reduceLT, Int.reduceLE, Int.reduceNe, Int.reduceAdd, Int.reduceSub, Int.reduceMul, Int.reduceNeg, ite_self, ex, Option.map_some, Option.bind_some, and_true, true_and, and_false, false_and, if_true, if_false, ite_true, ite_false, reduceIte, not_true, not_false_eq_true, Rd_skip, Rd_skip_s2, Rd_skip_b73, Rd_skip_b110, hf, h35, h10, go1]
              simp [h35, h10]
      rw [if_pos h1]
      by_cases h2 : decide (c = 1) = true ∨ f (G 150 2) = 32 ∨ f (G 150 2) = 9 ∨ f (G 150 2) = 10 ∨ f (G 150 2) = 35
      · rw [if_pos h2, ← b73]
        unfold Rd_skip_s2
        rw [h.1, if_pos h1, hf]
        simp only [ckB_p h0 (show G 150 2 < 4000 by omega)]
        rcases hc with rfl | rfl
        · rw [if_pos rfl]
          rcases h2 with h2 | h2 | h2 | h2 | h2
          · cases h2
          · rw [if_pos h2]
          · by_cases q : f (G 150 2) = 32
            · rw [if_pos q]
            · rw [if_neg q, if_pos h2]
          · rw [if_neg (by omega), if_neg (by omega), if_pos h2]
          · rw [if_neg (by omega), if_neg (by omega), if_neg (by omega), if_pos h2]
        · rfl
      · rw [if_neg h2, up_id]
        unfold Rd_skip_s2
        rw [h.1, if_pos h1, hf]
        simp only [ckB_p h0 (show G 150 2 < 4000 by omega)]
        rcases hc with rfl | rfl
        · rw [if_pos rfl, if_neg (fun q => h2 (Or.inr (Or.inl q))), if_neg (fun q => h2 (Or.inr (Or.inr (Or.inl q)))), if_neg (fun q => h2 (Or.inr (Or.inr (Or.inr (Or.inl q))))), if_neg (fun q => h2 (Or.inr (Or.inr (Or.inr (Or.inr q)))))]
          rfl
        · exact absurd (Or.inl rfl) h2
    · rw [if_neg h1, up_id]
      simp only [Rd_skip_s2, h.1, if_neg h1, tk, vl, bd_some, up_ap, acp_ap, ckI_p, ckL_p, ckB_p, ckA_p, ckD_p, ckQ_p, ite_bind, ckI_bind, ckL_bind, ckB_bind, ckA_bind, ckD_bind, ckQ_bind, bd_bind, tk_bind, vl_bind, ex_bind, lb_inl, lb_some, lk_inl, lk_inr, Int.reduceEq, Int.reduceLT, Int.reduceLE, Int.reduceNe, Int.reduceAdd, Int.reduceSub, Int.reduceMul, Int.reduceNeg, ite_self, ex, Option.map_some, Option.bind_some, and_true, true_and, and_false, false_and, if_true, if_false, ite_true, ite_false, reduceIte, not_true, not_false_eq_true]
theorem Rd_skip_e {n : Int} {f : Int → Int} {G : St} (h : CT n f G) (h0 : 0 ≤ G 150 2) : Rd_skip G = some (0, up G 150 2 (sk n f (G 150 2))) := by
  unfold Rd_skip
  rw [Rd_skip_l _ 0 G h h0 (Nat.le_refl _) (Or.inl rfl)]
  rfl
/-- to a comment's end -/
def cmF (f : Int → Int) (n : Int) (a : Int) : Int := if a < n ∧ f a ≠ 10 then cmF f n (a + 1) else a
termination_by (n - a).toNat
theorem cmF_ge (f : Int → Int) (n : Int) : ∀ (k : Nat) (a : Int), (n - a).toNat ≤ k → a ≤ cmF f n a := by
  intro k
  induction k with
  | zero => intro a h; rw [cmF, if_neg (by omega)]; exact Int.le_refl _
  | succ k ih =>
    intro a h
    rw [cmF]
    split
    · have := ih (a + 1) (by omega); omega
    · exact Int.le_refl _
theorem skF_cm (f : Int → Int) (n : Int) : ∀ (k : Nat) (a : Int), (n - a).toNat ≤ k → skF f n true a = skF f n false (cmF f n a) := by
  intro k
  induction k with
  | zero =>
    intro a h
    rw [cmF, if_neg (by omega), skF, if_neg (by omega), skF, if_neg (by omega)]
  | succ k ih =>
    intro a h
    rw [cmF]
    by_cases h1 : a < n
    · by_cases h2 : f a = 10
      · rw [if_neg (fun q => q.2 h2), skF, if_pos h1, if_pos (Or.inl rfl), skF.eq_1 f n false a, if_pos h1, if_pos (Or.inr (Or.inr (Or.inr (Or.inl h2))))]
        simp [h2]
      · rw [if_pos ⟨h1, h2⟩, skF, if_pos h1, if_pos (Or.inl rfl), ← ih (a + 1) (by omega)]
        simp [h2]
    · rw [if_neg (fun q => h1 q.1), skF, if_neg h1, skF, if_neg h1]
theorem Tw_gap_c {n : Int} {f : Int → Int} : ∀ (k : Nat) (x : Int) (T : St), TT n f T → 0 ≤ T 100 6 → (n - T 100 6).toNat ≤ k → Tw_gap_l48 x T = some (Sum.inl (x, up T 100 6 (cmF f n (T 100 6)))) := by
  intro k
  induction k with
  | zero =>
    intro x T h h0 hk
    rw [Tw_gap_l48_eq, cmF, if_neg (by omega), up_id]
    simp only [Tw_gap_s48, h.1, if_neg (show ¬ T 100 6 < n by omega), tk, vl, bd_some, up_ap, acp_ap, ckI_p, ckL_p, ckB_p, ckA_p, ckD_p, ckQ_p, ite_bind, ckI_bind, ckL_bind, ckB_bind, ckA_bind, ckD_bind, ckQ_bind, bd_bind, tk_bind, vl_bind, ex_bind, lb_inl, lb_some, lk_inl, lk_inr, Int.reduceEq, Int.reduceLT, Int.reduceLE, Int.reduceNe, Int.reduceAdd, Int.reduceSub, Int.reduceMul, Int.reduceNeg, ite_self, ex, Option.map_some, Option.bind_some, and_true, true_and, and_false, false_and, if_true, if_false, ite_true, ite_false, reduceIte, not_true, not_false_eq_true]
  | succ k ih =>
    intro x T h h0 hk
    have hn := h.2.2.1
    rw [Tw_gap_l48_eq, cmF]
    by_cases h1 : T 100 6 < n
    · have hf := h.2.2.2 _ h0 h1
      by_cases h2 : f (T 100 6) = 10
      · rw [if_neg (fun q => q.2 h2), up_id]
        simp (disch := omega) only [tk, vl, bd_some, up_ap, acp_ap, ckI_p, ckL_p, ckB_p, ckA_p, ckD_p, ckQ_p, ite_bind, ckI_bind, ckL_bind, ckB_bind, ckA_bind, ckD_bind, ckQ_bind, bd_bind, tk_bind, vl_bind, ex_bind, lb_inl, lb_some, lk_inl, lk_inr, Int.reduceEq, Int.reduceLT, Int.reduceLE, Int.reduceNe, Int.reduceAdd, Int.reduceSub, Int.reduceMul, Int.reduceNeg, ite_self, ex, Option.map_some, Option.bind_some, and_true, true_and, and_false, false_and, if_true, if_false, ite_true, ite_false, reduceIte, not_true, not_false_eq_true, Tw_gap_s48, Tw_gap_b81, h.1, if_pos h1, if_pos (show T 100 6 < 4000 by omega), hf, h2]
      · rw [if_pos ⟨h1, h2⟩]
        simp (disch := omega) only [tk, vl, bd_some, up_ap, acp_ap, ckI_p, ckL_p, ckB_p, ckA_p, ckD_p, ckQ_p, ite_bind, ckI_bind, ckL_bind, ckB_bind, ckA_bind, ckD_bind, ckQ_bind, bd_bind, tk_bind, vl_bind, ex_bind, lb_inl, lb_some, lk_inl, lk_inr, Int.reduceEq, Int.reduceLT, Int.reduceLE, Int.reduceNe, Int.reduceAdd, Int.reduceSub, Int.reduceMul, Int.reduceNeg, ite_self, ex, Option.map_some, Option.bind_some, and_true, true_and, and_false, false_and, if_true, if_false, ite_true, ite_false, reduceIte, not_true, not_false_eq_true, Tw_gap_s48, Tw_gap_b81, h.1, if_pos h1, if_pos (show T 100 6 < 4000 by omega), hf, h2]
        rw [ih x _ (h.at _ _ (by decide)) (by rw [up_s]; omega) (by rw [up_s]; omega), up_s, up_up]
    · rw [if_neg (fun q => h1 q.1), up_id]
      simp only [Tw_gap_s48, h.1, if_neg h1, tk, vl, bd_some, up_ap, acp_ap, ckI_p, ckL_p, ckB_p, ckA_p, ckD_p, ckQ_p, ite_bind, ckI_bind, ckL_bind, ckB_bind, ckA_bind, ckD_bind, ckQ_bind, bd_bind, tk_bind, vl_bind, ex_bind, lb_inl, lb_some, lk_inl, lk_inr, Int.reduceEq, Int.reduceLT, Int.reduceLE, Int.reduceNe, Int.reduceAdd, Int.reduceSub, Int.reduceMul, Int.reduceNeg, ite_self, ex, Option.map_some, Option.bind_some, and_true, true_and, and_false, false_and, if_true, if_false, ite_true, ite_false, reduceIte, not_true, not_false_eq_true]
theorem Tw_gap_l {n : Int} {f : Int → Int} : ∀ (k : Nat) (T : St), TT n f T → 0 ≤ T 100 6 → T 100 6 ≤ n → (n - T 100 6).toNat ≤ k → Tw_gap_l2 1 T = some (0, up T 100 6 (sk n f (T 100 6))) := by
  intro k
  induction k with
  | zero =>
    intro T h h0 hle hk
    have hn := h.2.2.1
    have e : lkF n f (T 100 6 + 0) = -1 := by unfold lkF; rw [if_neg (by omega)]
    rw [sk_fix (fun q => by omega), up_id, Tw_gap_l2_eq]
    simp only [Tw_gap_s2, tk, vl, bd_some, up_ap, acp_ap, ckI_p, ckL_p, ckB_p, ckA_p, ckD_p, ckQ_p, ite_bind, ckI_bind, ckL_bind, ckB_bind, ckA_bind, ckD_bind, ckQ_bind, bd_bind, tk_bind, vl_bind, ex_bind, lb_inl, lb_some, lk_inl, lk_inr, Int.reduceEq, Int.reduceLT, Int.reduceLE, Int.reduceNe, Int.reduceAdd, Int.reduceSub, Int.reduceMul, Int.reduceNeg, ite_self, ex, Option.map_some, Option.bind_some, and_true, true_and, and_false, false_and, if_true, if_false, ite_true, ite_false, reduceIte, not_true, not_false_eq_true, Tw_look0_e h h0 (show T 100 6 ≤ 30000 by omega) (Int.le_refl 0) (show (0 : Int) ≤ 30000 by decide), e, Tw_gap_b41]
    skip
    rw [Tw_gap_l2_eq]
    simp only [Tw_gap_s2, tk, vl, bd_some, up_ap, acp_ap, ckI_p, ckL_p, ckB_p, ckA_p, ckD_p, ckQ_p, ite_bind, ckI_bind, ckL_bind, ckB_bind, ckA_bind, ckD_bind, ckQ_bind, bd_bind, tk_bind, vl_bind, ex_bind, lb_inl, lb_some, lk_inl, lk_inr, Int.reduceEq, Int.reduceLT, Int.reduceLE, Int.reduceNe, Int.reduceAdd, Int.reduceSub, Int.reduceMul, Int.reduceNeg, ite_self, ex, Option.map_some, Option.bind_some, and_true, true_and, and_false, false_and, if_true, if_false, ite_true, ite_false, reduceIte, not_true, not_false_eq_true]
  | succ k ih =>
    intro T h h0 hle hk
    have hn := h.2.2.1
    by_cases h1 : T 100 6 < n
    · have e : lkF n f (T 100 6 + 0) = f (T 100 6) := by unfold lkF; rw [Int.add_zero, if_pos h1]
      rw [Tw_gap_l2_eq]
      simp only [Tw_gap_s2, tk, vl, bd_some, up_ap, acp_ap, ckI_p, ckL_p, ckB_p, ckA_p, ckD_p, ckQ_p, ite_bind, ckI_bind, ckL_bind, ckB_bind, ckA_bind, ckD_bind, ckQ_bind, bd_bind, tk_bind, vl_bind, ex_bind, lb_inl, lb_some, lk_inl, lk_inr, Int.reduceEq, Int.reduceLT, Int.reduceLE, Int.reduceNe, Int.reduceAdd, Int.reduceSub, Int.reduceMul, Int.reduceNeg, ite_self, ex, Option.map_some, Option.bind_some, and_true, true_and, and_false, false_and, if_true, if_false, ite_true, ite_false, reduceIte, not_true, not_false_eq_true, Tw_look0_e h h0 (show T 100 6 ≤ 30000 by omega) (Int.le_refl 0) (show (0 : Int) ≤ 30000 by decide), e, Tw_gap_b41]
      have go : Tw_gap_l2 1 (up T 100 6 (T 100 6 + 1)) = some (0, up T 100 6 (sk n f (T 100 6 + 1))) := by
        rw [ih _ (h.at _ _ (by decide)) (by rw [up_s]; omega) (by rw [up_s]; omega) (by rw [up_s]; omega), up_s, up_up]
      have s1 : (f (T 100 6) = 32 ∨ f (T 100 6) = 9 ∨ f (T 100 6) = 10) → sk n f (T 100 6) = sk n f (T 100 6 + 1) := by
        intro q
        unfold sk
        rw [skF, if_pos h1, if_pos (by rcases q with q | q | q <;> simp [q])]
        have : ¬ f (T 100 6) = 35 := by omega
        simp [this]
      by_cases q1 : f (T 100 6) = 32
      · simp (disch := omega) only [tk, vl, bd_some, up_ap, acp_ap, ckI_p, ckL_p, ckB_p, ckA_p, ckD_p, ckQ_p, ite_bind, ckI_bind, ckL_bind, ckB_bind, ckA_bind, ckD_bind, ckQ_bind, bd_bind, tk_bind, vl_bind, ex_bind, lb_inl, lb_some, lk_inl, lk_inr, Int.reduceEq, Int.reduceLT, Int.reduceLE, Int.reduceNe, Int.reduceAdd, Int.reduceSub, Int.reduceMul, Int.reduceNeg, ite_self, ex, Option.map_some, Option.bind_some, and_true, true_and, and_false, false_and, if_true, if_false, ite_true, ite_false, reduceIte, not_true, not_false_eq_true, q1, go]
        rw [s1 (Or.inl q1)]
      · by_cases q2 : f (T 100 6) = 9
        · simp (disch := omega) only [tk, vl, bd_some, up_ap, acp_ap, ckI_p, ckL_p, ckB_p, ckA_p, ckD_p, ckQ_p, ite_bind, ckI_bind, ckL_bind, ckB_bind, ckA_bind, ckD_bind, ckQ_bind, bd_bind, tk_bind, vl_bind, ex_bind, lb_inl, lb_some, lk_inl, lk_inr, Int.reduceEq, Int.reduceLT, Int.reduceLE, Int.reduceNe, Int.reduceAdd, Int.reduceSub, Int.reduceMul, Int.reduceNeg, ite_self, ex, Option.map_some, Option.bind_some, and_true, true_and, and_false, false_and, if_true, if_false, ite_true, ite_false, reduceIte, not_true, not_false_eq_true, q2, go]
          rw [s1 (Or.inr (Or.inl q2))]
        · by_cases q3 : f (T 100 6) = 10
          · simp (disch := omega) only [tk, vl, bd_some, up_ap, acp_ap, ckI_p, ckL_p, ckB_p, ckA_p, ckD_p, ckQ_p, ite_bind, ckI_bind, ckL_bind, ckB_bind, ckA_bind, ckD_bind, ckQ_bind, bd_bind, tk_bind, vl_bind, ex_bind, lb_inl, lb_some, lk_inl, lk_inr, Int.reduceEq, Int.reduceLT, Int.reduceLE, Int.reduceNe, Int.reduceAdd, Int.reduceSub, Int.reduceMul, Int.reduceNeg, ite_self, ex, Option.map_some, Option.bind_some, and_true, true_and, and_false, false_and, if_true, if_false, ite_true, ite_false, reduceIte, not_true, not_false_eq_true, q3, go]
            rw [s1 (Or.inr (Or.inr q3))]
          · by_cases q4 : f (T 100 6) = 35
            · simp only [tk, vl, bd_some, up_ap, acp_ap, ckI_p, ckL_p, ckB_p, ckA_p, ckD_p, ckQ_p, ite_bind, ckI_bind, ckL_bind, ckB_bind, ckA_bind, ckD_bind, ckQ_bind, bd_bind, tk_bind, vl_bind, ex_bind, lb_inl, lb_some, lk_inl, lk_inr, Int.reduceEq, Int.reduceLT, Int.reduceLE, Int.reduceNe, Int.reduceAdd, Int.reduceSub, Int.reduceMul, Int.reduceNeg, ite_self, ex, Option.map_some, Option.bind_some, and_true, true_and, and_false, false_and, if_true, if_false, ite_true, ite_false, reduceIte, not_true, not_false_eq_true, q4]
              rw [Tw_gap_c _ 1 T h h0 (Nat.le_refl _)]
              simp only [tk, vl, bd_some, up_ap, acp_ap, ckI_p, ckL_p, ckB_p, ckA_p, ckD_p, ckQ_p, ite_bind, ckI_bind, ckL_bind, ckB_bind, ckA_bind, ckD_bind, ckQ_bind, bd_bind, tk_bind, vl_bind, ex_bind, lb_inl, lb_some, lk_inl, lk_inr, Int.reduceEq, Int.reduceLT, Int.reduceLE, Int.reduceNe, Int.reduceAdd, Int.reduceSub, Int.reduceMul, Int.reduceNeg, ite_self, ex, Option.map_some, Option.bind_some, and_true, true_and, and_false, false_and, if_true, if_false, ite_true, ite_false, reduceIte, not_true, not_false_eq_true]
              have hc : cmF f n (T 100 6) = cmF f n (T 100 6 + 1) := by rw [cmF, if_pos ⟨h1, by omega⟩]
              have g1 := cmF_ge f n _ (T 100 6 + 1) (Nat.le_refl _)
              have hsk : sk n f (T 100 6) = sk n f (cmF f n (T 100 6)) := by
                unfold sk
                rw [skF, if_pos h1, if_pos (by simp [q4])]
                have := skF_cm f n _ (T 100 6 + 1) (Nat.le_refl _)
                simp only [q4]
                rw [show (decide (True ∨ (false = true ∧ (35 : Int) ≠ 10))) = true by decide, this, hc]
              have hle2 : cmF f n (T 100 6) ≤ n := by
                have : ∀ (k : Nat) (a : Int), (n - a).toNat ≤ k → a ≤ n → cmF f n a ≤ n := by
                  intro k
                  induction k with
                  | zero => intro a h h2; rw [cmF, if_neg (by omega)]; exact h2
                  | succ k ih => intro a h h2; rw [cmF]; split
                                 · exact ih _ (by omega) (by omega)
                                 · exact h2
                exact this _ _ (Nat.le_refl _) hle
              rw [ih _ (h.at _ _ (by decide)) (by rw [up_s, hc]; omega) (by rw [up_s]; exact hle2) (by rw [up_s, hc]; omega), up_s, up_up, ← hsk]
            · simp only [tk, vl, bd_some, up_ap, acp_ap, ckI_p, ckL_p, ckB_p, ckA_p, ckD_p, ckQ_p, ite_bind, ckI_bind, ckL_bind, ckB_bind, ckA_bind, ckD_bind, ckQ_bind, bd_bind, tk_bind, vl_bind, ex_bind, lb_inl, lb_some, lk_inl, lk_inr, Int.reduceEq, Int.reduceLT, Int.reduceLE, Int.reduceNe, Int.reduceAdd, Int.reduceSub, Int.reduceMul, Int.reduceNeg, ite_self, ex, Option.map_some, Option.bind_some, and_true, true_and, and_false, false_and, if_true, if_false, ite_true, ite_false, reduceIte, not_true, not_false_eq_true, q1, q2, q3, q4]
              rw [sk_fix (fun _ => ⟨q1, q2, q3, q4⟩), up_id, Tw_gap_l2_eq]
              simp only [Tw_gap_s2, tk, vl, bd_some, up_ap, acp_ap, ckI_p, ckL_p, ckB_p, ckA_p, ckD_p, ckQ_p, ite_bind, ckI_bind, ckL_bind, ckB_bind, ckA_bind, ckD_bind, ckQ_bind, bd_bind, tk_bind, vl_bind, ex_bind, lb_inl, lb_some, lk_inl, lk_inr, Int.reduceEq, Int.reduceLT, Int.reduceLE, Int.reduceNe, Int.reduceAdd, Int.reduceSub, Int.reduceMul, Int.reduceNeg, ite_self, ex, Option.map_some, Option.bind_some, and_true, true_and, and_false, false_and, if_true, if_false, ite_true, ite_false, reduceIte, not_true, not_false_eq_true]
    · have e : lkF n f (T 100 6 + 0) = -1 := by unfold lkF; rw [if_neg (by omega)]
      rw [sk_fix (fun q => by omega), up_id, Tw_gap_l2_eq]
      simp only [Tw_gap_s2, tk, vl, bd_some, up_ap, acp_ap, ckI_p, ckL_p, ckB_p, ckA_p, ckD_p, ckQ_p, ite_bind, ckI_bind, ckL_bind, ckB_bind, ckA_bind, ckD_bind, ckQ_bind, bd_bind, tk_bind, vl_bind, ex_bind, lb_inl, lb_some, lk_inl, lk_inr, Int.reduceEq, Int.reduceLT, Int.reduceLE, Int.reduceNe, Int.reduceAdd, Int.reduceSub, Int.reduceMul, Int.reduceNeg, ite_self, ex, Option.map_some, Option.bind_some, and_true, true_and, and_false, false_and, if_true, if_false, ite_true, ite_false, reduceIte, not_true, not_false_eq_true, Tw_look0_e h h0 (show T 100 6 ≤ 30000 by omega) (Int.le_refl 0) (show (0 : Int) ≤ 30000 by decide), e, Tw_gap_b41]
      skip
      rw [Tw_gap_l2_eq]
      simp only [Tw_gap_s2, tk, vl, bd_some, up_ap, acp_ap, ckI_p, ckL_p, ckB_p, ckA_p, ckD_p, ckQ_p, ite_bind, ckI_bind, ckL_bind, ckB_bind, ckA_bind, ckD_bind, ckQ_bind, bd_bind, tk_bind, vl_bind, ex_bind, lb_inl, lb_some, lk_inl, lk_inr, Int.reduceEq, Int.reduceLT, Int.reduceLE, Int.reduceNe, Int.reduceAdd, Int.reduceSub, Int.reduceMul, Int.reduceNeg, ite_self, ex, Option.map_some, Option.bind_some, and_true, true_and, and_false, false_and, if_true, if_false, ite_true, ite_false, reduceIte, not_true, not_false_eq_true]
theorem Tw_gap_e {n : Int} {f : Int → Int} {T : St} (h : TT n f T) (h0 : 0 ≤ T 100 6) (h1 : T 100 6 ≤ n) : Tw_gap T = some (0, up T 100 6 (sk n f (T 100 6))) := Tw_gap_l _ T h h0 h1 (Nat.le_refl _)
