/-! PLAIN: words of the text -/
def weF (f : Int → Int) (n : Int) (a : Int) : Int := if a < n ∧ (isLt (f a) ≠ 0 ∨ isDg (f a) ≠ 0) then weF f n (a + 1) else a
termination_by (n - a).toNat
theorem weF_ge (f : Int → Int) (n : Int) : ∀ (k : Nat) (a : Int), (n - a).toNat ≤ k → a ≤ weF f n a ∧ (a ≤ n → weF f n a ≤ n) := by
  intro k
  induction k with
  | zero =>
    intro a h
    rw [weF, if_neg (by omega)]
    exact ⟨Int.le_refl _, fun h => h⟩
  | succ k ih =>
    intro a h
    rw [weF]
    split
    · have := ih (a + 1) (by omega)
      exact ⟨by omega, fun _ => this.2 (by omega)⟩
    · exact ⟨Int.le_refl _, fun h => h⟩
/-- where the word at a ends -/
def we (n : Int) (f : Int → Int) (a : Int) : Int := if a < n ∧ isLt (f a) ≠ 0 then weF f n a else a
theorem we_ge (n : Int) (f : Int → Int) (a : Int) : a ≤ we n f a := by
  unfold we; split
  · exact (weF_ge f n _ a (Nat.le_refl _)).1
  · exact Int.le_refl _
theorem we_le {n : Int} {f : Int → Int} {a : Int} (h : a ≤ n) : we n f a ≤ n := by
  unfold we; split
  · exact (weF_ge f n _ a (Nat.le_refl _)).2 h
  · exact h
theorem we_lt {n : Int} {f : Int → Int} {a : Int} (h : we n f a ≠ a) : a < n ∧ isLt (f a) ≠ 0 := by
  unfold we at h
  split at h
  · assumption
  · exact absurd rfl h
theorem Rd_wordEnd_l {n : Int} {f : Int → Int} {G : St} (h : CT n f G) : ∀ (k : Nat) (x : Int), 0 ≤ x → (n - x).toNat ≤ k → Rd_wordEnd_l25 x G = some (weF f n x, G) := by
  intro k
  obtain ⟨e1, e2, e3, e4⟩ := h
  induction k with
  | zero =>
    intro x h0 hk
    rw [Rd_wordEnd_l25_eq, weF, if_neg (by omega)]
    simp only [Rd_wordEnd_s25, Rd_wordEnd_b63, e1, if_neg (show ¬ x < n by omega), tk, vl, bd_some, up_ap, acp_ap, ckI_p, ckL_p, ckB_p, ckA_p, ckD_p, ckQ_p, ite_bind, ckI_bind, ckL_bind, ckB_bind, ckA_bind, ckD_bind, ckQ_bind, bd_bind, tk_bind, vl_bind, ex_bind, lb_inl, lb_some, lk_inl, lk_inr, Int.reduceEq, Int.reduceLT, Int.reduceLE, Int.reduceNe, Int.reduceAdd, Int.reduceSub, Int.reduceMul, Int.reduceNeg, ite_self, ex, Option.map_some, Option.bind_some, and_true, true_and, and_false, false_and, if_true, if_false, ite_true, ite_false, reduceIte, not_true, not_false_eq_true]
  | succ k ih =>
    intro x h0 hk
    rw [Rd_wordEnd_l25_eq, weF]
    by_cases h1 : x < n
    · have hf := e4 x h0 h1
      have go := ih (x + 1) (by omega) (by omega)
      by_cases a1 : isLt (f x) = 0
      · by_cases a2 : isDg (f x) = 0
        · rw [if_neg (by intro q; rcases q.2 with q | q <;> contradiction)]
          simp (disch := omega) only [Rd_wordEnd_s25, Rd_wordEnd_b63, Rd_wordEnd_b57, e1, if_pos h1, hf, Rd_isLetter_e, Rd_isDigit_e, a1, a2, tk, vl, bd_some, up_ap, acp_ap, ckI_p, ckL_p, ckB_p, ckA_p, ckD_p, ckQ_p, ite_bind, ckI_bind, ckL_bind, ckB_bind, ckA_bind, ckD_bind, ckQ_bind, bd_bind, tk_bind, vl_bind, ex_bind, lb_inl, lb_some, lk_inl, lk_inr, Int.reduceEq, Int.reduceLT, Int.reduceLE, Int.reduceNe, Int.reduceAdd, Int.reduceSub, Int.reduceMul, Int.reduceNeg, ite_self, ex, Option.map_some, Option.bind_some, and_true, true_and, and_false, false_and, if_true, if_false, ite_true, ite_false, reduceIte, not_true, not_false_eq_true]
        · rw [if_pos ⟨h1, Or.inr a2⟩]
          simp (disch := omega) only [Rd_wordEnd_s25, Rd_wordEnd_b63, Rd_wordEnd_b57, e1, if_pos h1, hf, Rd_isLetter_e, Rd_isDigit_e, a1, if_neg a2, tk, vl, bd_some, up_ap, acp_ap, ckI_p, ckL_p, ckB_p, ckA_p, ckD_p, ckQ_p, ite_bind, ckI_bind, ckL_bind, ckB_bind, ckA_bind, ckD_bind, ckQ_bind, bd_bind, tk_bind, vl_bind, ex_bind, lb_inl, lb_some, lk_inl, lk_inr, Int.reduceEq, Int.reduceLT, Int.reduceLE, Int.reduceNe, Int.reduceAdd, Int.reduceSub, Int.reduceMul, Int.reduceNeg, ite_self, ex, Option.map_some, Option.bind_some, and_true, true_and, and_false, false_and, if_true, if_false, ite_true, ite_false, reduceIte, not_true, not_false_eq_true, go]
      · rw [if_pos ⟨h1, Or.inl a1⟩]
        simp (disch := omega) only [Rd_wordEnd_s25, Rd_wordEnd_b63, Rd_wordEnd_b57, e1, if_pos h1, hf, Rd_isLetter_e, Rd_isDigit_e, if_neg a1, tk, vl, bd_some, up_ap, acp_ap, ckI_p, ckL_p, ckB_p, ckA_p, ckD_p, ckQ_p, ite_bind, ckI_bind, ckL_bind, ckB_bind, ckA_bind, ckD_bind, ckQ_bind, bd_bind, tk_bind, vl_bind, ex_bind, lb_inl, lb_some, lk_inl, lk_inr, Int.reduceEq, Int.reduceLT, Int.reduceLE, Int.reduceNe, Int.reduceAdd, Int.reduceSub, Int.reduceMul, Int.reduceNeg, ite_self, ex, Option.map_some, Option.bind_some, and_true, true_and, and_false, false_and, if_true, if_false, ite_true, ite_false, reduceIte, not_true, not_false_eq_true, go]
    · rw [if_neg (fun q => h1 q.1)]
      simp only [Rd_wordEnd_s25, Rd_wordEnd_b63, e1, if_neg h1, tk, vl, bd_some, up_ap, acp_ap, ckI_p, ckL_p, ckB_p, ckA_p, ckD_p, ckQ_p, ite_bind, ckI_bind, ckL_bind, ckB_bind, ckA_bind, ckD_bind, ckQ_bind, bd_bind, tk_bind, vl_bind, ex_bind, lb_inl, lb_some, lk_inl, lk_inr, Int.reduceEq, Int.reduceLT, Int.reduceLE, Int.reduceNe, Int.reduceAdd, Int.reduceSub, Int.reduceMul, Int.reduceNeg, ite_self, ex, Option.map_some, Option.bind_some, and_true, true_and, and_false, false_and, if_true, if_false, ite_true, ite_false, reduceIte, not_true, not_false_eq_true]
theorem we_0 {n : Int} {f : Int → Int} {a : Int} (h : ¬ (a < n ∧ isLt (f a) ≠ 0)) : we n f a = a := if_neg h
theorem we_1 {n : Int} {f : Int → Int} {a : Int} (h : a < n ∧ isLt (f a) ≠ 0) : we n f a = weF f n a := if_pos h
theorem Rd_wordEnd_e {n : Int} {f : Int → Int} {G : St} (h : CT n f G) (h0 : 0 ≤ G 150 2) : Rd_wordEnd G = some (we n f (G 150 2), G) := by
  have e1 := h.1
  have e3 := h.2.2.1
  by_cases h1 : G 150 2 < n
  · have hf := h.2.2.2 _ h0 h1
    by_cases a1 : isLt (f (G 150 2)) = 0
    · rw [we_0 (fun q => q.2 a1)]
      unfold Rd_wordEnd
      simp (disch := omega) only [Rd_wordEnd_b63, e1, if_pos h1, hf, Rd_isLetter_e, a1, tk, vl, bd_some, up_ap, acp_ap, ckI_p, ckL_p, ckB_p, ckA_p, ckD_p, ckQ_p, ite_bind, ckI_bind, ckL_bind, ckB_bind, ckA_bind, ckD_bind, ckQ_bind, bd_bind, tk_bind, vl_bind, ex_bind, lb_inl, lb_some, lk_inl, lk_inr, Int.reduceEq, Int.reduceLT, Int.reduceLE, Int.reduceNe, Int.reduceAdd, Int.reduceSub, Int.reduceMul, Int.reduceNeg, ite_self, ex, Option.map_some, Option.bind_some, and_true, true_and, and_false, false_and, if_true, if_false, ite_true, ite_false, reduceIte, not_true, not_false_eq_true]
    · rw [we_1 ⟨h1, a1⟩]
      unfold Rd_wordEnd
      simp (disch := omega) only [Rd_wordEnd_b63, e1, if_pos h1, hf, Rd_isLetter_e, if_neg a1, tk, vl, bd_some, up_ap, acp_ap, ckI_p, ckL_p, ckB_p, ckA_p, ckD_p, ckQ_p, ite_bind, ckI_bind, ckL_bind, ckB_bind, ckA_bind, ckD_bind, ckQ_bind, bd_bind, tk_bind, vl_bind, ex_bind, lb_inl, lb_some, lk_inl, lk_inr, Int.reduceEq, Int.reduceLT, Int.reduceLE, Int.reduceNe, Int.reduceAdd, Int.reduceSub, Int.reduceMul, Int.reduceNeg, ite_self, ex, Option.map_some, Option.bind_some, and_true, true_and, and_false, false_and, if_true, if_false, ite_true, ite_false, reduceIte, not_true, not_false_eq_true, Rd_wordEnd_l h _ _ h0 (Nat.le_refl _)]
  · rw [we_0 (fun q => h1 q.1)]
    unfold Rd_wordEnd
    simp only [Rd_wordEnd_b63, e1, if_neg h1, tk, vl, bd_some, up_ap, acp_ap, ckI_p, ckL_p, ckB_p, ckA_p, ckD_p, ckQ_p, ite_bind, ckI_bind, ckL_bind, ckB_bind, ckA_bind, ckD_bind, ckQ_bind, bd_bind, tk_bind, vl_bind, ex_bind, lb_inl, lb_some, lk_inl, lk_inr, Int.reduceEq, Int.reduceLT, Int.reduceLE, Int.reduceNe, Int.reduceAdd, Int.reduceSub, Int.reduceMul, Int.reduceNeg, ite_self, ex, Option.map_some, Option.bind_some, and_true, true_and, and_false, false_and, if_true, if_false, ite_true, ite_false, reduceIte, not_true, not_false_eq_true]
theorem Tw_wordEnd_l {n : Int} {f : Int → Int} {T : St} (h : TT n f T) : ∀ (k : Nat) (x : Int), 0 ≤ x → (n - x).toNat ≤ k → Tw_wordEnd_l16 x T = some (weF f n x, T) := by
  intro k
  obtain ⟨e1, e2, e3, e4⟩ := h
  induction k with
  | zero =>
    intro x h0 hk
    rw [Tw_wordEnd_l16_eq, weF, if_neg (by omega)]
    simp only [Tw_wordEnd_s16, Tw_wordEnd_b76, e1, if_neg (show ¬ x < n by omega), tk, vl, bd_some, up_ap, acp_ap, ckI_p, ckL_p, ckB_p, ckA_p, ckD_p, ckQ_p, ite_bind, ckI_bind, ckL_bind, ckB_bind, ckA_bind, ckD_bind, ckQ_bind, bd_bind, tk_bind, vl_bind, ex_bind, lb_inl, lb_some, lk_inl, lk_inr, Int.reduceEq, Int.reduceLT, Int.reduceLE, Int.reduceNe, Int.reduceAdd, Int.reduceSub, Int.reduceMul, Int.reduceNeg, ite_self, ex, Option.map_some, Option.bind_some, and_true, true_and, and_false, false_and, if_true, if_false, ite_true, ite_false, reduceIte, not_true, not_false_eq_true]
  | succ k ih =>
    intro x h0 hk
    rw [Tw_wordEnd_l16_eq, weF]
    by_cases h1 : x < n
    · have hf := e4 x h0 h1
      have go := ih (x + 1) (by omega) (by omega)
      have h4 : x < 4000 := by omega
      by_cases a1 : isLt (f x) = 0
      · by_cases a2 : isDg (f x) = 0
        · rw [if_neg (by intro q; rcases q.2 with q | q <;> contradiction)]
          simp (disch := omega) only [Tw_wordEnd, Tw_wordEnd_s16, Tw_wordEnd_b40, Tw_wordEnd_b63, Tw_wordEnd_b70, Tw_wordEnd_b76, e1, if_pos h1, if_pos h4, hf, Tw_isLetter_e, Tw_isDigit_e, a1, a2, tk, vl, bd_some, up_ap, acp_ap, ckI_p, ckL_p, ckB_p, ckA_p, ckD_p, ckQ_p, ite_bind, ckI_bind, ckL_bind, ckB_bind, ckA_bind, ckD_bind, ckQ_bind, bd_bind, tk_bind, vl_bind, ex_bind, lb_inl, lb_some, lk_inl, lk_inr, Int.reduceEq, Int.reduceLT, Int.reduceLE, Int.reduceNe, Int.reduceAdd, Int.reduceSub, Int.reduceMul, Int.reduceNeg, ite_self, ex, Option.map_some, Option.bind_some, and_true, true_and, and_false, false_and, if_true, if_false, ite_true, ite_false, reduceIte, not_true, not_false_eq_true]
        · rw [if_pos ⟨h1, Or.inr a2⟩]
          simp (disch := omega) only [Tw_wordEnd, Tw_wordEnd_s16, Tw_wordEnd_b40, Tw_wordEnd_b63, Tw_wordEnd_b70, Tw_wordEnd_b76, e1, if_pos h1, if_pos h4, hf, Tw_isLetter_e, Tw_isDigit_e, a1, if_neg a2, tk, vl, bd_some, up_ap, acp_ap, ckI_p, ckL_p, ckB_p, ckA_p, ckD_p, ckQ_p, ite_bind, ckI_bind, ckL_bind, ckB_bind, ckA_bind, ckD_bind, ckQ_bind, bd_bind, tk_bind, vl_bind, ex_bind, lb_inl, lb_some, lk_inl, lk_inr, Int.reduceEq, Int.reduceLT, Int.reduceLE, Int.reduceNe, Int.reduceAdd, Int.reduceSub, Int.reduceMul, Int.reduceNeg, ite_self, ex, Option.map_some, Option.bind_some, and_true, true_and, and_false, false_and, if_true, if_false, ite_true, ite_false, reduceIte, not_true, not_false_eq_true, go]
      · rw [if_pos ⟨h1, Or.inl a1⟩]
        simp (disch := omega) only [Tw_wordEnd, Tw_wordEnd_s16, Tw_wordEnd_b40, Tw_wordEnd_b63, Tw_wordEnd_b70, Tw_wordEnd_b76, e1, if_pos h1, if_pos h4, hf, Tw_isLetter_e, Tw_isDigit_e, if_neg a1, tk, vl, bd_some, up_ap, acp_ap, ckI_p, ckL_p, ckB_p, ckA_p, ckD_p, ckQ_p, ite_bind, ckI_bind, ckL_bind, ckB_bind, ckA_bind, ckD_bind, ckQ_bind, bd_bind, tk_bind, vl_bind, ex_bind, lb_inl, lb_some, lk_inl, lk_inr, Int.reduceEq, Int.reduceLT, Int.reduceLE, Int.reduceNe, Int.reduceAdd, Int.reduceSub, Int.reduceMul, Int.reduceNeg, ite_self, ex, Option.map_some, Option.bind_some, and_true, true_and, and_false, false_and, if_true, if_false, ite_true, ite_false, reduceIte, not_true, not_false_eq_true, go]
    · rw [if_neg (fun q => h1 q.1)]
      simp only [Tw_wordEnd_s16, Tw_wordEnd_b76, e1, if_neg h1, tk, vl, bd_some, up_ap, acp_ap, ckI_p, ckL_p, ckB_p, ckA_p, ckD_p, ckQ_p, ite_bind, ckI_bind, ckL_bind, ckB_bind, ckA_bind, ckD_bind, ckQ_bind, bd_bind, tk_bind, vl_bind, ex_bind, lb_inl, lb_some, lk_inl, lk_inr, Int.reduceEq, Int.reduceLT, Int.reduceLE, Int.reduceNe, Int.reduceAdd, Int.reduceSub, Int.reduceMul, Int.reduceNeg, ite_self, ex, Option.map_some, Option.bind_some, and_true, true_and, and_false, false_and, if_true, if_false, ite_true, ite_false, reduceIte, not_true, not_false_eq_true]
theorem Tw_wordEnd_e {n : Int} {f : Int → Int} {T : St} (h : TT n f T) (h0 : 0 ≤ T 100 6) (hm : T 100 6 ≤ 30000) : Tw_wordEnd T = some (we n f (T 100 6), T) := by
  have e1 := h.1
  have e3 := h.2.2.1
  by_cases h1 : T 100 6 < n
  · have e : lkF n f (T 100 6 + 0) = f (T 100 6) := by unfold lkF; rw [Int.add_zero, if_pos h1]
    by_cases a1 : isLt (f (T 100 6)) = 0
    · rw [we_0 (fun q => q.2 a1)]
      unfold Tw_wordEnd
      rw [Tw_look0_e h h0 hm (Int.le_refl 0) (show (0 : Int) ≤ 30000 by decide)]
      simp (disch := omega) only [Tw_wordEnd_b76, e, Tw_isLetter_e, a1, tk, vl, bd_some, up_ap, acp_ap, ckI_p, ckL_p, ckB_p, ckA_p, ckD_p, ckQ_p, ite_bind, ckI_bind, ckL_bind, ckB_bind, ckA_bind, ckD_bind, ckQ_bind, bd_bind, tk_bind, vl_bind, ex_bind, lb_inl, lb_some, lk_inl, lk_inr, Int.reduceEq, Int.reduceLT, Int.reduceLE, Int.reduceNe, Int.reduceAdd, Int.reduceSub, Int.reduceMul, Int.reduceNeg, ite_self, ex, Option.map_some, Option.bind_some, and_true, true_and, and_false, false_and, if_true, if_false, ite_true, ite_false, reduceIte, not_true, not_false_eq_true]
    · rw [we_1 ⟨h1, a1⟩]
      unfold Tw_wordEnd
      rw [Tw_look0_e h h0 hm (Int.le_refl 0) (show (0 : Int) ≤ 30000 by decide)]
      simp (disch := omega) only [Tw_wordEnd_b76, e, Tw_isLetter_e, if_neg a1, tk, vl, bd_some, up_ap, acp_ap, ckI_p, ckL_p, ckB_p, ckA_p, ckD_p, ckQ_p, ite_bind, ckI_bind, ckL_bind, ckB_bind, ckA_bind, ckD_bind, ckQ_bind, bd_bind, tk_bind, vl_bind, ex_bind, lb_inl, lb_some, lk_inl, lk_inr, Int.reduceEq, Int.reduceLT, Int.reduceLE, Int.reduceNe, Int.reduceAdd, Int.reduceSub, Int.reduceMul, Int.reduceNeg, ite_self, ex, Option.map_some, Option.bind_some, and_true, true_and, and_false, false_and, if_true, if_false, ite_true, ite_false, reduceIte, not_true, not_false_eq_true, Tw_wordEnd_l h _ _ h0 (Nat.le_refl _)]
  · have e : lkF n f (T 100 6 + 0) = -1 := by unfold lkF; rw [if_neg (by omega)]
    rw [we_0 (fun q => h1 q.1)]
    unfold Tw_wordEnd
    rw [Tw_look0_e h h0 hm (Int.le_refl 0) (show (0 : Int) ≤ 30000 by decide)]
    simp only [Tw_wordEnd_b76, e, Tw_isLetter_e, show isLt (-1) = 0 by decide, tk, vl, bd_some, up_ap, acp_ap, ckI_p, ckL_p, ckB_p, ckA_p, ckD_p, ckQ_p, ite_bind, ckI_bind, ckL_bind, ckB_bind, ckA_bind, ckD_bind, ckQ_bind, bd_bind, tk_bind, vl_bind, ex_bind, lb_inl, lb_some, lk_inl, lk_inr, Int.reduceEq, Int.reduceLT, Int.reduceLE, Int.reduceNe, Int.reduceAdd, Int.reduceSub, Int.reduceMul, Int.reduceNeg, ite_self, ex, Option.map_some, Option.bind_some, and_true, true_and, and_false, false_and, if_true, if_false, ite_true, ite_false, reduceIte, not_true, not_false_eq_true]
/-- whether word i of the table stands at a: its signs from k on, r of them -/
def mtF (f : Int → Int) (a : Int) (i : Nat) : Nat → Nat → Int
  | _, 0 => 1
  | k, r + 1 => if f (a + k) = swb i k then mtF f a i (k + 1) r else 0
def iw (n : Int) (f : Int → Int) (a : Int) (i : Nat) : Int := if we n f a - a = swl i then mtF f a i 0 (swl i) else 0
theorem mtF_r (f : Int → Int) (a : Int) (i : Nat) : ∀ (r k : Nat), mtF f a i k r = 0 ∨ mtF f a i k r = 1 := by
  intro r
  induction r with
  | zero => intro k; exact Or.inr rfl
  | succ r ih => intro k; unfold mtF; split
                 · exact ih _
                 · exact Or.inl rfl
theorem iw_r (n : Int) (f : Int → Int) (a : Int) (i : Nat) : iw n f a i = 0 ∨ iw n f a i = 1 := by
  unfold iw; split
  · exact mtF_r _ _ _ _ _
  · exact Or.inl rfl
theorem mtF_1 (f : Int → Int) (a : Int) (i : Nat) : ∀ (r k : Nat), mtF f a i k r = 1 → ∀ j : Nat, k ≤ j → j < k + r → f (a + j) = swb i j := by
  intro r
  induction r with
  | zero => intro k h j h1 h2; omega
  | succ r ih =>
    intro k h j h1 h2
    unfold mtF at h
    split at h
    · rename_i e
      by_cases q : j = k
      · rw [q]; exact e
      · exact ih (k + 1) h j (by omega) (by omega)
    · exact absurd h (by decide)
theorem swl_pos : ∀ i : Nat, i < 13 → 0 < swl i ∧ swl i ≤ 6 := by decide
theorem swb_ne : ∀ i : Nat, i < 13 → ∀ j : Nat, j < 13 → i ≠ j → swl i = swl j → ∃ k : Nat, k < 6 ∧ k < swl i ∧ swb i k ≠ swb j k := by decide
theorem iw_1 {n : Int} {f : Int → Int} {a : Int} {i : Nat} (h : iw n f a i = 1) : we n f a = a + swl i ∧ ∀ j : Nat, j < swl i → f (a + j) = swb i j := by
  unfold iw at h
  split at h
  · rename_i e
    exact ⟨by omega, fun j hj => mtF_1 f a i _ _ h j (Nat.zero_le _) (by omega)⟩
  · exact absurd h (by decide)
theorem iw_x {n : Int} {f : Int → Int} {a : Int} {i j : Nat} (h : iw n f a i = 1) (hi : i < 13) (hj : j < 13) (hij : i ≠ j) : iw n f a j = 0 := by
  rcases iw_r n f a j with q | q
  · exact q
  · obtain ⟨a1, a2⟩ := iw_1 h
    obtain ⟨b1, b2⟩ := iw_1 q
    have hl : swl i = swl j := by omega
    obtain ⟨k, _, k2, k3⟩ := swb_ne i hi j hj hij hl
    have := a2 k k2
    have := b2 k (by omega)
    omega
theorem iw_lt {n : Int} {f : Int → Int} {a : Int} {i : Nat} (h : iw n f a i = 1) (hi : i < 13) : a < n ∧ isLt (f a) ≠ 0 ∧ we n f a = a + swl i := by
  obtain ⟨a1, a2⟩ := iw_1 h
  have := swl_pos i hi
  have := we_lt (n := n) (f := f) (a := a) (by omega)
  exact ⟨this.1, this.2, a1⟩
theorem Rd_isWord_l {n : Int} {f : Int → Int} {G : St} (h : CT n f G) (h0 : 0 ≤ G 150 2) {i : Nat} (hi : i < 13) (hl : G 150 2 + swl i ≤ n) : ∀ (r k : Nat), k + r = swl i → Rd_isWord_l22 (70 + i) (swl i) k G = some (mtF f (G 150 2) i k r, G) := by
  intro r
  obtain ⟨e1, e2, e3, e4⟩ := h
  have hs := swl_pos i hi
  induction r with
  | zero =>
    intro k hk
    rw [Rd_isWord_l22_eq]
    simp (disch := omega) only [Rd_isWord_s22, mtF, if_neg (show ¬ (k : Int) < (swl i : Nat) by omega), tk, vl, bd_some, up_ap, acp_ap, ckI_p, ckL_p, ckB_p, ckA_p, ckD_p, ckQ_p, ite_bind, ckI_bind, ckL_bind, ckB_bind, ckA_bind, ckD_bind, ckQ_bind, bd_bind, tk_bind, vl_bind, ex_bind, lb_inl, lb_some, lk_inl, lk_inr, Int.reduceEq, Int.reduceLT, Int.reduceLE, Int.reduceNe, Int.reduceAdd, Int.reduceSub, Int.reduceMul, Int.reduceNeg, ite_self, ex, Option.map_some, Option.bind_some, and_true, true_and, and_false, false_and, if_true, if_false, ite_true, ite_false, reduceIte, not_true, not_false_eq_true]
  | succ r ih =>
    intro k hk
    have go := ih (k + 1) (by omega)
    have hf := e4 (G 150 2 + k) (by omega) (by omega)
    have hc : (70 + (i : Int) - 70).toNat = i := by omega
    rw [Rd_isWord_l22_eq]
    by_cases q : f (G 150 2 + k) = swb i k
    · simp (disch := omega) only [Rd_isWord_s22, mtF, if_pos (show (k : Int) < (swl i : Nat) by omega), tk, vl, bd_some, up_ap, acp_ap, ckI_p, ckL_p, ckB_p, ckA_p, ckD_p, ckQ_p, ite_bind, ckI_bind, ckL_bind, ckB_bind, ckA_bind, ckD_bind, ckQ_bind, bd_bind, tk_bind, vl_bind, ex_bind, lb_inl, lb_some, lk_inl, lk_inr, Int.reduceEq, Int.reduceLT, Int.reduceLE, Int.reduceNe, Int.reduceAdd, Int.reduceSub, Int.reduceMul, Int.reduceNeg, ite_self, ex, Option.map_some, Option.bind_some, and_true, true_and, and_false, false_and, if_true, if_false, ite_true, ite_false, reduceIte, not_true, not_false_eq_true, S_chr, hc, Int.toNat_natCast, hf, q]
      rw [show (k : Int) + 1 = ((k + 1 : Nat) : Int) by omega, go]
    · simp (disch := omega) only [Rd_isWord_s22, mtF, if_pos (show (k : Int) < (swl i : Nat) by omega), tk, vl, bd_some, up_ap, acp_ap, ckI_p, ckL_p, ckB_p, ckA_p, ckD_p, ckQ_p, ite_bind, ckI_bind, ckL_bind, ckB_bind, ckA_bind, ckD_bind, ckQ_bind, bd_bind, tk_bind, vl_bind, ex_bind, lb_inl, lb_some, lk_inl, lk_inr, Int.reduceEq, Int.reduceLT, Int.reduceLE, Int.reduceNe, Int.reduceAdd, Int.reduceSub, Int.reduceMul, Int.reduceNeg, ite_self, ex, Option.map_some, Option.bind_some, and_true, true_and, and_false, false_and, if_true, if_false, ite_true, ite_false, reduceIte, not_true, not_false_eq_true, S_chr, hc, Int.toNat_natCast, hf, if_neg q]
theorem Rd_isWord_e {n : Int} {f : Int → Int} {G : St} (h : CT n f G) (h0 : 0 ≤ G 150 2) (hm : G 150 2 ≤ 30000) {w : Int} (i : Nat) (hi : i < 13) (hw : w = 70 + i) : Rd_isWord w G = some (iw n f (G 150 2) i, G) := by
  subst hw
  have g1 := we_ge n f (G 150 2)
  have g2 : we n f (G 150 2) ≤ 30000 := by
    by_cases q : G 150 2 ≤ n
    · have := we_le (f := f) q; have := h.2.2.1; omega
    · unfold we; rw [if_neg (by omega)]; exact hm
  have hc : (70 + (i : Int) - 70).toNat = i := by omega
  have hs := swl_pos i hi
  unfold Rd_isWord iw
  simp (disch := omega) only [S_len, hc, ckB_p, bd_some, Rd_wordEnd_e h h0, ckI_p]
  by_cases q : we n f (G 150 2) - G 150 2 = swl i
  · rw [if_pos q, if_pos q]
    have l1 := (we_lt (n := n) (f := f) (a := G 150 2) (by omega)).1
    have := we_le (n := n) (f := f) (a := G 150 2) (by omega)
    exact Rd_isWord_l h h0 hi (by omega) (swl i) 0 (by omega)
  · rw [if_neg q, if_neg q]
theorem Tw_isWord_l {n : Int} {f : Int → Int} {T : St} (h : TT n f T) (h0 : 0 ≤ T 100 6) {i : Nat} (hi : i < 13) (hl : T 100 6 + swl i ≤ n) : ∀ (r k : Nat), k + r = swl i → Tw_isWord_l35 (70 + i) 1 k T = some (mtF f (T 100 6) i k r, T) := by
  intro r
  obtain ⟨e1, e2, e3, e4⟩ := h
  have hs := swl_pos i hi
  have hc : (70 + (i : Int) - 70).toNat = i := by omega
  induction r with
  | zero =>
    intro k hk
    rw [Tw_isWord_l35_eq]
    simp (disch := omega) only [Tw_isWord_s35, Tw_isWord_b81, mtF, S_len, hc, tk, vl, bd_some, up_ap, acp_ap, ckI_p, ckL_p, ckB_p, ckA_p, ckD_p, ckQ_p, ite_bind, ckI_bind, ckL_bind, ckB_bind, ckA_bind, ckD_bind, ckQ_bind, bd_bind, tk_bind, vl_bind, ex_bind, lb_inl, lb_some, lk_inl, lk_inr, Int.reduceEq, Int.reduceLT, Int.reduceLE, Int.reduceNe, Int.reduceAdd, Int.reduceSub, Int.reduceMul, Int.reduceNeg, ite_self, ex, Option.map_some, Option.bind_some, and_true, true_and, and_false, false_and, if_true, if_false, ite_true, ite_false, reduceIte, not_true, not_false_eq_true]
    rw [if_neg (show ¬ (k : Int) < (swl i : Nat) by omega)]
  | succ r ih =>
    intro k hk
    have go := ih (k + 1) (by omega)
    have hf := e4 (T 100 6 + k) (by omega) (by omega)
    rw [Tw_isWord_l35_eq]
    simp (disch := omega) only [Tw_isWord_s35, Tw_isWord_b81, Tw_isWord_b74, S_len, S_chr, hc, tk, vl, bd_some, up_ap, acp_ap, ckI_p, ckL_p, ckB_p, ckA_p, ckD_p, ckQ_p, ite_bind, ckI_bind, ckL_bind, ckB_bind, ckA_bind, ckD_bind, ckQ_bind, bd_bind, tk_bind, vl_bind, ex_bind, lb_inl, lb_some, lk_inl, lk_inr, Int.reduceEq, Int.reduceLT, Int.reduceLE, Int.reduceNe, Int.reduceAdd, Int.reduceSub, Int.reduceMul, Int.reduceNeg, ite_self, ex, Option.map_some, Option.bind_some, and_true, true_and, and_false, false_and, if_true, if_false, ite_true, ite_false, reduceIte, not_true, not_false_eq_true, Int.toNat_natCast, hf]
    rw [if_pos (show (k : Int) < (swl i : Nat) by omega)]
    rw [mtF, show (k : Int) + 1 = ((k + 1 : Nat) : Int) by omega]
    by_cases q : f (T 100 6 + k) = swb i k
    · rw [if_pos q, if_pos q, go]
    · rw [if_neg q, if_neg q, Tw_isWord_l35_eq]
      simp (disch := omega) only [Tw_isWord_s35, Tw_isWord_b81, tk, vl, bd_some, up_ap, acp_ap, ckI_p, ckL_p, ckB_p, ckA_p, ckD_p, ckQ_p, ite_bind, ckI_bind, ckL_bind, ckB_bind, ckA_bind, ckD_bind, ckQ_bind, bd_bind, tk_bind, vl_bind, ex_bind, lb_inl, lb_some, lk_inl, lk_inr, Int.reduceEq, Int.reduceLT, Int.reduceLE, Int.reduceNe, Int.reduceAdd, Int.reduceSub, Int.reduceMul, Int.reduceNeg, ite_self, ex, Option.map_some, Option.bind_some, and_true, true_and, and_false, false_and, if_true, if_false, ite_true, ite_false, reduceIte, not_true, not_false_eq_true]
theorem Tw_isWord_e {n : Int} {f : Int → Int} {T : St} (h : TT n f T) (h0 : 0 ≤ T 100 6) (hm : T 100 6 ≤ 30000) {w : Int} (i : Nat) (hi : i < 13) (hw : w = 70 + i) : Tw_isWord w T = some (iw n f (T 100 6) i, T) := by
  subst hw
  have g1 := we_ge n f (T 100 6)
  have g2 : we n f (T 100 6) ≤ 30000 := by
    by_cases q : T 100 6 ≤ n
    · have := we_le (f := f) q; have := h.2.2.1; omega
    · unfold we; rw [if_neg (by omega)]; exact hm
  have hc : (70 + (i : Int) - 70).toNat = i := by omega
  have hs := swl_pos i hi
  unfold Tw_isWord iw
  simp (disch := omega) only [S_len, hc, ckB_p, bd_some, Tw_wordEnd_e h h0 hm, ckI_p, Tw_isWord_b31]
  by_cases q : we n f (T 100 6) - T 100 6 = swl i
  · rw [if_pos q, if_pos q, if_pos (by omega)]
    have l1 := (we_lt (n := n) (f := f) (a := T 100 6) (by omega)).1
    have := we_le (n := n) (f := f) (a := T 100 6) (by omega)
    exact Tw_isWord_l h h0 hi (by omega) (swl i) 0 (by omega)
  · rw [if_neg q, if_neg q, Tw_isWord_l35_eq]
    simp (disch := omega) only [Tw_isWord_s35, Tw_isWord_b81, tk, vl, bd_some, up_ap, acp_ap, ckI_p, ckL_p, ckB_p, ckA_p, ckD_p, ckQ_p, ite_bind, ckI_bind, ckL_bind, ckB_bind, ckA_bind, ckD_bind, ckQ_bind, bd_bind, tk_bind, vl_bind, ex_bind, lb_inl, lb_some, lk_inl, lk_inr, Int.reduceEq, Int.reduceLT, Int.reduceLE, Int.reduceNe, Int.reduceAdd, Int.reduceSub, Int.reduceMul, Int.reduceNeg, ite_self, ex, Option.map_some, Option.bind_some, and_true, true_and, and_false, false_and, if_true, if_false, ite_true, ite_false, reduceIte, not_true, not_false_eq_true]
/-- words that are no names -/
def kw (n : Int) (f : Int → Int) (a : Int) : Int := if iw n f a 0 = 0 then (if iw n f a 1 = 0 then (if iw n f a 2 = 0 then (if iw n f a 3 = 0 then (if iw n f a 4 = 0 then (if iw n f a 5 = 0 then (if iw n f a 6 = 0 then (if iw n f a 7 = 0 then (if iw n f a 8 = 0 then (if iw n f a 9 = 0 then (if iw n f a 10 = 0 then (if iw n f a 11 = 0 then (if iw n f a 12 = 0 then 0 else 1) else 1) else 1) else 1) else 1) else 1) else 1) else 1) else 1) else 1) else 1) else 1) else 1
theorem si {c : Prop} [Decidable c] (a b : Int) (G : St) : some (if c then a else b, G) = if c then some (a, G) else some (b, G) := by split <;> rfl
theorem if0 {x y : Int} (h : (if x = 0 then y else 1) = 0) : x = 0 ∧ y = 0 := by
  by_cases q : x = 0
  · rw [if_pos q] at h; exact ⟨q, h⟩
  · rw [if_neg q] at h; exact absurd h (by decide)
theorem kw_0 {n : Int} {f : Int → Int} {a : Int} (h : kw n f a = 0) : iw n f a 0 = 0 ∧ iw n f a 1 = 0 ∧ iw n f a 2 = 0 ∧ iw n f a 3 = 0 ∧ iw n f a 4 = 0 ∧ iw n f a 5 = 0 ∧ iw n f a 6 = 0 ∧ iw n f a 7 = 0 ∧ iw n f a 8 = 0 ∧ iw n f a 9 = 0 ∧ iw n f a 10 = 0 ∧ iw n f a 11 = 0 ∧ iw n f a 12 = 0 := by
  unfold kw at h
  have h0 := if0 h
  have h1 := if0 h0.2
  have h2 := if0 h1.2
  have h3 := if0 h2.2
  have h4 := if0 h3.2
  have h5 := if0 h4.2
  have h6 := if0 h5.2
  have h7 := if0 h6.2
  have h8 := if0 h7.2
  have h9 := if0 h8.2
  have h10 := if0 h9.2
  have h11 := if0 h10.2
  exact ⟨h0.1, h1.1, h2.1, h3.1, h4.1, h5.1, h6.1, h7.1, h8.1, h9.1, h10.1, h11.1, (if0 h11.2).1⟩
theorem Rd_isKeyword_e {n : Int} {f : Int → Int} {G : St} (h : CT n f G) (h0 : 0 ≤ G 150 2) (hm : G 150 2 ≤ 30000) : Rd_isKeyword G = some (kw n f (G 150 2), G) := by
  unfold Rd_isKeyword kw
  simp only [Rd_isWord_e (w := 70) h h0 hm 0 (by decide) rfl, Rd_isWord_e (w := 71) h h0 hm 1 (by decide) rfl, Rd_isWord_e (w := 72) h h0 hm 2 (by decide) rfl, Rd_isWord_e (w := 73) h h0 hm 3 (by decide) rfl, Rd_isWord_e (w := 74) h h0 hm 4 (by decide) rfl, Rd_isWord_e (w := 75) h h0 hm 5 (by decide) rfl, Rd_isWord_e (w := 76) h h0 hm 6 (by decide) rfl, Rd_isWord_e (w := 77) h h0 hm 7 (by decide) rfl, Rd_isWord_e (w := 78) h h0 hm 8 (by decide) rfl, Rd_isWord_e (w := 79) h h0 hm 9 (by decide) rfl, Rd_isWord_e (w := 80) h h0 hm 10 (by decide) rfl, Rd_isWord_e (w := 81) h h0 hm 11 (by decide) rfl, Rd_isWord_e (w := 82) h h0 hm 12 (by decide) rfl, bd_some]
  simp only [show ∀ (r : Option (Int × St)), ckB 1 2 r = r from fun r => rfl, show ∀ (c : Prop) [Decidable c] (r : Option (Int × St)), ckB (if c then 0 else 1) 2 r = r from fun c _ r => by split <;> rfl]
  simp only [si]
theorem Tw_isKept_e {n : Int} {f : Int → Int} {T : St} (h : TT n f T) (h0 : 0 ≤ T 100 6) (hm : T 100 6 ≤ 30000) : Tw_isKept T = some (kw n f (T 100 6), T) := by
  unfold Tw_isKept kw
  simp only [Tw_isWord_e (w := 70) h h0 hm 0 (by decide) rfl, Tw_isWord_e (w := 71) h h0 hm 1 (by decide) rfl, Tw_isWord_e (w := 72) h h0 hm 2 (by decide) rfl, Tw_isWord_e (w := 73) h h0 hm 3 (by decide) rfl, Tw_isWord_e (w := 74) h h0 hm 4 (by decide) rfl, Tw_isWord_e (w := 75) h h0 hm 5 (by decide) rfl, Tw_isWord_e (w := 76) h h0 hm 6 (by decide) rfl, Tw_isWord_e (w := 77) h h0 hm 7 (by decide) rfl, Tw_isWord_e (w := 78) h h0 hm 8 (by decide) rfl, Tw_isWord_e (w := 79) h h0 hm 9 (by decide) rfl, Tw_isWord_e (w := 80) h h0 hm 10 (by decide) rfl, Tw_isWord_e (w := 81) h h0 hm 11 (by decide) rfl, Tw_isWord_e (w := 82) h h0 hm 12 (by decide) rfl, bd_some]
  simp only [show ∀ (r : Option (Int × St)), ckB 1 2 r = r from fun r => rfl, show ∀ (c : Prop) [Decidable c] (r : Option (Int × St)), ckB (if c then 0 else 1) 2 r = r from fun c _ r => by split <;> rfl]
  simp only [si]
