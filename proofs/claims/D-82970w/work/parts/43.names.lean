/-! PLAIN: numbers and names of the text -/
/-- a fault is told -/
def fC (k p : Int) (G : St) : St := up (up G 130 0 k) 130 1 p
def fT (k p : Int) (T : St) : St := up (up T 100 7 k) 100 8 p
theorem Ft_set_e {k p : Int} {G : St} (h : G 130 0 = 0) : Ft_set k p G = some (0, fC k p G) := by
  unfold Ft_set fC; rw [if_pos h]; rfl
theorem Ft_set_f {k p : Int} {G : St} (h : G 130 0 ≠ 0) : Ft_set k p G = some (0, G) := by
  unfold Ft_set; rw [if_neg h]
theorem Tw_fail_e {k p : Int} {T : St} (h : T 100 7 = 0) : Tw_fail k p T = some (0, fT k p T) := by
  unfold Tw_fail fT; rw [if_pos h]; rfl
theorem Tw_fail_f {k p : Int} {T : St} (h : T 100 7 ≠ 0) : Tw_fail k p T = some (0, T) := by
  unfold Tw_fail; rw [if_neg h]
theorem Ft_is_0 {G : St} (h : G 130 0 = 0) : Ft_is G = some (0, G) := by
  unfold Ft_is; rw [if_pos h]; rfl
theorem Ft_is_1 {G : St} (h : G 130 0 ≠ 0) : Ft_is G = some (1, G) := by
  unfold Ft_is; rw [if_neg h]; rfl
theorem Rd_bad_e {G : St} (h : G 130 0 = 0) : Rd_bad G = some (0, fC 1 (G 150 2) G) := by
  unfold Rd_bad; rw [Ft_set_e h]; rfl
/-- digits -/
def dgE (f : Int → Int) (n : Int) (a : Int) : Int := if a < n ∧ isDg (f a) ≠ 0 then dgE f n (a + 1) else a
termination_by (n - a).toNat
theorem dgE_ge (f : Int → Int) (n : Int) : ∀ (k : Nat) (a : Int), (n - a).toNat ≤ k → a ≤ dgE f n a ∧ (a ≤ n → dgE f n a ≤ n) := by
  intro k
  induction k with
  | zero =>
    intro a h
    rw [dgE, if_neg (by omega)]
    exact ⟨Int.le_refl _, fun h => h⟩
  | succ k ih =>
    intro a h
    rw [dgE]
    split
    · have := ih (a + 1) (by omega)
      exact ⟨by omega, fun _ => this.2 (by omega)⟩
    · exact ⟨Int.le_refl _, fun h => h⟩
def nval (f : Int → Int) (a : Int) : Nat → Int
  | 0 => 0
  | k + 1 => if k < 10 then 10 * nval f a k + f (a + k) - 48 else nval f a k
theorem isDg_v {c : Int} (h : isDg c ≠ 0) : 48 ≤ c ∧ c ≤ 57 := by
  unfold isDg at h
  split at h
  · assumption
  · exact absurd rfl h
theorem nval_b (f : Int → Int) (a : Int) : ∀ k : Nat, (∀ j : Nat, j < k → isDg (f (a + j)) ≠ 0) → 0 ≤ nval f a k ∧ nval f a k < 10 ^ (min k 10) := by
  intro k
  induction k with
  | zero => intro _; exact ⟨by simp [nval], by simp [nval]⟩
  | succ k ih =>
    intro h
    have := ih (fun j hj => h j (by omega))
    have hd := isDg_v (h k (by omega))
    unfold nval
    split
    · rename_i hk
      rw [show min (k + 1) 10 = k + 1 by omega, Int.pow_succ]
      rw [show min k 10 = k by omega] at this
      omega
    · rename_i hk
      rw [show min (k + 1) 10 = 10 by omega]
      rw [show min k 10 = 10 by omega] at this
      exact this
theorem nval_c (f : Int → Int) (a : Int) (k : Nat) (h : ∀ j : Nat, j < k → isDg (f (a + j)) ≠ 0) : 0 ≤ nval f a k ∧ nval f a k < 10000000000 := by
  have := nval_b f a k h
  refine ⟨this.1, Int.lt_of_lt_of_le this.2 ?_⟩
  have : (10 : Int) ^ min k 10 ≤ 10 ^ 10 := by
    have : (10 : Nat) ^ min k 10 ≤ 10 ^ 10 := Nat.pow_le_pow_right (by decide) (by omega)
    exact_mod_cast this
  simpa using this
/-- a number at a is out of its bounds -/
def nbad (f : Int → Int) (a e least most : Int) : Prop := 10 < e - a ∨ nval f a (e - a).toNat < least ∨ most < nval f a (e - a).toNat
theorem Rd_number_l {n : Int} {f : Int → Int} {G : St} (h : CT n f G) (h0 : 0 ≤ G 150 2) (ha : G 150 2 ≤ n) (hF : G 130 0 = 0) (least most : Int) : ∀ (r k : Nat), (∀ j : Nat, j < k → isDg (f (G 150 2 + j)) ≠ 0) → G 150 2 + k ≤ n → (n - (G 150 2 + k)).toNat ≤ r → ∃ m : Nat, k ≤ m ∧ dgE f n (G 150 2 + k) = G 150 2 + m ∧ (∀ j : Nat, j < m → isDg (f (G 150 2 + j)) ≠ 0) ∧ Rd_number_l47 least most (nval f (G 150 2) k) k G = (if 10 < (m : Int) ∨ nval f (G 150 2) m < least ∨ most < nval f (G 150 2) m then some (w32 (nval f (G 150 2) m), up (fC 2 (G 150 2) G) 150 2 (G 150 2 + m)) else some (w32 (nval f (G 150 2) m), up G 150 2 (G 150 2 + m))) := by
  have e3 := h.2.2.1
  have stop : ∀ k : Nat, (∀ j : Nat, j < k → isDg (f (G 150 2 + j)) ≠ 0) → G 150 2 + k ≤ n → isDg (lkF n f (G 150 2 + k)) = 0 → Rd_number_l47 least most (nval f (G 150 2) k) k G = (if 10 < (k : Int) ∨ nval f (G 150 2) k < least ∨ most < nval f (G 150 2) k then some (w32 (nval f (G 150 2) k), up (fC 2 (G 150 2) G) 150 2 (G 150 2 + k)) else some (w32 (nval f (G 150 2) k), up G 150 2 (G 150 2 + k))) := by
    intro k hk hkn hd
    have b1 : Rd_number_b118 (nval f (G 150 2) k) k G = some (w32 (nval f (G 150 2) k), up (fC 2 (G 150 2) G) 150 2 (G 150 2 + k)) := by
      unfold Rd_number_b118 Rd_number_b130
      rw [Ft_set_e hF, bd_some]
      simp only [fC, up_ap]
      simp (disch := omega) only [tk, vl, bd_some, up_ap, acp_ap, ckI_p, ckL_p, ckB_p, ckA_p, ckD_p, ckQ_p, ite_bind, ckI_bind, ckL_bind, ckB_bind, ckA_bind, ckD_bind, ckQ_bind, bd_bind, tk_bind, vl_bind, ex_bind, lb_inl, lb_some, lk_inl, lk_inr, Int.reduceEq, Int.reduceLT, Int.reduceLE, Int.reduceNe, Int.reduceAdd, Int.reduceSub, Int.reduceMul, Int.reduceNeg, ite_self, ex, Option.map_some, Option.bind_some, and_true, true_and, and_false, false_and, if_true, if_false, ite_true, ite_false, reduceIte, not_true, not_false_eq_true, Int.reduceEq]
    have b2 : Rd_number_b130 (nval f (G 150 2) k) k G = some (w32 (nval f (G 150 2) k), up G 150 2 (G 150 2 + k)) := by
      unfold Rd_number_b130
      simp (disch := omega) only [tk, vl, bd_some, up_ap, acp_ap, ckI_p, ckL_p, ckB_p, ckA_p, ckD_p, ckQ_p, ite_bind, ckI_bind, ckL_bind, ckB_bind, ckA_bind, ckD_bind, ckQ_bind, bd_bind, tk_bind, vl_bind, ex_bind, lb_inl, lb_some, lk_inl, lk_inr, Int.reduceEq, Int.reduceLT, Int.reduceLE, Int.reduceNe, Int.reduceAdd, Int.reduceSub, Int.reduceMul, Int.reduceNeg, ite_self, ex, Option.map_some, Option.bind_some, and_true, true_and, and_false, false_and, if_true, if_false, ite_true, ite_false, reduceIte, not_true, not_false_eq_true]
    rw [Rd_number_l47_eq]
    unfold Rd_number_s47
    simp only [Rd_look_e h h0 (show G 150 2 ≤ 30000 by omega) (show (0 : Int) ≤ k by omega) (show (k : Int) ≤ 30000 by omega), bd_some, Rd_isDigit_e, hd, if_true, b1, b2, ex_bind, lb_some]
    (repeat' split) <;> first | rfl | (exfalso; omega)
  intro r
  induction r with
  | zero =>
    intro k hk hkn hr
    have e : lkF n f (G 150 2 + k) = -1 := by unfold lkF; rw [if_neg (by omega)]
    refine ⟨k, Nat.le_refl _, ?_, hk, stop k hk hkn (by rw [e]; decide)⟩
    rw [dgE, if_neg (by omega)]
  | succ r ih =>
    intro k hk hkn hr
    by_cases h1 : G 150 2 + k < n
    · have e : lkF n f (G 150 2 + k) = f (G 150 2 + k) := by unfold lkF; rw [if_pos h1]
      by_cases hd : isDg (f (G 150 2 + k)) = 0
      · refine ⟨k, Nat.le_refl _, ?_, hk, stop k hk hkn (by rw [e]; exact hd)⟩
        rw [dgE, if_neg (fun q => q.2 hd)]
      · have hk' : ∀ j : Nat, j < k + 1 → isDg (f (G 150 2 + j)) ≠ 0 := by
          intro j hj
          by_cases q : j = k
          · rw [q]; exact hd
          · exact hk j (by omega)
        obtain ⟨m, m1, m2, m3, m4⟩ := ih (k + 1) hk' (by omega) (by omega)
        refine ⟨m, by omega, ?_, m3, ?_⟩
        · rw [dgE, if_pos ⟨h1, hd⟩, ← m2]; congr 1; omega
        · rw [← m4, Rd_number_l47_eq]
          have hv := nval_c f (G 150 2) k hk
          have hdv := isDg_v hd
          unfold Rd_number_s47 Rd_number_b89
          simp only [Rd_look_e h h0 (show G 150 2 ≤ 30000 by omega) (show (0 : Int) ≤ k by omega) (show (k : Int) ≤ 30000 by omega), bd_some, Rd_isDigit_e, e, if_neg hd]
          rw [show nval f (G 150 2) (k + 1) = if k < 10 then 10 * nval f (G 150 2) k + f (G 150 2 + k) - 48 else nval f (G 150 2) k from rfl]
          by_cases q : k < 10
          · rw [if_pos (show (k : Int) < 10 by omega), if_pos q]
            simp (disch := omega) only [tk, vl, bd_some, up_ap, acp_ap, ckI_p, ckL_p, ckB_p, ckA_p, ckD_p, ckQ_p, ite_bind, ckI_bind, ckL_bind, ckB_bind, ckA_bind, ckD_bind, ckQ_bind, bd_bind, tk_bind, vl_bind, ex_bind, lb_inl, lb_some, lk_inl, lk_inr, Int.reduceEq, Int.reduceLT, Int.reduceLE, Int.reduceNe, Int.reduceAdd, Int.reduceSub, Int.reduceMul, Int.reduceNeg, ite_self, ex, Option.map_some, Option.bind_some, and_true, true_and, and_false, false_and, if_true, if_false, ite_true, ite_false, reduceIte, not_true, not_false_eq_true]
            rfl
          · rw [if_neg (show ¬ (k : Int) < 10 by omega), if_neg q]
            simp (disch := omega) only [tk, vl, bd_some, up_ap, acp_ap, ckI_p, ckL_p, ckB_p, ckA_p, ckD_p, ckQ_p, ite_bind, ckI_bind, ckL_bind, ckB_bind, ckA_bind, ckD_bind, ckQ_bind, bd_bind, tk_bind, vl_bind, ex_bind, lb_inl, lb_some, lk_inl, lk_inr, Int.reduceEq, Int.reduceLT, Int.reduceLE, Int.reduceNe, Int.reduceAdd, Int.reduceSub, Int.reduceMul, Int.reduceNeg, ite_self, ex, Option.map_some, Option.bind_some, and_true, true_and, and_false, false_and, if_true, if_false, ite_true, ite_false, reduceIte, not_true, not_false_eq_true]
            rfl
    · have e : lkF n f (G 150 2 + k) = -1 := by unfold lkF; rw [if_neg (by omega)]
      refine ⟨k, Nat.le_refl _, ?_, hk, stop k hk hkn (by rw [e]; decide)⟩
      rw [dgE, if_neg (by omega)]
theorem Tw_number_l {n : Int} {f : Int → Int} {a : Int} (h0 : 0 ≤ a) (least most : Int) (hmost : most ≤ 4294967295) : ∀ (r k : Nat) (T : St), TT n f T → T 100 7 = 0 → T 100 6 = a + k → T 100 12 = nval f a k → (∀ j : Nat, j < k → isDg (f (a + j)) ≠ 0) → a + k ≤ n → (n - (a + k)).toNat ≤ r → ∃ m : Nat, k ≤ m ∧ dgE f n (a + k) = a + m ∧ (∀ j : Nat, j < m → isDg (f (a + j)) ≠ 0) ∧ Tw_number_l36 least most a T = (if 10 < (m : Int) ∨ nval f a m < least ∨ most < nval f a m then some (0, fT 2 a (up (up T 100 12 (nval f a m)) 100 6 (a + m))) else some (0, up (up T 100 12 (nval f a m)) 100 6 (a + m))) := by
  have stop : ∀ (k : Nat) (T : St), TT n f T → T 100 7 = 0 → T 100 6 = a + k → T 100 12 = nval f a k → (∀ j : Nat, j < k → isDg (f (a + j)) ≠ 0) → a + k ≤ n → isDg (lkF n f (a + k)) = 0 → Tw_number_l36 least most a T = (if 10 < (k : Int) ∨ nval f a k < least ∨ most < nval f a k then some (0, fT 2 a (up (up T 100 12 (nval f a k)) 100 6 (a + k))) else some (0, up (up T 100 12 (nval f a k)) 100 6 (a + k))) := by
    intro k T h hF hat hnr hk hkn hd
    have e3 := h.2.2.1
    rw [up_id' hnr.symm, up_id' hat.symm]
    have b1 : Tw_number_b143 a T = some (0, fT 2 a T) := by
      unfold Tw_number_b143
      rw [Tw_fail_e hF, bd_some]
    rw [Tw_number_l36_eq]
    unfold Tw_number_s36
    simp only [Tw_look0_e h (show 0 ≤ T 100 6 by omega) (show T 100 6 ≤ 30000 by omega) (Int.le_refl 0) (show (0 : Int) ≤ 30000 by decide), bd_some, Tw_isDigit_e, hat, Int.add_zero, hd, if_true, b1, ex_bind, lb_some, hnr]
    rw [ckI_p (by omega) (by omega)]
    (repeat' split) <;> first | rfl | (exfalso; omega)
  intro r
  induction r with
  | zero =>
    intro k T h hF hat hnr hk hkn hr
    have e : lkF n f (a + k) = -1 := by unfold lkF; rw [if_neg (by omega)]
    refine ⟨k, Nat.le_refl _, ?_, hk, stop k T h hF hat hnr hk hkn (by rw [e]; decide)⟩
    rw [dgE, if_neg (by omega)]
  | succ r ih =>
    intro k T h hF hat hnr hk hkn hr
    have e3 := h.2.2.1
    by_cases h1 : a + k < n
    · have e : lkF n f (a + k) = f (a + k) := by unfold lkF; rw [if_pos h1]
      by_cases hd : isDg (f (a + k)) = 0
      · refine ⟨k, Nat.le_refl _, ?_, hk, stop k T h hF hat hnr hk hkn (by rw [e]; exact hd)⟩
        rw [dgE, if_neg (fun q => q.2 hd)]
      · have hk' : ∀ j : Nat, j < k + 1 → isDg (f (a + j)) ≠ 0 := by
          intro j hj
          by_cases q : j = k
          · rw [q]; exact hd
          · exact hk j (by omega)
        obtain ⟨m, m1, m2, m3, m4⟩ := ih (k + 1) (up (up T 100 12 (nval f a (k + 1))) 100 6 (a + (k + 1 : Nat))) ((h.at _ _ (by decide)).at _ _ (by decide)) (by rw [up_k _ (by decide), up_k _ (by decide)]; exact hF) (up_s _ _ _ _) (by rw [up_k _ (by decide), up_s]) hk' (by omega) (by omega)
        refine ⟨m, by omega, ?_, m3, ?_⟩
        · rw [dgE, if_pos ⟨h1, hd⟩, ← m2]; congr 1; omega
        · have c1 : ∀ v w : Int, up (up (up (up T 100 12 v) 100 6 w) 100 12 (nval f a m)) 100 6 (a + m) = up (up T 100 12 (nval f a m)) 100 6 (a + m) := by
            intro v w
            rw [up_cm (up (up T 100 12 v) 100 6 w) (Or.inr (by decide)), up_up, up_cm (up T 100 12 v) (Or.inr (by decide)), up_up]
          rw [c1] at m4
          rw [← m4, Tw_number_l36_eq]
          have hv := nval_c f a k hk
          have hdv := isDg_v hd
          unfold Tw_number_s36 Tw_number_b86
          simp only [Tw_look0_e h (show 0 ≤ T 100 6 by omega) (show T 100 6 ≤ 30000 by omega) (Int.le_refl 0) (show (0 : Int) ≤ 30000 by decide), bd_some, Tw_isDigit_e, hat, Int.add_zero, e, if_neg hd, hnr]
          rw [show nval f a (k + 1) = if k < 10 then 10 * nval f a k + f (a + k) - 48 else nval f a k from rfl]
          by_cases q : k < 10
          · rw [if_pos q]
            simp (disch := omega) only [tk, vl, bd_some, up_ap, acp_ap, ckI_p, ckL_p, ckB_p, ckA_p, ckD_p, ckQ_p, ite_bind, ckI_bind, ckL_bind, ckB_bind, ckA_bind, ckD_bind, ckQ_bind, bd_bind, tk_bind, vl_bind, ex_bind, lb_inl, lb_some, lk_inl, lk_inr, Int.reduceEq, Int.reduceLT, Int.reduceLE, Int.reduceNe, Int.reduceAdd, Int.reduceSub, Int.reduceMul, Int.reduceNeg, ite_self, ex, Option.map_some, Option.bind_some, and_true, true_and, and_false, false_and, if_true, if_false, ite_true, ite_false, reduceIte, not_true, not_false_eq_true, hat, if_pos (show a + (k : Int) - a < 10 by omega), show ¬ ((6 : Int) = 12) by decide]
            rw [show a + (k : Int) + 1 = a + ((k + 1 : Nat) : Int) by omega]
          · rw [if_neg q]
            simp (disch := omega) only [tk, vl, bd_some, up_ap, acp_ap, ckI_p, ckL_p, ckB_p, ckA_p, ckD_p, ckQ_p, ite_bind, ckI_bind, ckL_bind, ckB_bind, ckA_bind, ckD_bind, ckQ_bind, bd_bind, tk_bind, vl_bind, ex_bind, lb_inl, lb_some, lk_inl, lk_inr, Int.reduceEq, Int.reduceLT, Int.reduceLE, Int.reduceNe, Int.reduceAdd, Int.reduceSub, Int.reduceMul, Int.reduceNeg, ite_self, ex, Option.map_some, Option.bind_some, and_true, true_and, and_false, false_and, if_true, if_false, ite_true, ite_false, reduceIte, not_true, not_false_eq_true, hat, if_neg (show ¬ a + (k : Int) - a < 10 by omega), show ¬ ((6 : Int) = 12) by decide]
            rw [show a + (k : Int) + 1 = a + ((k + 1 : Nat) : Int) by omega]
    · have e : lkF n f (a + k) = -1 := by unfold lkF; rw [if_neg (by omega)]
      refine ⟨k, Nat.le_refl _, ?_, hk, stop k T h hF hat hnr hk hkn (by rw [e]; decide)⟩
      rw [dgE, if_neg (by omega)]
/-- the first of some that is so, or m -/
def fnd (p : Int → Int) (m k : Int) : Int := if k < m then (if p k = 0 then fnd p m (k + 1) else k) else m
termination_by (m - k).toNat
theorem fnd_r (p : Int → Int) (m : Int) : ∀ (r : Nat) (k : Int), (m - k).toNat ≤ r → k ≤ m → k ≤ fnd p m k ∧ fnd p m k ≤ m ∧ (fnd p m k < m → p (fnd p m k) ≠ 0) := by
  intro r
  induction r with
  | zero =>
    intro k h hk
    rw [fnd, if_neg (by omega)]
    exact ⟨hk, Int.le_refl _, fun h => absurd h (Int.lt_irrefl _)⟩
  | succ r ih =>
    intro k h hk
    rw [fnd]
    split
    · split
      · have := ih (k + 1) (by omega) (by omega)
        exact ⟨by omega, this.2⟩
      · rename_i h1 h2
        exact ⟨Int.le_refl _, by omega, fun _ => h2⟩
    · exact ⟨hk, Int.le_refl _, fun h => absurd h (Int.lt_irrefl _)⟩
theorem fnd_cg {p q : Int → Int} {m : Int} : ∀ (r : Nat) (k : Int), (m - k).toNat ≤ r → 0 ≤ k → (∀ j, 0 ≤ j → j < m → p j = q j) → fnd p m k = fnd q m k := by
  intro r
  induction r with
  | zero =>
    intro k h _ _
    rw [fnd, if_neg (by omega), fnd, if_neg (by omega)]
  | succ r ih =>
    intro k h h0 hp
    rw [fnd, fnd.eq_1 q]
    by_cases h1 : k < m
    · rw [if_pos h1, if_pos h1, hp k h0 h1, ih (k + 1) (by omega) (by omega) hp]
    · rw [if_neg h1, if_neg h1]
/-- r signs from k on are the same -/
def eqF (g : Int → Int) (x : Int) (h : Int → Int) (y : Int) : Nat → Nat → Int
  | _, 0 => 1
  | k, r + 1 => if g (x + k) = h (y + k) then eqF g x h y (k + 1) r else 0
theorem eqF_cg {g g' h h' : Int → Int} {x x' y y' : Int} : ∀ (r k : Nat), (∀ j : Nat, k ≤ j → j < k + r → g (x + j) = g' (x' + j) ∧ h (y + j) = h' (y' + j)) → eqF g x h y k r = eqF g' x' h' y' k r := by
  intro r
  induction r with
  | zero => intro k _; rfl
  | succ r ih =>
    intro k hh
    unfold eqF
    rw [(hh k (Nat.le_refl _) (by omega)).1, (hh k (Nat.le_refl _) (by omega)).2, ih (k + 1) (fun j h1 h2 => hh j (by omega) (by omega))]
/-- name k is what stands at a, of len signs -/
def nmC (G : St) (a len k : Int) : Int := if G 123 k = len then eqF (G 121) (G 122 k) (G 151) a 0 len.toNat else 0
def nmT (T : St) (a len k : Int) : Int := if T 112 k = len then eqF (T 105) (T 111 k) (T 105) a 0 len.toNat else 0
/-- the tables of names: well in their bounds -/
def NmC (G : St) : Prop := 0 ≤ G 120 3 ∧ G 120 3 ≤ G 120 4 ∧ G 120 4 ≤ 2000 ∧ ∀ k, 0 ≤ k → k < G 120 3 → 0 ≤ G 122 k ∧ 1 ≤ G 123 k ∧ G 122 k + G 123 k ≤ G 120 4
def NmT (n : Int) (T : St) : Prop := 0 ≤ T 100 9 ∧ ∀ k, 0 ≤ k → k < T 100 9 → 0 ≤ T 111 k ∧ 1 ≤ T 112 k ∧ T 111 k + T 112 k ≤ n
/-- the same names in both -/
def NmR (G T : St) : Prop := G 120 3 = T 100 9 ∧ ∀ k, 0 ≤ k → k < G 120 3 → G 123 k = T 112 k ∧ ∀ i, 0 ≤ i → i < G 123 k → G 121 (G 122 k + i) = T 105 (T 111 k + i)
theorem Nm_is_l {G : St} {k a len : Int} (hk0 : 0 ≤ k) (hk : k < 2001) (ha : 0 ≤ a) (hl : a + len ≤ 4000) (hf : 0 ≤ G 122 k) (hf2 : G 122 k + len ≤ 4000) : ∀ (r i : Nat), (i : Int) + r = len → Nm_is_l16 k a len i G = some (eqF (G 121) (G 122 k) (G 151) a i r, G) := by
  intro r
  induction r with
  | zero =>
    intro i hi
    rw [Nm_is_l16_eq]
    simp (disch := omega) only [Nm_is_s16, eqF, if_neg (show ¬ (i : Int) < len by omega), tk, vl, bd_some, up_ap, acp_ap, ckI_p, ckL_p, ckB_p, ckA_p, ckD_p, ckQ_p, ite_bind, ckI_bind, ckL_bind, ckB_bind, ckA_bind, ckD_bind, ckQ_bind, bd_bind, tk_bind, vl_bind, ex_bind, lb_inl, lb_some, lk_inl, lk_inr, Int.reduceEq, Int.reduceLT, Int.reduceLE, Int.reduceNe, Int.reduceAdd, Int.reduceSub, Int.reduceMul, Int.reduceNeg, ite_self, ex, Option.map_some, Option.bind_some, and_true, true_and, and_false, false_and, if_true, if_false, ite_true, ite_false, reduceIte, not_true, not_false_eq_true]
  | succ r ih =>
    intro i hi
    have go := ih (i + 1) (by omega)
    rw [Nm_is_l16_eq]
    simp (disch := omega) only [Nm_is_s16, eqF, if_pos (show (i : Int) < len by omega), tk, vl, bd_some, up_ap, acp_ap, ckI_p, ckL_p, ckB_p, ckA_p, ckD_p, ckQ_p, ite_bind, ckI_bind, ckL_bind, ckB_bind, ckA_bind, ckD_bind, ckQ_bind, bd_bind, tk_bind, vl_bind, ex_bind, lb_inl, lb_some, lk_inl, lk_inr, Int.reduceEq, Int.reduceLT, Int.reduceLE, Int.reduceNe, Int.reduceAdd, Int.reduceSub, Int.reduceMul, Int.reduceNeg, ite_self, ex, Option.map_some, Option.bind_some, and_true, true_and, and_false, false_and, if_true, if_false, ite_true, ite_false, reduceIte, not_true, not_false_eq_true]
    by_cases q : G 121 (G 122 k + i) = G 151 (a + i)
    · rw [if_pos q, if_pos q, show (i : Int) + 1 = ((i + 1 : Nat) : Int) by omega, go]
    · rw [if_neg q, if_neg q]
theorem Nm_is_e {G : St} (hN : NmC G) {k a len : Int} (hk0 : 0 ≤ k) (hk : k < G 120 3) (ha : 0 ≤ a) (hl : a + len ≤ 4000) : Nm_is k a len G = some (nmC G a len k, G) := by
  obtain ⟨n1, n2, n3, n4⟩ := hN
  obtain ⟨m1, m2, m3⟩ := n4 k hk0 hk
  unfold Nm_is nmC
  rw [ckB_p hk0 (by omega)]
  by_cases q : G 123 k = len
  · rw [if_pos q, if_pos q]
    exact Nm_is_l hk0 (by omega) ha hl m1 (by omega) len.toNat 0 (by omega)
  · rw [if_neg q, if_neg q]; rfl
/-- a name comes to the table -/
def nmU (G : St) (a len : Int) : St := up (up (acp (up (up G 122 (G 120 3) (G 120 4)) 123 (G 120 3) len) 151 a 121 (G 120 4) len) 120 4 (G 120 4 + len)) 120 3 (G 120 3 + 1)
theorem Nm_number_l {G : St} (hN : NmC G) {a len : Int} (ha : 0 ≤ a) (hl0 : 0 ≤ len) (hl : a + len ≤ 2000) : ∀ (r : Nat) (k : Int), 0 ≤ k → k ≤ G 120 3 → (G 120 3 - k).toNat ≤ r → Nm_number_l3 a len k G = some (fnd (nmC G a len) (G 120 3) k, if fnd (nmC G a len) (G 120 3) k < G 120 3 then G else nmU G a len) := by
  have hend : Nm_number_l3 a len (G 120 3) G = some (G 120 3, nmU G a len) := by
    obtain ⟨n1, n2, n3, n4⟩ := hN
    rw [Nm_number_l3_eq]
    unfold Nm_number_s3 nmU
    rw [if_neg (Int.lt_irrefl _)]
    simp (disch := omega) only [tk, vl, bd_some, up_ap, acp_ap, ckI_p, ckL_p, ckB_p, ckA_p, ckD_p, ckQ_p, ite_bind, ckI_bind, ckL_bind, ckB_bind, ckA_bind, ckD_bind, ckQ_bind, bd_bind, tk_bind, vl_bind, ex_bind, lb_inl, lb_some, lk_inl, lk_inr, Int.reduceEq, Int.reduceLT, Int.reduceLE, Int.reduceNe, Int.reduceAdd, Int.reduceSub, Int.reduceMul, Int.reduceNeg, ite_self, ex, Option.map_some, Option.bind_some, and_true, true_and, and_false, false_and, if_true, if_false, ite_true, ite_false, reduceIte, not_true, not_false_eq_true, Int.reduceEq]
    rw [show G 120 3 + 1 - 1 = G 120 3 by omega]
  intro r
  induction r with
  | zero =>
    intro k h0 hk hr
    have e : k = G 120 3 := by omega
    subst e
    rw [hend, fnd, if_neg (Int.lt_irrefl _), if_neg (Int.lt_irrefl _)]
  | succ r ih =>
    intro k h0 hk hr
    by_cases h1 : k < G 120 3
    · rw [Nm_number_l3_eq, fnd, if_pos h1]
      have n3 := hN.2.2.1
      have n2 := hN.2.1
      unfold Nm_number_s3
      simp only [if_pos h1, Nm_is_e hN h0 h1 ha (len := len) (by omega), bd_some]
      by_cases q : nmC G a len k = 0
      · rw [if_pos q, if_pos q]
        simp (disch := omega) only [tk, vl, bd_some, up_ap, acp_ap, ckI_p, ckL_p, ckB_p, ckA_p, ckD_p, ckQ_p, ite_bind, ckI_bind, ckL_bind, ckB_bind, ckA_bind, ckD_bind, ckQ_bind, bd_bind, tk_bind, vl_bind, ex_bind, lb_inl, lb_some, lk_inl, lk_inr, Int.reduceEq, Int.reduceLT, Int.reduceLE, Int.reduceNe, Int.reduceAdd, Int.reduceSub, Int.reduceMul, Int.reduceNeg, ite_self, ex, Option.map_some, Option.bind_some, and_true, true_and, and_false, false_and, if_true, if_false, ite_true, ite_false, reduceIte, not_true, not_false_eq_true, ih (k + 1) (by omega) (by omega) (by omega)]
      · rw [if_neg q, if_neg q, if_pos h1]
        simp only [tk, vl, bd_some, up_ap, acp_ap, ckI_p, ckL_p, ckB_p, ckA_p, ckD_p, ckQ_p, ite_bind, ckI_bind, ckL_bind, ckB_bind, ckA_bind, ckD_bind, ckQ_bind, bd_bind, tk_bind, vl_bind, ex_bind, lb_inl, lb_some, lk_inl, lk_inr, Int.reduceEq, Int.reduceLT, Int.reduceLE, Int.reduceNe, Int.reduceAdd, Int.reduceSub, Int.reduceMul, Int.reduceNeg, ite_self, ex, Option.map_some, Option.bind_some, and_true, true_and, and_false, false_and, if_true, if_false, ite_true, ite_false, reduceIte, not_true, not_false_eq_true]
    · have e : k = G 120 3 := by omega
      subst e
      rw [hend, fnd, if_neg (Int.lt_irrefl _), if_neg (Int.lt_irrefl _)]
theorem Nm_number_e {G : St} (hN : NmC G) {a len : Int} (ha : 0 ≤ a) (hl0 : 0 ≤ len) (hl : a + len ≤ 2000) : Nm_number a len G = some (fnd (nmC G a len) (G 120 3) 0, if fnd (nmC G a len) (G 120 3) 0 < G 120 3 then G else nmU G a len) :=
  Nm_number_l hN ha hl0 hl _ 0 (Int.le_refl _) hN.1 (Nat.le_refl _)
theorem Tw_name_i {T : St} {e k a len : Int} (hat : T 100 6 = a) (hk0 : 0 ≤ k) (hk : k < 2000) (ha : 0 ≤ a) (hl : a + len ≤ 4000) (hf : 0 ≤ T 111 k) (hf2 : T 111 k + len ≤ 4000) : ∀ (r i : Nat), (i : Int) + r = len → Tw_name_l102 e len k 1 i T = some (Sum.inl (if eqF (T 105) (T 111 k) (T 105) a i r = 0 then k + 1 else k, eqF (T 105) (T 111 k) (T 105) a i r, T)) := by
  intro r
  induction r with
  | zero =>
    intro i hi
    rw [Tw_name_l102_eq]
    simp (disch := omega) only [Tw_name_s102, Tw_name_b155, Tw_name_b166, eqF, if_neg (show ¬ (i : Int) < len by omega), tk, vl, bd_some, up_ap, acp_ap, ckI_p, ckL_p, ckB_p, ckA_p, ckD_p, ckQ_p, ite_bind, ckI_bind, ckL_bind, ckB_bind, ckA_bind, ckD_bind, ckQ_bind, bd_bind, tk_bind, vl_bind, ex_bind, lb_inl, lb_some, lk_inl, lk_inr, Int.reduceEq, Int.reduceLT, Int.reduceLE, Int.reduceNe, Int.reduceAdd, Int.reduceSub, Int.reduceMul, Int.reduceNeg, ite_self, ex, Option.map_some, Option.bind_some, and_true, true_and, and_false, false_and, if_true, if_false, ite_true, ite_false, reduceIte, not_true, not_false_eq_true, show ¬ ((1 : Int) = 0) by decide, Int.add_zero]
  | succ r ih =>
    intro i hi
    have go := ih (i + 1) (by omega)
    rw [Tw_name_l102_eq]
    simp (disch := omega) only [Tw_name_s102, Tw_name_b147, hat, if_pos (show (i : Int) < len by omega), tk, vl, bd_some, up_ap, acp_ap, ckI_p, ckL_p, ckB_p, ckA_p, ckD_p, ckQ_p, ite_bind, ckI_bind, ckL_bind, ckB_bind, ckA_bind, ckD_bind, ckQ_bind, bd_bind, tk_bind, vl_bind, ex_bind, lb_inl, lb_some, lk_inl, lk_inr, Int.reduceEq, Int.reduceLT, Int.reduceLE, Int.reduceNe, Int.reduceAdd, Int.reduceSub, Int.reduceMul, Int.reduceNeg, ite_self, ex, Option.map_some, Option.bind_some, and_true, true_and, and_false, false_and, if_true, if_false, ite_true, ite_false, reduceIte, not_true, not_false_eq_true, show ¬ ((1 : Int) = 0) by decide]
    by_cases q : T 105 (T 111 k + i) = T 105 (a + i)
    · have e1 : eqF (T 105) (T 111 k) (T 105) a i (r + 1) = eqF (T 105) (T 111 k) (T 105) a (i + 1) r := by rw [eqF, if_pos q]
      rw [if_pos q, show (i : Int) + 1 = ((i + 1 : Nat) : Int) by omega, go]
      simp only [e1]
    · have e1 : eqF (T 105) (T 111 k) (T 105) a i (r + 1) = 0 := by rw [eqF, if_neg q]
      rw [if_neg q, Tw_name_l102_eq]
      simp (disch := omega) only [Tw_name_s102, Tw_name_b155, Tw_name_b166, tk, vl, bd_some, up_ap, acp_ap, ckI_p, ckL_p, ckB_p, ckA_p, ckD_p, ckQ_p, ite_bind, ckI_bind, ckL_bind, ckB_bind, ckA_bind, ckD_bind, ckQ_bind, bd_bind, tk_bind, vl_bind, ex_bind, lb_inl, lb_some, lk_inl, lk_inr, Int.reduceEq, Int.reduceLT, Int.reduceLE, Int.reduceNe, Int.reduceAdd, Int.reduceSub, Int.reduceMul, Int.reduceNeg, ite_self, ex, Option.map_some, Option.bind_some, and_true, true_and, and_false, false_and, if_true, if_false, ite_true, ite_false, reduceIte, not_true, not_false_eq_true, e1]
def nmV (T : St) (a len : Int) : St := up (up (up T 111 (T 100 9) a) 112 (T 100 9) len) 100 9 (T 100 9 + 1)
theorem Tw_name_l {n : Int} {T : St} (hN : NmT n T) (hn : n ≤ 2000) (hm : T 100 9 < 2000) {e a len : Int} (hat : T 100 6 = a) (ha : 0 ≤ a) (hl0 : 0 ≤ len) (hl : a + len ≤ 2000) : ∀ (r : Nat) (k : Int), 0 ≤ k → k ≤ T 100 9 → (T 100 9 - k).toNat ≤ r → Tw_name_l69 e len k 0 T = some (fnd (nmT T a len) (T 100 9) k, up (if fnd (nmT T a len) (T 100 9) k < T 100 9 then T else nmV T a len) 100 6 e) := by
  have hend : Tw_name_l69 e len (T 100 9) 0 T = some (T 100 9, up (nmV T a len) 100 6 e) := by
    rw [Tw_name_l69_eq]
    unfold Tw_name_s69 Tw_name_b171 Tw_name_b212 nmV
    rw [if_neg (Int.lt_irrefl _), if_pos rfl, hat]
    have := hN.1
    simp (disch := omega) only [tk, vl, bd_some, up_ap, acp_ap, ckI_p, ckL_p, ckB_p, ckA_p, ckD_p, ckQ_p, ite_bind, ckI_bind, ckL_bind, ckB_bind, ckA_bind, ckD_bind, ckQ_bind, bd_bind, tk_bind, vl_bind, ex_bind, lb_inl, lb_some, lk_inl, lk_inr, Int.reduceEq, Int.reduceLT, Int.reduceLE, Int.reduceNe, Int.reduceAdd, Int.reduceSub, Int.reduceMul, Int.reduceNeg, ite_self, ex, Option.map_some, Option.bind_some, and_true, true_and, and_false, false_and, if_true, if_false, ite_true, ite_false, reduceIte, not_true, not_false_eq_true, Int.reduceEq]
  intro r
  induction r with
  | zero =>
    intro k h0 hk hr
    have e1 : k = T 100 9 := by omega
    subst e1
    rw [hend, fnd, if_neg (Int.lt_irrefl _), if_neg (Int.lt_irrefl _)]
  | succ r ih =>
    intro k h0 hk hr
    by_cases h1 : k < T 100 9
    · obtain ⟨m1, m2, m3⟩ := hN.2 k h0 h1
      have he : ∀ x : Int, x ≠ 0 → Tw_name_l69 e len k x T = some (k, up T 100 6 e) := by
        intro x hx
        rw [Tw_name_l69_eq]
        unfold Tw_name_s69 Tw_name_b171 Tw_name_b212
        rw [if_pos h1, if_neg hx, if_neg (by omega)]
        simp only [tk, vl, bd_some, up_ap, acp_ap, ckI_p, ckL_p, ckB_p, ckA_p, ckD_p, ckQ_p, ite_bind, ckI_bind, ckL_bind, ckB_bind, ckA_bind, ckD_bind, ckQ_bind, bd_bind, tk_bind, vl_bind, ex_bind, lb_inl, lb_some, lk_inl, lk_inr, Int.reduceEq, Int.reduceLT, Int.reduceLE, Int.reduceNe, Int.reduceAdd, Int.reduceSub, Int.reduceMul, Int.reduceNeg, ite_self, ex, Option.map_some, Option.bind_some, and_true, true_and, and_false, false_and, if_true, if_false, ite_true, ite_false, reduceIte, not_true, not_false_eq_true]
      have hz : nmT T a len k = 0 → Tw_name_l69 e len k 0 T = Tw_name_l69 e len (k + 1) 0 T := by
        intro q
        rw [Tw_name_l69_eq]
        unfold Tw_name_s69 Tw_name_b97
        unfold nmT at q
        rw [if_pos h1, if_pos rfl, ckB_p h0 (by omega)]
        by_cases q2 : T 112 k = len
        · rw [if_pos q2] at q ⊢
          rw [show (0 : Int) = ((0 : Nat) : Int) from rfl, Tw_name_i hat h0 (by omega) ha (by omega) m1 (by omega) len.toNat 0 (by omega), q]
          rfl
        · rw [if_neg q2, Tw_name_l102_eq]
          unfold Tw_name_s102 Tw_name_b155 Tw_name_b166
          simp (disch := omega) only [tk, vl, bd_some, up_ap, acp_ap, ckI_p, ckL_p, ckB_p, ckA_p, ckD_p, ckQ_p, ite_bind, ckI_bind, ckL_bind, ckB_bind, ckA_bind, ckD_bind, ckQ_bind, bd_bind, tk_bind, vl_bind, ex_bind, lb_inl, lb_some, lk_inl, lk_inr, Int.reduceEq, Int.reduceLT, Int.reduceLE, Int.reduceNe, Int.reduceAdd, Int.reduceSub, Int.reduceMul, Int.reduceNeg, ite_self, ex, Option.map_some, Option.bind_some, and_true, true_and, and_false, false_and, if_true, if_false, ite_true, ite_false, reduceIte, not_true, not_false_eq_true]
      have hnz : nmT T a len k ≠ 0 → Tw_name_l69 e len k 0 T = some (k, up T 100 6 e) := by
        intro q
        rw [Tw_name_l69_eq]
        unfold Tw_name_s69 Tw_name_b97
        unfold nmT at q
        rw [if_pos h1, if_pos rfl, ckB_p h0 (by omega)]
        by_cases q2 : T 112 k = len
        · rw [if_pos q2] at q ⊢
          rw [show (0 : Int) = ((0 : Nat) : Int) from rfl, Tw_name_i hat h0 (by omega) ha (by omega) m1 (by omega) len.toNat 0 (by omega), if_neg q]
          exact he _ q
        · rw [if_neg q2] at q
          exact absurd rfl q
      rw [fnd, if_pos h1]
      by_cases q : nmT T a len k = 0
      · rw [if_pos q, hz q, ih (k + 1) (by omega) (by omega) (by omega)]
      · rw [if_neg q, if_pos h1, hnz q]
    · have e1 : k = T 100 9 := by omega
      subst e1
      rw [hend, fnd, if_neg (Int.lt_irrefl _), if_neg (Int.lt_irrefl _)]
