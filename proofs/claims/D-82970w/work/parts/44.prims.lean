/-! PLAIN: both readers side by side; the small steps -/
/-- where both are, and that no fault was found -/
def PRa (n : Int) (f : Int → Int) (G T : St) : Prop := CT n f G ∧ TT n f T ∧ (0 ≤ G 150 2 ∧ G 150 2 ≤ n ∧ 0 ≤ T 100 6 ∧ T 100 6 ≤ n ∧ sk n f (G 150 2) = sk n f (T 100 6)) ∧ G 130 0 = 0 ∧ T 100 7 = 0
def PRn (n : Int) (G T : St) : Prop := NmC G ∧ NmT n T ∧ NmR G T ∧ G 120 4 ≤ G 150 2
def PRs (G T : St) : Prop := (G 150 3 = T 100 19 ∧ 0 ≤ G 150 3 ∧ G 150 3 ≤ 30) ∧ (0 ≤ G 110 4 ∧ G 110 4 ≤ 2 * G 150 2 + 2) ∧ (0 ≤ T 100 13 ∧ 0 ≤ T 100 20 ∧ 0 ≤ T 100 26 ∧ T 100 26 ≤ T 100 19 ∧ T 100 13 + 2 * T 100 20 + 4 * T 100 26 ≤ 4 * T 100 6 + 4) ∧ (0 ≤ G 150 4 ∧ G 150 4 ≤ 330 ∧ 0 ≤ G 150 5 ∧ G 150 5 ≤ 330)
def PR (n : Int) (f : Int → Int) (G T : St) : Prop := PRa n f G T ∧ PRn n G T ∧ PRs G T
/-- a fault was found in the component, and so much work is still done: k -/
def FG (n : Int) (f : Int → Int) (k w p : Int) (G : St) : Prop := CT n f G ∧ 0 ≤ G 150 2 ∧ G 150 2 ≤ 2000 + k ∧ 0 ≤ G 110 4 ∧ G 110 4 ≤ 4010 + k ∧ -10 - k ≤ G 150 3 ∧ G 150 3 ≤ 50 + k ∧ -10 ≤ G 150 4 ∧ G 150 4 ≤ 400 ∧ -10 ≤ G 150 5 ∧ G 150 5 ≤ 400 ∧ G 130 0 = w ∧ G 130 1 = p ∧ w ≠ 0 ∧ 0 ≤ k
def FX (w p : Int) (T : St) : Prop := T 100 7 = w ∧ T 100 8 = p ∧ 0 < w
theorem CT.cg {n : Int} {f : Int → Int} {G G' : St} (h : CT n f G) (h1 : G' 150 1 = G 150 1) (h2 : G' 151 = G 151) : CT n f G' := by
  unfold CT at *
  rw [h1, h2]; exact h
theorem TT.cg {n : Int} {f : Int → Int} {T T' : St} (h : TT n f T) (h1 : T' 100 5 = T 100 5) (h2 : T' 105 = T 105) : TT n f T' := by
  unfold TT at *
  rw [h1, h2]; exact h
theorem FG.mono {n : Int} {f : Int → Int} {k k' w p : Int} {G : St} (h : FG n f k w p G) (hk : k ≤ k') : FG n f k' w p G := by
  obtain ⟨a, b, c, d, e, g, h, i1, i2, i3, i4, i, j, l, m⟩ := h
  exact ⟨a, b, by omega, d, by omega, by omega, by omega, i1, i2, i3, i4, i, j, l, by omega⟩
/-- both go on to other places of the text -/
theorem PR.go {n : Int} {f : Int → Int} {G T G' T' : St} (h : PR n f G T)
    (hC : ∀ o k, ¬ fS [] [(150, 2), (150, 10), (150, 11), (150, 12), (150, 13), (150, 14), (150, 15)] o k → G' o k = G o k)
    (hT : ∀ o k, ¬ fS [] [(100, 6), (100, 12), (100, 31), (100, 32), (100, 25)] o k → T' o k = T o k)
    (a1 : G 150 2 ≤ G' 150 2) (a2 : G' 150 2 ≤ n) (b1 : T 100 6 ≤ T' 100 6) (b2 : T' 100 6 ≤ n) (e : sk n f (G' 150 2) = sk n f (T' 100 6)) : PR n f G' T' := by
  have c : ∀ o k, (o = 150 → k ≠ 2 ∧ k ≠ 10 ∧ k ≠ 11 ∧ k ≠ 12 ∧ k ≠ 13 ∧ k ≠ 14 ∧ k ≠ 15) → G' o k = G o k := by
    intro o k q
    refine hC o k ?_
    unfold fS
    intro hh
    simp only [List.not_mem_nil, List.mem_cons, Prod.mk.injEq, or_false, false_or] at hh
    by_cases ho : o = 150
    · have := q ho; omega
    · omega
  have t : ∀ o k, (o = 100 → k ≠ 6 ∧ k ≠ 12 ∧ k ≠ 31 ∧ k ≠ 32 ∧ k ≠ 25) → T' o k = T o k := by
    intro o k q
    refine hT o k ?_
    unfold fS
    intro hh
    simp only [List.not_mem_nil, List.mem_cons, Prod.mk.injEq, or_false, false_or] at hh
    by_cases ho : o = 100
    · have := q ho; omega
    · omega
  obtain ⟨⟨x1, x2, ⟨y1, y2, y3, y4, y5⟩, x4, x5⟩, ⟨z1, z2, z3, z4⟩, w1, w2, w3, w4⟩ := h
  have cf : ∀ o, o ≠ 150 → G' o = G o := fun o ho => funext fun k => c o k (fun e => absurd e ho)
  have tf : ∀ o, o ≠ 100 → T' o = T o := fun o ho => funext fun k => t o k (fun e => absurd e ho)
  have c1 := c 150 1 (by omega)
  have c3 := c 150 3 (by omega)
  have c4 := c 150 4 (by omega)
  have c5 := c 150 5 (by omega)
  have t1 := t 100 5 (by omega)
  have t2 := t 100 7 (by omega)
  have t3 := t 100 9 (by omega)
  have t4 := t 100 13 (by omega)
  have t5 := t 100 19 (by omega)
  have t6 := t 100 20 (by omega)
  have t7 := t 100 26 (by omega)
  have t8 := t 100 29 (by omega)
  have t9 := t 100 30 (by omega)
  refine ⟨⟨x1.cg c1 (cf _ (by decide)), x2.cg t1 (tf _ (by decide)), ⟨by omega, a2, by omega, b2, e⟩, ?_, by omega⟩, ⟨?_, ?_, ?_, ?_⟩, ?_⟩
  · rw [cf 130 (by decide)]; exact x4
  · unfold NmC at *
    rw [cf 120 (by decide), cf 122 (by decide), cf 123 (by decide)]; exact z1
  · unfold NmT at *
    rw [t3, tf 111 (by decide), tf 112 (by decide)]; exact z2
  · unfold NmR at *
    rw [t3, cf 120 (by decide), cf 122 (by decide), cf 123 (by decide), cf 121 (by decide), tf 111 (by decide), tf 112 (by decide), tf 105 (by decide)]; exact z3
  · rw [cf 120 (by decide)]; omega
  · refine ⟨?_, ?_, ?_, ?_⟩
    · rw [c3, t5]; exact w1
    · rw [cf 110 (by decide)]; omega
    · rw [t4, t5, t6, t7]; omega
    · rw [c4, c5]; exact w4
/-- the sign c stands at a, and is not half of another one -/
def prF (c d : Int) : Int := if (c = 124 ∧ d = 124) ∨ (c = 38 ∧ d = 38) ∨ ((c = 61 ∨ c = 33 ∨ c = 60 ∨ c = 62) ∧ d = 61) ∨ (c = 60 ∧ d = 60) ∨ (c = 62 ∧ d = 62) then 1 else 0
def sg (n : Int) (f : Int → Int) (a c : Int) : Int := if lkF n f a = c ∧ prF c (lkF n f (a + 1)) = 0 then 1 else 0
theorem sg_r (n : Int) (f : Int → Int) (a c : Int) : sg n f a c = 0 ∨ sg n f a c = 1 := by unfold sg; split; exact Or.inr rfl; exact Or.inl rfl
theorem sg_1 {n : Int} {f : Int → Int} {a c : Int} (h : sg n f a c = 1) : lkF n f a = c ∧ prF c (lkF n f (a + 1)) = 0 := by
  unfold sg at h
  split at h
  · assumption
  · exact absurd h (by decide)
theorem lkF_lt {n : Int} {f : Int → Int} {a c : Int} (h : lkF n f a = c) (hc : c ≠ -1) : a < n ∧ f a = c := by
  unfold lkF at h
  split at h
  · exact ⟨by assumption, h⟩
  · exact absurd h.symm hc
theorem Tw_isPair_e {n : Int} {f : Int → Int} {T : St} (h : TT n f T) (h0 : 0 ≤ T 100 6) (hm : T 100 6 ≤ 30000) : Tw_isPair T = some (prF (lkF n f (T 100 6)) (lkF n f (T 100 6 + 1)), T) := by
  unfold Tw_isPair
  simp only [Tw_look0_e h h0 hm (Int.le_refl 0) (show (0 : Int) ≤ 30000 by decide), Tw_look0_e h h0 hm (show (0 : Int) ≤ 1 by decide) (show (1 : Int) ≤ 30000 by decide), bd_some, Int.add_zero, Tw_isPair_b24, Tw_isPair_b36, Tw_isPair_b60, Tw_isPair_b66]
  generalize lkF n f (T 100 6) = c
  generalize lkF n f (T 100 6 + 1) = d
  by_cases c1 : c = 124
  · subst c1
    by_cases d1 : d = 124 <;> simp [d1, prF, ckB]
  by_cases c2 : c = 38
  · subst c2
    by_cases d1 : d = 38 <;> simp [d1, prF, ckB]
  by_cases c3 : c = 61
  · subst c3
    by_cases d1 : d = 61 <;> simp [d1, prF, ckB]
  by_cases c4 : c = 33
  · subst c4
    by_cases d1 : d = 61 <;> simp [d1, prF, ckB]
  by_cases c5 : c = 60
  · subst c5
    by_cases d1 : d = 61
    · simp [d1, prF, ckB]
    · by_cases d2 : d = 60 <;> simp [d1, d2, prF, ckB]
  by_cases c6 : c = 62
  · subst c6
    by_cases d1 : d = 61
    · simp [d1, prF, ckB]
    · by_cases d2 : d = 62 <;> simp [d1, d2, prF, ckB]
  simp [c1, c2, c3, c4, c5, c6, prF, ckB]
theorem Tw_isSign_e {n : Int} {f : Int → Int} {T : St} (h : TT n f T) (h0 : 0 ≤ T 100 6) (hm : T 100 6 ≤ 30000) (c : Int) : Tw_isSign c T = some (sg n f (T 100 6) c, T) := by
  unfold Tw_isSign sg
  simp only [Tw_look0_e h h0 hm (Int.le_refl 0) (show (0 : Int) ≤ 30000 by decide), bd_some, Int.add_zero, Tw_isPair_e h h0 hm]
  by_cases q : lkF n f (T 100 6) = c
  · rw [if_pos q, q]
    by_cases q2 : prF c (lkF n f (T 100 6 + 1)) = 0
    · rw [if_pos q2, if_pos ⟨rfl, q2⟩]; rfl
    · rw [if_neg q2, if_neg (fun x => q2 x.2)]; rfl
  · rw [if_neg q, if_neg (fun x => q x.1)]; rfl
def skC (n : Int) (f : Int → Int) (G : St) : St := up G 150 2 (sk n f (G 150 2))
def skT (n : Int) (f : Int → Int) (T : St) : St := up T 100 6 (sk n f (T 100 6))
theorem Rd_isSign_e {n : Int} {f : Int → Int} {G : St} (h : CT n f G) (h0 : 0 ≤ G 150 2) (hm : G 150 2 ≤ 30000) (c : Int) : Rd_isSign c G = some (if lkF n f (sk n f (G 150 2)) = c then 1 else 0, skC n f G) := by
  have g1 := sk_ge n f (G 150 2)
  have g2 : sk n f (G 150 2) ≤ 30000 := by
    by_cases q : G 150 2 ≤ n
    · have := sk_le (f := f) q; have := h.2.2.1; omega
    · rw [sk_fix (fun q2 => by omega)]; exact hm
  unfold Rd_isSign skC
  simp only [Rd_skip_e h h0, bd_some, Rd_look_e (h.at 2 _ (by decide)) (show 0 ≤ up G 150 2 (sk n f (G 150 2)) 150 2 by rw [up_s]; omega) (show up G 150 2 (sk n f (G 150 2)) 150 2 ≤ 30000 by rw [up_s]; omega) (Int.le_refl 0) (show (0 : Int) ≤ 30000 by decide), up_s, Int.add_zero]
  split <;> rfl
/-- signs that the readers ask for -/
def sgs : List Int := [40, 41, 44, 58, 59, 61, 63, 91, 93, 123, 125]
theorem sg_c {n : Int} {f : Int → Int} {a c : Int} (hc : c ∈ sgs) (h : c ≠ 61) : sg n f a c = if lkF n f a = c then 1 else 0 := by
  have hp : ∀ d, prF c d = 0 := by
    intro d
    unfold sgs at hc
    simp only [List.mem_cons, List.not_mem_nil, or_false] at hc
    unfold prF
    rw [if_neg (by omega)]
  unfold sg
  rw [hp]
  simp
theorem Rd_isAlone_e {n : Int} {f : Int → Int} {G : St} (h : CT n f G) (h0 : 0 ≤ G 150 2) (hm : G 150 2 ≤ 30000) : Rd_isAlone 61 61 G = some (sg n f (sk n f (G 150 2)) 61, skC n f G) := by
  have g1 := sk_ge n f (G 150 2)
  have g2 : sk n f (G 150 2) ≤ 30000 := by
    by_cases q : G 150 2 ≤ n
    · have := sk_le (f := f) q; have := h.2.2.1; omega
    · rw [sk_fix (fun q2 => by omega)]; exact hm
  unfold Rd_isAlone
  simp only [Rd_isSign_e h h0 hm, bd_some]
  have hl : Rd_look 1 (skC n f G) = some (lkF n f (sk n f (G 150 2) + 1), skC n f G) := by
    unfold skC
    rw [Rd_look_e (h.at 2 _ (by decide)) (by rw [up_s]; omega) (by rw [up_s]; omega) (by decide) (by decide), up_s]
  rw [hl]
  unfold sg prF
  generalize lkF n f (sk n f (G 150 2)) = c
  generalize lkF n f (sk n f (G 150 2) + 1) = d
  simp only [bd_some]
  unfold ckB
  (repeat' split) <;> first | rfl | (exfalso; omega) | simp_all
theorem skC_at (n : Int) (f : Int → Int) (G : St) : skC n f G 150 2 = sk n f (G 150 2) := up_s _ _ _ _
theorem skT_at (n : Int) (f : Int → Int) (T : St) : skT n f T 100 6 = sk n f (T 100 6) := up_s _ _ _ _
theorem skC_o (n : Int) (f : Int → Int) (G : St) {o : Int} (k : Int) (h : o ≠ 150) : skC n f G o k = G o k := up_o _ h
theorem skC_k (n : Int) (f : Int → Int) (G : St) (o : Int) {k : Int} (h : k ≠ 2) : skC n f G o k = G o k := up_k _ h
theorem skT_o (n : Int) (f : Int → Int) (T : St) {o : Int} (k : Int) (h : o ≠ 100) : skT n f T o k = T o k := up_o _ h
theorem skT_k (n : Int) (f : Int → Int) (T : St) (o : Int) {k : Int} (h : k ≠ 6) : skT n f T o k = T o k := up_k _ h
theorem skC_CT {n : Int} {f : Int → Int} {G : St} (h : CT n f G) : CT n f (skC n f G) := h.at _ _ (by decide)
theorem skT_TT {n : Int} {f : Int → Int} {T : St} (h : TT n f T) : TT n f (skT n f T) := h.at _ _ (by decide)
theorem skC_fix {n : Int} {f : Int → Int} {G : St} (h : sk n f (G 150 2) = G 150 2) : skC n f G = G := up_id' h
theorem skT_fix {n : Int} {f : Int → Int} {T : St} (h : sk n f (T 100 6) = T 100 6) : skT n f T = T := up_id' h
theorem skC_skC (n : Int) (f : Int → Int) (G : St) : skC n f (skC n f G) = skC n f G := skC_fix (by rw [skC_at, sk_sk])
theorem skT_skT (n : Int) (f : Int → Int) (T : St) : skT n f (skT n f T) = skT n f T := skT_fix (by rw [skT_at, sk_sk])
theorem sk_3 {n : Int} {f : Int → Int} {a : Int} (hn : n ≤ 1999) (h0 : 0 ≤ a) (hm : a ≤ 30000) : 0 ≤ sk n f a ∧ sk n f a ≤ 30000 := by
  have g1 := sk_ge n f a
  refine ⟨by omega, ?_⟩
  by_cases q : a ≤ n
  · have := sk_le (f := f) q; omega
  · rw [sk_fix (fun q2 => by omega)]; exact hm
theorem Rd_sign_e {n : Int} {f : Int → Int} {G : St} {c : Int} (hc : c ∈ sgs) (h : CT n f G) (h0 : 0 ≤ G 150 2) (hm : G 150 2 ≤ 30000) : Rd_sign c G = some (0, if G 130 0 = 0 then (if sg n f (sk n f (G 150 2)) c = 1 then up G 150 2 (sk n f (G 150 2) + 1) else fC 1 (sk n f (G 150 2)) (skC n f G)) else skC n f G) := by
  have s3 := sk_3 (f := f) h.2.2.1 h0 hm
  unfold Rd_sign
  rw [Rd_skip_e h h0, bd_some, show up G 150 2 (sk n f (G 150 2)) = skC n f G from rfl]
  by_cases hF : G 130 0 = 0
  · have hF2 : skC n f G 130 0 = 0 := hF
    have hb : ∀ z : Int, (z = 0 ∨ z = 1) → Rd_sign_b36 z (skC n f G) = some (0, if z = 1 then up G 150 2 (sk n f (G 150 2) + 1) else fC 1 (sk n f (G 150 2)) (skC n f G)) := by
      intro z hz
      unfold Rd_sign_b36
      rcases hz with rfl | rfl
      · rw [if_pos rfl, Rd_bad_e hF2, skC_at, bd_some]; rfl
      · rw [if_neg (by decide), skC_at, ckI_p (by omega) (by omega)]
        simp only [tk, vl, bd_some, up_ap, acp_ap, ckI_p, ckL_p, ckB_p, ckA_p, ckD_p, ckQ_p, ite_bind, ckI_bind, ckL_bind, ckB_bind, ckA_bind, ckD_bind, ckQ_bind, bd_bind, tk_bind, vl_bind, ex_bind, lb_inl, lb_some, lk_inl, lk_inr, Int.reduceEq, Int.reduceLT, Int.reduceLE, Int.reduceNe, Int.reduceAdd, Int.reduceSub, Int.reduceMul, Int.reduceNeg, ite_self, ex, Option.map_some, Option.bind_some, and_true, true_and, and_false, false_and, if_true, if_false, ite_true, ite_false, reduceIte, not_true, not_false_eq_true, skC, up_up]
    rw [Ft_is_0 hF2, bd_some, if_pos rfl, if_pos hF]
    by_cases hc1 : c = 61
    · subst hc1
      rw [if_pos rfl, Rd_isAlone_e (skC_CT h) (by rw [skC_at]; omega) (by rw [skC_at]; omega), skC_skC, skC_at, sk_sk, bd_some, hb _ (sg_r _ _ _ _)]
    · rw [if_neg hc1, Rd_isSign_e (skC_CT h) (by rw [skC_at]; omega) (by rw [skC_at]; omega), skC_skC, skC_at, sk_sk, bd_some, sg_c hc hc1, hb _ (by split; exact Or.inr rfl; exact Or.inl rfl)]
  · have hF2 : skC n f G 130 0 ≠ 0 := hF
    rw [Ft_is_1 hF2, bd_some, if_neg (by decide), if_neg hF]
theorem Tw_sign_e {n : Int} {f : Int → Int} {T : St} {c : Int} (h : TT n f T) (h0 : 0 ≤ T 100 6) (hm : T 100 6 ≤ n) (hF : T 100 7 = 0) : Tw_sign c T = some (0, if sg n f (sk n f (T 100 6)) c = 1 then up T 100 6 (sk n f (T 100 6) + 1) else fT 1 (sk n f (T 100 6)) (skT n f T)) := by
  have hn := h.2.2.1
  have s1 := sk_ge n f (T 100 6)
  have s2 := sk_le (f := f) hm
  unfold Tw_sign
  rw [Tw_gap_e h h0 hm, bd_some, show up T 100 6 (sk n f (T 100 6)) = skT n f T from rfl]
  have hF2 : skT n f T 100 7 = 0 := hF
  rw [Tw_isSign_e (skT_TT h) (by rw [skT_at]; omega) (by rw [skT_at]; omega), bd_some, skT_at]
  rcases sg_r n f (sk n f (T 100 6)) c with q | q
  · rw [if_pos q, Tw_fail_e hF2, if_neg (by omega), bd_some]
  · rw [if_neg (by omega), if_pos q, ckI_p (by omega) (by omega)]
    simp only [tk, vl, bd_some, up_ap, acp_ap, ckI_p, ckL_p, ckB_p, ckA_p, ckD_p, ckQ_p, ite_bind, ckI_bind, ckL_bind, ckB_bind, ckA_bind, ckD_bind, ckQ_bind, bd_bind, tk_bind, vl_bind, ex_bind, lb_inl, lb_some, lk_inl, lk_inr, Int.reduceEq, Int.reduceLT, Int.reduceLE, Int.reduceNe, Int.reduceAdd, Int.reduceSub, Int.reduceMul, Int.reduceNeg, ite_self, ex, Option.map_some, Option.bind_some, and_true, true_and, and_false, false_and, if_true, if_false, ite_true, ite_false, reduceIte, not_true, not_false_eq_true, skT, up_up]
theorem Rd_word_e {n : Int} {f : Int → Int} {G : St} {w : Int} (i : Nat) (hi : i < 13) (hw : w = 70 + i) (h : CT n f G) (h0 : 0 ≤ G 150 2) (hm : G 150 2 ≤ 30000) : Rd_word w G = some (0, if G 130 0 = 0 then (if iw n f (sk n f (G 150 2)) i = 1 then up G 150 2 (sk n f (G 150 2) + swl i) else fC 1 (sk n f (G 150 2)) (skC n f G)) else skC n f G) := by
  have s3 := sk_3 (f := f) h.2.2.1 h0 hm
  have sp := swl_pos i hi
  unfold Rd_word
  rw [Rd_skip_e h h0, bd_some, show up G 150 2 (sk n f (G 150 2)) = skC n f G from rfl]
  by_cases hF : G 130 0 = 0
  · have hF2 : skC n f G 130 0 = 0 := hF
    rw [Ft_is_0 hF2, bd_some, if_pos rfl, if_pos hF, Rd_isWord_e (skC_CT h) (by rw [skC_at]; omega) (by rw [skC_at]; omega) i hi hw, bd_some, skC_at]
    rcases iw_r n f (sk n f (G 150 2)) i with q | q
    · rw [if_pos q, if_neg (by omega), Rd_bad_e hF2, skC_at, bd_some]
    · subst hw
      have hc : (70 + (i : Int) - 70).toNat = i := by omega
      rw [if_neg (by omega), if_pos q]
      simp (disch := omega) only [tk, vl, bd_some, up_ap, acp_ap, ckI_p, ckL_p, ckB_p, ckA_p, ckD_p, ckQ_p, ite_bind, ckI_bind, ckL_bind, ckB_bind, ckA_bind, ckD_bind, ckQ_bind, bd_bind, tk_bind, vl_bind, ex_bind, lb_inl, lb_some, lk_inl, lk_inr, Int.reduceEq, Int.reduceLT, Int.reduceLE, Int.reduceNe, Int.reduceAdd, Int.reduceSub, Int.reduceMul, Int.reduceNeg, ite_self, ex, Option.map_some, Option.bind_some, and_true, true_and, and_false, false_and, if_true, if_false, ite_true, ite_false, reduceIte, not_true, not_false_eq_true, S_len, hc, skC_at, skC, up_up, up_s]
  · have hF2 : skC n f G 130 0 ≠ 0 := hF
    rw [Ft_is_1 hF2, bd_some, if_neg (by decide), if_neg hF]
theorem Tw_keyword_e {n : Int} {f : Int → Int} {T : St} {w : Int} (i : Nat) (hi : i < 13) (hw : w = 70 + i) (h : TT n f T) (h0 : 0 ≤ T 100 6) (hm : T 100 6 ≤ n) (hF : T 100 7 = 0) : Tw_keyword w T = some (0, if iw n f (sk n f (T 100 6)) i = 1 then up T 100 6 (sk n f (T 100 6) + swl i) else fT 1 (sk n f (T 100 6)) (skT n f T)) := by
  have hn := h.2.2.1
  have s1 := sk_ge n f (T 100 6)
  have s2 := sk_le (f := f) hm
  have sp := swl_pos i hi
  unfold Tw_keyword
  rw [Tw_gap_e h h0 hm, bd_some, show up T 100 6 (sk n f (T 100 6)) = skT n f T from rfl]
  have hF2 : skT n f T 100 7 = 0 := hF
  rw [Tw_isWord_e (skT_TT h) (by rw [skT_at]; omega) (by rw [skT_at]; omega) i hi hw, bd_some, skT_at]
  rcases iw_r n f (sk n f (T 100 6)) i with q | q
  · rw [if_pos q, Tw_fail_e hF2, if_neg (by omega), bd_some]
  · subst hw
    have hc : (70 + (i : Int) - 70).toNat = i := by omega
    rw [if_neg (by omega), if_pos q]
    simp (disch := omega) only [tk, vl, bd_some, up_ap, acp_ap, ckI_p, ckL_p, ckB_p, ckA_p, ckD_p, ckQ_p, ite_bind, ckI_bind, ckL_bind, ckB_bind, ckA_bind, ckD_bind, ckQ_bind, bd_bind, tk_bind, vl_bind, ex_bind, lb_inl, lb_some, lk_inl, lk_inr, Int.reduceEq, Int.reduceLT, Int.reduceLE, Int.reduceNe, Int.reduceAdd, Int.reduceSub, Int.reduceMul, Int.reduceNeg, ite_self, ex, Option.map_some, Option.bind_some, and_true, true_and, and_false, false_and, if_true, if_false, ite_true, ite_false, reduceIte, not_true, not_false_eq_true, S_len, hc, skT_at, skT, up_up, up_s]
/-- numbers -/
def nb (f : Int → Int) (a e least most : Int) : Int := if 10 < e - a ∨ nval f a (e - a).toNat < least ∨ most < nval f a (e - a).toNat then 1 else 0
theorem Rd_number_e {n : Int} {f : Int → Int} {G : St} (h : CT n f G) (h0 : 0 ≤ G 150 2) (hm : G 150 2 ≤ n) (hF : G 130 0 = 0) (least most a e : Int) (ha : a = sk n f (G 150 2)) (he : e = dgE f n a) : Rd_number least most G = some (if e = a then (0, fC 1 a (up (skC n f G) 150 10 a)) else if nb f a e least most = 1 then (w32 (nval f a (e - a).toNat), up (fC 2 a (up (skC n f G) 150 10 a)) 150 2 e) else (w32 (nval f a (e - a).toNat), up (up (skC n f G) 150 10 a) 150 2 e)) := by
  subst ha
  have hn := h.2.2.1
  have s1 := sk_ge n f (G 150 2)
  have s2 := sk_le (f := f) hm
  have hF2 : skC n f G 130 0 = 0 := hF
  unfold Rd_number
  rw [Rd_skip_e h h0, bd_some, show up G 150 2 (sk n f (G 150 2)) = skC n f G from rfl]
  rw [Ft_is_0 hF2, bd_some, if_pos rfl, skC_at]
  generalize hG5 : up (skC n f G) 150 10 (sk n f (G 150 2)) = G5
  have c5 : CT n f G5 := by rw [← hG5]; exact (skC_CT h).at _ _ (by decide)
  have a5 : G5 150 2 = sk n f (G 150 2) := by rw [← hG5, up_k _ (by decide), skC_at]
  have f5 : G5 130 0 = 0 := by rw [← hG5, up_o _ (by decide)]; exact hF
  simp only [tk]
  rw [Rd_look_e c5 (by rw [a5]; omega) (by rw [a5]; omega) (Int.le_refl 0) (by decide), a5, Int.add_zero, bd_some, Rd_isDigit_e, bd_some]
  by_cases q : isDg (lkF n f (sk n f (G 150 2))) = 0
  · have hd : dgE f n (sk n f (G 150 2)) = sk n f (G 150 2) := by
      rw [dgE]
      unfold lkF at q
      split
      · rename_i hh
        rw [if_pos hh.1] at q
        exact absurd q hh.2
      · rfl
    rw [if_pos q, he, hd, if_pos rfl, Rd_bad_e f5, a5, bd_some]
  · rw [if_neg q]
    have hlt : sk n f (G 150 2) < n ∧ isDg (f (sk n f (G 150 2))) ≠ 0 := by
      unfold lkF at q
      split at q
      · exact ⟨by assumption, q⟩
      · exact absurd (by decide) q
    obtain ⟨m, m1, m2, m3, m4⟩ := Rd_number_l c5 (by rw [a5]; omega) (by rw [a5]; omega) f5 least most _ 0 (fun j hj => absurd hj (Nat.not_lt_zero _)) (by rw [a5]; simp; omega) (Nat.le_refl _)
    rw [a5] at m2 m3 m4
    have e1 : dgE f n (sk n f (G 150 2)) = sk n f (G 150 2) + m := by rw [← m2]; congr 1; simp
    have mp : 0 < m := by
      rw [dgE, if_pos hlt] at e1
      have := (dgE_ge f n _ (sk n f (G 150 2) + 1) (Nat.le_refl _)).1
      omega
    have e2 : (sk n f (G 150 2) + m - sk n f (G 150 2)).toNat = m := by omega
    have e3 : sk n f (G 150 2) + (m : Int) - sk n f (G 150 2) = m := by omega
    rw [he, e1, if_neg (by omega), nb, e2, e3]
    refine (show Rd_number_l47 least most 0 0 G5 = _ from m4).trans ?_
    split <;> rename_i q2
    · rw [if_pos rfl]
    · rw [if_neg (by decide)]
theorem Tw_number_e {n : Int} {f : Int → Int} {T : St} (h : TT n f T) (h0 : 0 ≤ T 100 6) (hm : T 100 6 ≤ n) (hF : T 100 7 = 0) (least most a e : Int) (hmost : most ≤ 4294967295) (ha : a = sk n f (T 100 6)) (he : e = dgE f n a) : Tw_number least most T = some (0, if e = a then fT 1 a (skT n f T) else if nb f a e least most = 1 then fT 2 a (up (up T 100 12 (nval f a (e - a).toNat)) 100 6 e) else up (up T 100 12 (nval f a (e - a).toNat)) 100 6 e) := by
  subst ha
  have hn := h.2.2.1
  have s1 := sk_ge n f (T 100 6)
  have s2 := sk_le (f := f) hm
  have hF2 : skT n f T 100 7 = 0 := hF
  unfold Tw_number
  rw [Tw_gap_e h h0 hm, bd_some, show up T 100 6 (sk n f (T 100 6)) = skT n f T from rfl]
  rw [Tw_look0_e (skT_TT h) (by rw [skT_at]; omega) (by rw [skT_at]; omega) (Int.le_refl 0) (by decide), skT_at, Int.add_zero, bd_some, Tw_isDigit_e, bd_some]
  by_cases q : isDg (lkF n f (sk n f (T 100 6))) = 0
  · have hd : dgE f n (sk n f (T 100 6)) = sk n f (T 100 6) := by
      rw [dgE]
      unfold lkF at q
      split
      · rename_i hh
        rw [if_pos hh.1] at q
        exact absurd q hh.2
      · rfl
    rw [if_pos q, he, hd, if_pos rfl, skT_at, Tw_fail_e hF2, bd_some]
  · rw [if_neg q]
    have hlt : sk n f (T 100 6) < n ∧ isDg (f (sk n f (T 100 6))) ≠ 0 := by
      unfold lkF at q
      split at q
      · exact ⟨by assumption, q⟩
      · exact absurd (by decide) q
    simp only [tk, up_s, skT_at]
    obtain ⟨m, m1, m2, m3, m4⟩ := Tw_number_l (n := n) (f := f) (a := sk n f (T 100 6)) (by omega) least most hmost _ 0 (up (skT n f T) 100 12 0) ((skT_TT h).at _ _ (by decide)) (by rw [up_k _ (by decide)]; exact hF) (by rw [up_k _ (by decide), skT_at]; simp) (by rw [up_s]; rfl) (fun j hj => absurd hj (Nat.not_lt_zero _)) (by simp; omega) (Nat.le_refl _)
    have e1 : dgE f n (sk n f (T 100 6)) = sk n f (T 100 6) + m := by rw [← m2]; congr 1; simp
    have mp : 0 < m := by
      rw [dgE, if_pos hlt] at e1
      have := (dgE_ge f n _ (sk n f (T 100 6) + 1) (Nat.le_refl _)).1
      omega
    have e2 : (sk n f (T 100 6) + m - sk n f (T 100 6)).toNat = m := by omega
    have e3 : sk n f (T 100 6) + (m : Int) - sk n f (T 100 6) = m := by omega
    have e4 : ∀ v : Int, up (up (up (skT n f T) 100 12 0) 100 12 v) 100 6 (sk n f (T 100 6) + m) = up (up T 100 12 v) 100 6 (sk n f (T 100 6) + m) := by
      intro v
      unfold skT
      rw [up_up, up_cm T (Or.inr (by decide)), up_up]
    rw [he, e1, if_neg (by omega), nb, e2, e3]
    refine m4.trans ?_
    rw [e4]
    split <;> rename_i q2
    · rw [if_pos rfl]
    · rw [if_neg (by decide)]
/-- names -/
theorem Rd_name_e {n : Int} {f : Int → Int} {G : St} (h : CT n f G) (h0 : 0 ≤ G 150 2) (hm : G 150 2 ≤ n) (hF : G 130 0 = 0) (hN : NmC G) (a e : Int) (ha : a = sk n f (G 150 2)) (he : e = we n f a) : Rd_name G = some (if e = a ∨ kw n f a ≠ 0 then (0, fC 1 a (up (skC n f G) 150 10 a)) else if 16 < e - a then (0, fC 2 a (up (skC n f G) 150 10 a)) else (fnd (nmC G a (e - a)) (G 120 3) 0, up (if fnd (nmC G a (e - a)) (G 120 3) 0 < G 120 3 then up (skC n f G) 150 10 a else nmU (up (skC n f G) 150 10 a) a (e - a)) 150 2 e)) := by
  subst ha
  have hn := h.2.2.1
  have s1 := sk_ge n f (G 150 2)
  have s2 := sk_le (f := f) hm
  have w1 := we_ge n f (sk n f (G 150 2))
  have w2 := we_le (f := f) s2
  have hF2 : skC n f G 130 0 = 0 := hF
  unfold Rd_name
  rw [Rd_skip_e h h0, bd_some, show up G 150 2 (sk n f (G 150 2)) = skC n f G from rfl]
  rw [Ft_is_0 hF2, bd_some, if_pos rfl, Rd_wordEnd_e (skC_CT h) (by rw [skC_at]; omega), bd_some, skC_at]
  generalize hG5 : up (skC n f G) 150 10 (sk n f (G 150 2)) = G5
  have c5 : CT n f G5 := by rw [← hG5]; exact (skC_CT h).at _ _ (by decide)
  have a5 : G5 150 2 = sk n f (G 150 2) := by rw [← hG5, up_k _ (by decide), skC_at]
  have f5 : G5 130 0 = 0 := by rw [← hG5, up_o _ (by decide)]; exact hF
  have o5 : ∀ o, o ≠ 150 → G5 o = G o := by
    intro o ho
    funext k
    rw [← hG5, up_o _ ho, skC_o _ _ _ _ ho]
  have n5 : NmC G5 := by
    unfold NmC at *
    rw [o5 120 (by decide), o5 122 (by decide), o5 123 (by decide)]; exact hN
  have m5 : G5 120 3 = G 120 3 := by rw [o5 120 (by decide)]
  have p5 : nmC G5 = nmC G := by
    funext x y z
    unfold nmC
    rw [o5 121 (by decide), o5 122 (by decide), o5 123 (by decide), o5 151 (by decide)]
  simp only [tk]
  rw [a5]
  have b44 : Rd_name_b44 (we n f (sk n f (G 150 2))) G5 = some (0, fC 1 (sk n f (G 150 2)) G5) := by
    unfold Rd_name_b44 Rd_name_b74
    rw [Rd_bad_e f5, bd_some, Ft_is_1 (show fC 1 (G5 150 2) G5 130 0 ≠ 0 by simp [fC, up_ap]), bd_some, if_neg (by decide), a5]
  by_cases q1 : we n f (sk n f (G 150 2)) = sk n f (G 150 2)
  · rw [if_pos q1, b44, he, if_pos (Or.inl q1)]
  · rw [if_neg q1, Rd_isKeyword_e c5 (by rw [a5]; omega) (by rw [a5]; omega), bd_some, a5]
    by_cases q2 : kw n f (sk n f (G 150 2)) = 0
    · rw [if_pos q2, ckI_p (by omega) (by omega), he, if_neg (show ¬ (we n f (sk n f (G 150 2)) = sk n f (G 150 2) ∨ kw n f (sk n f (G 150 2)) ≠ 0) from fun x => x.elim q1 (fun y => y q2))]
      by_cases q3 : 16 < we n f (sk n f (G 150 2)) - sk n f (G 150 2)
      · rw [if_pos q3, if_pos q3, Ft_set_e f5, bd_some]
        unfold Rd_name_b74
        rw [Ft_is_1 (show fC 2 _ G5 130 0 ≠ 0 by simp [fC, up_ap]), bd_some, if_neg (by decide)]
      · rw [if_neg q3, if_neg q3]
        unfold Rd_name_b74
        rw [Ft_is_0 f5, bd_some, if_pos rfl, a5, ckI_p (by omega) (by omega), Nm_number_e n5 (by omega) (by omega) (by omega), bd_some, m5, p5]
        rfl
    · rw [if_neg q2, b44, he, if_pos (Or.inr q2)]
theorem Tw_name_e {n : Int} {f : Int → Int} {T : St} (h : TT n f T) (h0 : 0 ≤ T 100 6) (hm : T 100 6 ≤ n) (hF : T 100 7 = 0) (hN : NmT n T) (hk : T 100 9 < 2000) (a e : Int) (ha : a = sk n f (T 100 6)) (he : e = we n f a) : Tw_name T = some (if e = a ∨ kw n f a ≠ 0 then (0, fT 1 a (skT n f T)) else if 16 < e - a then (0, fT 2 a (skT n f T)) else (fnd (nmT T a (e - a)) (T 100 9) 0, up (if fnd (nmT T a (e - a)) (T 100 9) 0 < T 100 9 then skT n f T else nmV (skT n f T) a (e - a)) 100 6 e)) := by
  subst ha
  have hn := h.2.2.1
  have s1 := sk_ge n f (T 100 6)
  have s2 := sk_le (f := f) hm
  have w1 := we_ge n f (sk n f (T 100 6))
  have w2 := we_le (f := f) s2
  have hF2 : skT n f T 100 7 = 0 := hF
  unfold Tw_name
  rw [Tw_gap_e h h0 hm, bd_some, show up T 100 6 (sk n f (T 100 6)) = skT n f T from rfl]
  rw [Tw_wordEnd_e (skT_TT h) (by rw [skT_at]; omega) (by rw [skT_at]; omega), bd_some, skT_at]
  have b24 : Tw_name_b24 (skT n f T) = some (0, fT 1 (sk n f (T 100 6)) (skT n f T)) := by
    unfold Tw_name_b24
    rw [Tw_fail_e hF2, skT_at, bd_some]
  have o5 : ∀ o, o ≠ 100 → skT n f T o = T o := by
    intro o ho
    funext k
    rw [skT_o _ _ _ _ ho]
  have n5 : NmT n (skT n f T) := by
    unfold NmT at *
    rw [o5 111 (by decide), o5 112 (by decide), skT_k _ _ _ _ (by decide)]; exact hN
  have m5 : skT n f T 100 9 = T 100 9 := skT_k _ _ _ _ (by decide)
  have p5 : nmT (skT n f T) = nmT T := by
    funext x y z
    unfold nmT
    rw [o5 105 (by decide), o5 111 (by decide), o5 112 (by decide)]
  by_cases q1 : we n f (sk n f (T 100 6)) = sk n f (T 100 6)
  · rw [if_pos q1, b24, he, if_pos (Or.inl q1)]
  · rw [if_neg q1, Tw_isKept_e (skT_TT h) (by rw [skT_at]; omega) (by rw [skT_at]; omega), bd_some, skT_at]
    by_cases q2 : kw n f (sk n f (T 100 6)) = 0
    · rw [if_pos q2, ckI_p (by omega) (by omega), he, if_neg (show ¬ (we n f (sk n f (T 100 6)) = sk n f (T 100 6) ∨ kw n f (sk n f (T 100 6)) ≠ 0) from fun x => x.elim q1 (fun y => y q2))]
      by_cases q3 : 16 < we n f (sk n f (T 100 6)) - sk n f (T 100 6)
      · rw [if_pos q3, if_pos q3, Tw_fail_e hF2, bd_some]
      · rw [if_neg q3, if_neg q3, ckI_p (by omega) (by omega)]
        have := Tw_name_l n5 (show n ≤ 2000 by omega) (by rw [m5]; exact hk) (e := we n f (sk n f (T 100 6))) (len := we n f (sk n f (T 100 6)) - sk n f (T 100 6)) (skT_at n f T) (by omega) (by omega) (by omega) _ 0 (Int.le_refl _) (by rw [m5]; exact hN.1) (Nat.le_refl _)
        rw [m5, p5] at this
        exact this
    · rw [if_neg q2, b24, he, if_pos (Or.inr q2)]
