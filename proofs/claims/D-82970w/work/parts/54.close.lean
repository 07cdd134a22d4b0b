/-! PLAIN: the twin's steps behind an operand -/
theorem FX_w {w p : Int} {T : St} (h : FX w p T) (x : Int) : FX w p (up T 100 20 x) := ⟨by rw [up_k _ (by decide)]; exact h.1, by rw [up_k _ (by decide)]; exact h.2.1, h.2.2⟩
theorem Lx_flt {P W base w x : Int} {T : St} (h : T 100 7 ≠ 0) : Tw_expression_l9 P W base w x T = some (0, up T 100 20 base) := by
  rw [Tw_expression_l9_eq]
  unfold Tw_expression_s9 Tw_expression_b259
  rw [if_neg h]
  rfl
theorem Lx_end {P W base w : Int} {T : St} : Tw_expression_l9 P W base w 1 T = some (0, up T 100 20 base) := by
  rw [Tw_expression_l9_eq]
  unfold Tw_expression_s9 Tw_expression_b259
  rw [if_neg (show ¬ (1 : Int) = 0 by decide), ite_self]
  rfl
theorem Lx_fx {P W base w x c p : Int} {T : St} (h : FX c p T) : ∃ T', Tw_expression_l9 P W base w x T = some (0, T') ∧ FX c p T' := ⟨_, Lx_flt (by have h1 := h.1; have h2 := h.2.2; omega), FX_w h _⟩
/-- no operator and no choice: something closes -/
theorem Lx_no {n : Int} {f : Int → Int} {P W base a : Int} {T1 : St} (hT : TT n f T1) (a0 : 0 ≤ T1 100 6) (a1 : T1 100 6 ≤ n) (hF : T1 100 7 = 0) (ha : sk n f (T1 100 6) = a) (h1 : opn n f a = 0) (h2 : sg n f a 63 = 0) : Lx P W base 0 T1 = bd (Tw_closes base (md T1 a (T1 100 25))) fun z T' => Tw_expression_l9 P W base (T' 100 25) (if z = 0 then 1 else 0) T' := by
  have hn := hT.2.2.1
  have s1 := sk_ge n f (T1 100 6)
  have s2 := sk_le (f := f) a1
  unfold Lx
  rw [Tw_expression_l9_eq]
  unfold Tw_expression_s9
  rw [if_pos hF, if_pos rfl, if_pos rfl, Tw_gap_e hT a0 a1, bd_some, show up T1 100 6 (sk n f (T1 100 6)) = skT n f T1 from rfl, Tw_operator_e (skT_TT hT) (by rw [skT_at]; omega) (by rw [skT_at]; omega), bd_some, skT_at, ha, h1, if_neg (by decide)]
  unfold Tw_expression_b189
  rw [Tw_isSign_e (skT_TT hT) (by rw [skT_at]; omega) (by rw [skT_at]; omega) 63, bd_some, skT_at, ha, h2, if_pos rfl, skT_md ha]
  unfold Tw_expression_b250
  rw [bd_bind]
  rfl
theorem cl_red {base a w : Int} {T1 T2 : St} (hb1 : TB T1) (hm : 0 < T1 100 13) (hk : T1 115 (T1 100 13 - 1) ≠ 8) (hred : ∀ x y, Tw_reduceAll base (md T1 x y) = Tw_reduceAll base (md T2 x y)) (hb2 : TB T2) (hst : T2 100 20 ≤ base ∨ (T2 122 (T2 100 20 - 1) ≠ 1 ∧ T2 122 (T2 100 20 - 1) ≠ 4)) (h0 : 0 ≤ base) : Tw_closes base (md T1 a w) = Tw_closes_b51 base 0 (md T2 a 0) := by
  have mw : md T1 a 0 100 20 = T1 100 20 := md_o (by omega)
  have mm : md T1 a 0 100 13 = T1 100 13 := md_o (by omega)
  have mk : md T1 a 0 115 (T1 100 13 - 1) = T1 115 (T1 100 13 - 1) := md_o (by omega)
  have mw2 : md T2 a 0 100 20 = T2 100 20 := md_o (by omega)
  have mt2 : md T2 a 0 122 (T2 100 20 - 1) = T2 122 (T2 100 20 - 1) := md_o (by omega)
  have hb1' := TB_md hb1 a 0
  have b41 : Tw_closes_b41 base 0 (md T1 a 0) = Tw_closes_b51 base 0 (md T2 a 0) := by
    unfold Tw_closes_b41
    rw [if_pos rfl, hred, ra_stop (TB_md hb2 _ _) (by rw [mw2, mt2]; exact hst) h0, bd_some]
  have e : up (md T1 a w) 100 25 0 = md T1 a 0 := by unfold md; rw [up_up]
  have fr := nf_fresh hb1' (by rw [mm]; exact hm) (by rw [mm, mk]; exact hk)
  unfold Tw_closes
  rw [ckB_p (by decide) (by decide), tk_e, e]
  by_cases q : base < md T1 a 0 100 20
  · obtain ⟨b1, b2, b3, b4, b5, b6⟩ := hb1'
    rw [if_pos q, ckI_p (by omega) (by omega), ckB_p (by omega) (by omega)]
    by_cases q2 : md T1 a 0 122 (md T1 a 0 100 20 - 1) = 7
    · rw [if_pos q2, fr, bd_some, if_pos rfl, b41]
    · rw [if_neg q2, b41]
  · rw [if_neg q, b41]
/-- behind an expression: what waits decides -/
theorem Lx_cl {n : Int} {f : Int → Int} {P W base a : Int} {T1 T2 : St} (hS : SY n f base T1 T2) (a0 : 0 ≤ T2 100 6) (a1 : T2 100 6 ≤ n) (ha : sk n f (T2 100 6) = a) (h1 : opn n f a = 0) (h2 : sg n f a 63 = 0) (hred : ∀ x y, Tw_reduceAll base (md T1 x y) = Tw_reduceAll base (md T2 x y)) (hb2 : TB T2) (hst : T2 100 20 ≤ base ∨ (T2 122 (T2 100 20 - 1) ≠ 1 ∧ T2 122 (T2 100 20 - 1) ≠ 4)) (h0 : 0 ≤ base) : Lx P W base 0 T1 = bd (Tw_closes_b51 base 0 (md T2 a 0)) fun z T' => Tw_expression_l9 P W base (T' 100 25) (if z = 0 then 1 else 0) T' := by
  obtain ⟨s1, s2, s3, s4, s5, s6, s7⟩ := hS
  rw [Lx_no s1 (by omega) (by omega) s3 (by rw [s2]; exact ha) h1 h2, cl_red s4 s6 s7 hred hb2 hst h0]
theorem b288_0 {base x y : Int} {T : St} (h : T 100 7 = 0) : Tw_closes_b288 base x y 0 T = some (0, fT 1 (T 100 6) T) := by
  unfold Tw_closes_b288
  rw [if_pos rfl, Tw_fail_e h, bd_some, ckB_p (by decide) (by decide)]
theorem b268_e {n : Int} {f : Int → Int} {base x y : Int} {T : St} (hT : TT n f T) (a0 : 0 ≤ T 100 6) (a1 : T 100 6 ≤ n) : Tw_closes_b268 base x y T = Tw_closes_b288 base x y (if sg n f (T 100 6) 93 = 0 then 0 else (if y = 6 then 1 else 0)) T := by
  have hn := hT.2.2.1
  unfold Tw_closes_b268
  rw [Tw_isSign_e hT a0 (by omega) 93, bd_some]
theorem b116_e {n : Int} {f : Int → Int} {base x y : Int} {T : St} (hT : TT n f T) (a0 : 0 ≤ T 100 6) (a1 : T 100 6 ≤ n) (h7 : y ≠ 7) (h9 : y ≠ 9) : Tw_closes_b116 base x y T = Tw_closes_b221 base x y T := by
  have hn := hT.2.2.1
  unfold Tw_closes_b116 Tw_closes_b135
  rw [Tw_isSign_e hT a0 (by omega) 44, bd_some, if_neg h7, if_neg h9, ite_self]
theorem b51_e {n : Int} {f : Int → Int} {base y : Int} {T : St} (hT : TT n f T) (a0 : 0 ≤ T 100 6) (a1 : T 100 6 ≤ n) (hb : TB T) (hw : base < T 100 20) (h0 : 0 ≤ base) (hk : T 122 (T 100 20 - 1) = y) (h3 : y ≠ 3) : Tw_closes_b51 base 0 T = Tw_closes_b116 base 0 y T := by
  have hn := hT.2.2.1
  obtain ⟨b1, b2, b3, b4, b5, b6⟩ := hb
  unfold Tw_closes_b51
  rw [if_neg (by omega), ckI_p (by omega) (by omega), ckB_p (by omega) (by omega), Tw_isSign_e hT a0 (by omega) 58, bd_some, hk, if_neg h3, ite_self]
theorem b51_3 {n : Int} {f : Int → Int} {base a : Int} {T : St} (hT : TT n f T) (ha : T 100 6 = a) (a0 : 0 ≤ a) (a1 : a ≤ n) (hb : TB T) (hF : T 100 7 = 0) (hw : base < T 100 20) (h0 : 0 ≤ base) (hk : T 122 (T 100 20 - 1) = 3) : Tw_closes_b51 base 0 T = if sg n f a 58 = 1 then some (1, up (up (up T 122 (T 100 20 - 1) 4) 100 6 (a + 1)) 100 25 1) else some (0, fT 1 a T) := by
  have hn := hT.2.2.1
  have hb' := hb
  obtain ⟨b1, b2, b3, b4, b5, b6⟩ := hb
  have b268 : Tw_closes_b268 base 0 3 T = some (0, fT 1 a T) := by
    rw [b268_e hT (by omega) (by omega), if_neg (show ¬ (3 : Int) = 6 by decide), ite_self, b288_0 hF, ha]
  have b116 : Tw_closes_b116 base 0 3 T = some (0, fT 1 a T) := by
    rw [b116_e hT (by omega) (by omega) (by decide) (by decide)]
    unfold Tw_closes_b221
    rw [Tw_isSign_e hT (by omega) (by omega) 41, bd_some, if_neg (show ¬ (3 : Int) = 5 by decide), if_neg (show ¬ (3 : Int) = 7 by decide), if_neg (show ¬ (3 : Int) = 8 by decide), if_neg (show ¬ (3 : Int) = 9 by decide), ite_self, b268]
  unfold Tw_closes_b51
  rw [if_neg (by omega), ckI_p (by omega) (by omega), ckB_p (by omega) (by omega), Tw_isSign_e hT (by omega) (by omega) 58, bd_some, hk, if_pos rfl, ha]
  rcases sg_r n f a 58 with z | z
  · rw [z, if_pos rfl, if_neg (by decide), b116]
  · rw [z, if_neg (by decide), if_pos rfl, ckI_p (by omega) (by omega), ckB_p (by omega) (by omega)]
    have e : up T 122 (T 100 20 - 1) 4 100 6 = a := by rw [up_o _ (by decide)]; exact ha
    rw [tk_e, e, ckI_p (by omega) (by omega), tk_e, ckB_p (by decide) (by decide), tk_e, ckB_p (by decide) (by decide)]
/-- what is put when a bracket closes -/
def clT (T : St) (k u : Int) : St := adT (up (up (up T 100 6 (T 100 6 + 1)) 100 20 (T 100 20 - 1)) 100 19 (T 100 19 - 1)) k u 0 (T 124 (T 100 20 - 1))
theorem b288_1 {base x y : Int} {T : St} (hb : TB T) (a0 : 0 ≤ T 100 6) (a1 : T 100 6 ≤ 3000) (hw : 1 ≤ T 100 20) (hy : y = 5 ∨ y = 6 ∨ y = 8 ∨ y = 9) : Tw_closes_b288 base x y 1 T = bd (Tw_signsOver base (clT T (if y = 5 then 15 else if y = 6 then 7 else if y = 8 then 10 else 11) (if y = 6 then T 123 (T 100 20 - 1) else 0))) fun _ T' => some (1, T') := by
  obtain ⟨b1, b2, b3, b4, b5, b6⟩ := hb
  have e1 : ∀ v k, up T 100 6 v 100 k = if k = 6 then v else T 100 k := fun v k => by rw [up_ap]; simp
  have w : up T 100 6 (T 100 6 + 1) 100 20 = T 100 20 := up_k _ (by decide)
  have dd : up (up T 100 6 (T 100 6 + 1)) 100 20 (T 100 20 - 1) 100 19 = T 100 19 := by rw [up_k _ (by decide), up_k _ (by decide)]
  have ww : up (up (up T 100 6 (T 100 6 + 1)) 100 20 (T 100 20 - 1)) 100 19 (T 100 19 - 1) 100 20 = T 100 20 - 1 := by rw [up_k _ (by decide), up_s]
  have mm : up (up (up T 100 6 (T 100 6 + 1)) 100 20 (T 100 20 - 1)) 100 19 (T 100 19 - 1) 100 13 = T 100 13 := by rw [up_k _ (by decide), up_k _ (by decide), up_k _ (by decide)]
  have ar : ∀ o k, o ≠ 100 → up (up (up T 100 6 (T 100 6 + 1)) 100 20 (T 100 20 - 1)) 100 19 (T 100 19 - 1) o k = T o k := fun o k q => by rw [up_o _ q, up_o _ q, up_o _ q]
  unfold Tw_closes_b288
  rw [if_neg (by decide), ckI_p (by omega) (by omega), tk_e, w, ckI_p (by omega) (by omega), tk_e, dd, ckI_p (by omega) (by omega), tk_e, ww, ckB_p (by omega) (by omega)]
  have b515 : ∀ T', Tw_closes_b515 base T' = bd (Tw_signsOver base T') fun _ T' => some (1, T') := fun T' => by
    unfold Tw_closes_b515
    simp only [ckB_p (show (0 : Int) ≤ 1 by decide) (show (1 : Int) < 2 by decide)]
  unfold clT Tw_closes_b506
  rw [ar _ _ (by decide), ar _ _ (by decide)]
  simp only [Tw_put_e (show 0 ≤ up (up (up T 100 6 (T 100 6 + 1)) 100 20 (T 100 20 - 1)) 100 19 (T 100 19 - 1) 100 13 by omega) (by omega), bd_some, b515, ckB_p (show 0 ≤ T 100 20 - 1 by omega) (show T 100 20 - 1 < 4100 by omega)]
  rcases hy with h | h | h | h <;> subst h <;> rfl
/-- a round bracket closes -/
theorem b51_5 {n : Int} {f : Int → Int} {base a y : Int} {T : St} (hT : TT n f T) (ha : T 100 6 = a) (a0 : 0 ≤ a) (a1 : a ≤ n) (hb : TB T) (hF : T 100 7 = 0) (hw : base < T 100 20) (h0 : 0 ≤ base) (hk : T 122 (T 100 20 - 1) = y) (hy : y = 5 ∨ y = 8) : Tw_closes_b51 base 0 T = if sg n f a 41 = 1 then bd (Tw_signsOver base (clT T (if y = 5 then 15 else 10) 0)) (fun _ T' => some (1, T')) else some (0, fT 1 a T) := by
  have hn := hT.2.2.1
  have b268 : Tw_closes_b268 base 0 y T = some (0, fT 1 a T) := by
    rw [b268_e hT (by omega) (by omega), if_neg (show ¬ y = 6 by omega), ite_self, b288_0 hF, ha]
  rw [b51_e hT (by omega) (by omega) hb hw h0 hk (by omega), b116_e hT (by omega) (by omega) (by omega) (by omega)]
  unfold Tw_closes_b221
  rw [Tw_isSign_e hT (by omega) (by omega) 41, bd_some, b288_1 hb (by omega) (by omega) (by omega) (by omega), if_neg (show ¬ y = 6 by omega), if_neg (show ¬ y = 6 by omega), ha]
  rcases sg_r n f a 41 with z | z
  · rw [z, if_pos rfl, if_neg (by decide), b268]
  · rw [z, if_neg (by decide), if_pos rfl]
    rcases hy with h | h <;> subst h <;> rfl
/-- a square bracket closes -/
theorem b51_6 {n : Int} {f : Int → Int} {base a : Int} {T : St} (hT : TT n f T) (ha : T 100 6 = a) (a0 : 0 ≤ a) (a1 : a ≤ n) (hb : TB T) (hF : T 100 7 = 0) (hw : base < T 100 20) (h0 : 0 ≤ base) (hk : T 122 (T 100 20 - 1) = 6) : Tw_closes_b51 base 0 T = if sg n f a 93 = 1 then bd (Tw_signsOver base (clT T 7 (T 123 (T 100 20 - 1)))) (fun _ T' => some (1, T')) else some (0, fT 1 a T) := by
  have hn := hT.2.2.1
  rw [b51_e hT (by omega) (by omega) hb hw h0 hk (by omega), b116_e hT (by omega) (by omega) (by omega) (by omega)]
  unfold Tw_closes_b221
  rw [Tw_isSign_e hT (by omega) (by omega) 41, bd_some, if_neg (show ¬ (6 : Int) = 5 by decide), if_neg (show ¬ (6 : Int) = 7 by decide), if_neg (show ¬ (6 : Int) = 8 by decide), if_neg (show ¬ (6 : Int) = 9 by decide), ite_self, b268_e hT (by omega) (by omega), if_pos rfl, ha]
  rcases sg_r n f a 93 with z | z
  · rw [z, if_pos rfl, if_neg (show ¬ (0 : Int) = 1 by decide), b288_0 hF, ha]
  · rw [z, if_neg (show ¬ (1 : Int) = 0 by decide), if_pos rfl, b288_1 hb (by omega) (by omega) (by omega) (by omega)]
    rfl
