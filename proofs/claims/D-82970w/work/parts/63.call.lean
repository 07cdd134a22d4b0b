/-! PLAIN: operands: calls -/
/-- a comma between the arguments of a call, or of bit -/
def cmT (T : St) (u : Int) : St := up (up (up (adT T 16 u 0 (T 100 6)) 125 (T 100 20 - 1) (T 125 (T 100 20 - 1) + 1)) 100 6 (T 100 6 + 1)) 100 25 1
theorem b179_e {T : St} {u : Int} (hb : TB T) (a0 : 0 ≤ T 100 6) (a1 : T 100 6 ≤ 3000) (hw : 1 ≤ T 100 20) (m0 : -5 ≤ T 125 (T 100 20 - 1)) (m1 : T 125 (T 100 20 - 1) ≤ 5000) : Tw_closes_b179 u 16 T = some (1, cmT T u) := by
  obtain ⟨b1, b2, b3, b4, b5, b6⟩ := hb
  unfold Tw_closes_b179 cmT
  rw [Tw_put_e b3 (by omega), bd_some]
  have e1 : adT T 16 u 0 (T 100 6) 100 20 = T 100 20 := adT_o (by omega) (by omega)
  have e2 : ∀ k, adT T 16 u 0 (T 100 6) 125 k = T 125 k := fun k => adT_o (by omega) (by omega)
  have e3 : adT T 16 u 0 (T 100 6) 100 6 = T 100 6 := adT_o (by omega) (by omega)
  generalize adT T 16 u 0 (T 100 6) = X at e1 e2 e3 ⊢
  rw [e1, e2, ckI_p (by omega) (by omega), ckB_p (by omega) (by omega), ckI_p (by omega) (by omega), ckB_p (by omega) (by omega), tk_e, up_o _ (show (100 : Int) ≠ 125 by decide), e3, ckI_p (by omega) (by omega), tk_e, ckB_p (by decide) (by decide), tk_e, ckB_p (by decide) (by decide)]
/-- what is put when a call closes: g arguments -/
def caT (T : St) (g : Int) (l : Int) : St := adT (if l = 0 then adT (up (up (up (up T 100 6 (T 100 6 + 1)) 100 20 (T 100 20 - 1)) 100 19 (T 100 19 - 1)) 117 (T 123 (T 100 20 - 1)) g) 16 (T 123 (T 100 20 - 1)) 0 (T 100 6 + 1) else up (up (up (up T 100 6 (T 100 6 + 1)) 100 20 (T 100 20 - 1)) 100 19 (T 100 19 - 1)) 117 (T 123 (T 100 20 - 1)) g) 9 (T 116 (T 123 (T 100 20 - 1))) 0 (T 124 (T 100 20 - 1))
theorem b288_7 {base l : Int} {T : St} (hb : TB T) (a0 : 0 ≤ T 100 6) (a1 : T 100 6 ≤ 3000) (hw : 1 ≤ T 100 20) (h1 : 0 ≤ T 123 (T 100 20 - 1)) (h2 : T 123 (T 100 20 - 1) < T 100 13) (m0 : 0 ≤ T 125 (T 100 20 - 1)) (m1 : T 125 (T 100 20 - 1) ≤ 5000) (hl : l = 0 ∨ l = 1) : Tw_closes_b288 base l 7 1 T = bd (Tw_signsOver base (caT T (if l = 0 then T 125 (T 100 20 - 1) + 1 else 0) l)) fun _ T' => some (1, T') := by
  obtain ⟨b1, b2, b3, b4, b5, b6⟩ := hb
  have w : up T 100 6 (T 100 6 + 1) 100 20 = T 100 20 := up_k _ (by decide)
  have dd : up (up T 100 6 (T 100 6 + 1)) 100 20 (T 100 20 - 1) 100 19 = T 100 19 := by rw [up_k _ (by decide), up_k _ (by decide)]
  have ww : up (up (up T 100 6 (T 100 6 + 1)) 100 20 (T 100 20 - 1)) 100 19 (T 100 19 - 1) 100 20 = T 100 20 - 1 := by rw [up_k _ (by decide), up_s]
  have mm : up (up (up T 100 6 (T 100 6 + 1)) 100 20 (T 100 20 - 1)) 100 19 (T 100 19 - 1) 100 13 = T 100 13 := by rw [up_k _ (by decide), up_k _ (by decide), up_k _ (by decide)]
  have aa : up (up (up T 100 6 (T 100 6 + 1)) 100 20 (T 100 20 - 1)) 100 19 (T 100 19 - 1) 100 6 = T 100 6 + 1 := by rw [up_k _ (by decide), up_k _ (by decide), up_s]
  have ar : ∀ o k, o ≠ 100 → up (up (up T 100 6 (T 100 6 + 1)) 100 20 (T 100 20 - 1)) 100 19 (T 100 19 - 1) o k = T o k := fun o k q => by rw [up_o _ q, up_o _ q, up_o _ q]
  have b515 : ∀ T', Tw_closes_b515 base T' = bd (Tw_signsOver base T') fun _ T' => some (1, T') := fun T' => by
    unfold Tw_closes_b515
    simp only [ckB_p (show (0 : Int) ≤ 1 by decide) (show (1 : Int) < 2 by decide)]
  unfold Tw_closes_b288 caT
  rw [if_neg (by decide), ckI_p (by omega) (by omega), tk_e, w, ckI_p (by omega) (by omega), tk_e, dd, ckI_p (by omega) (by omega), tk_e, ww, ckB_p (by omega) (by omega), if_neg (by decide), if_neg (by decide), if_pos rfl, ckB_p (by omega) (by omega), ckB_p (by omega) (by omega), ar _ _ (by decide), ar _ _ (by decide), ar _ _ (by decide)]
  generalize up (up (up T 100 6 (T 100 6 + 1)) 100 20 (T 100 20 - 1)) 100 19 (T 100 19 - 1) = X at ww mm aa ar ⊢
  have b437 : ∀ g, Tw_closes_b437 base l (T 124 (T 100 20 - 1)) g (T 123 (T 100 20 - 1)) X = bd (Tw_signsOver base (adT (if l = 0 then adT (up X 117 (T 123 (T 100 20 - 1)) g) 16 (T 123 (T 100 20 - 1)) 0 (T 100 6 + 1) else up X 117 (T 123 (T 100 20 - 1)) g) 9 (T 116 (T 123 (T 100 20 - 1))) 0 (T 124 (T 100 20 - 1)))) fun _ T' => some (1, T') := by
    intro g
    unfold Tw_closes_b437 Tw_closes_b464
    rw [ckB_p h1 (by omega), tk_e]
    have y1 : up X 117 (T 123 (T 100 20 - 1)) g 100 20 = T 100 20 - 1 := by rw [up_o _ (by decide)]; exact ww
    have y2 : up X 117 (T 123 (T 100 20 - 1)) g 100 13 = T 100 13 := by rw [up_o _ (by decide)]; exact mm
    have y3 : up X 117 (T 123 (T 100 20 - 1)) g 100 6 = T 100 6 + 1 := by rw [up_o _ (by decide)]; exact aa
    have y4 : ∀ o k, o ≠ 100 → o ≠ 117 → up X 117 (T 123 (T 100 20 - 1)) g o k = T o k := fun o k q q2 => by rw [up_o _ q2]; exact ar o k q
    generalize up X 117 (T 123 (T 100 20 - 1)) g = Y at y1 y2 y3 y4 ⊢
    rcases hl with h | h
    · subst h
      rw [if_pos rfl, if_pos rfl, y1, ckB_p (by omega) (by omega), y4 _ _ (by decide) (by decide), y3, Tw_put_e (by omega) (by omega), bd_some]
      have z1 : adT Y 16 (T 123 (T 100 20 - 1)) 0 (T 100 6 + 1) 100 20 = T 100 20 - 1 := by rw [adT_o (by omega) (by omega)]; exact y1
      have z2 : adT Y 16 (T 123 (T 100 20 - 1)) 0 (T 100 6 + 1) 100 13 = T 100 13 + 1 := by rw [adT_s, y2]
      have z3 : adT Y 16 (T 123 (T 100 20 - 1)) 0 (T 100 6 + 1) 123 (T 100 20 - 1) = T 123 (T 100 20 - 1) := by rw [adT_o (by omega) (by omega)]; exact y4 _ _ (by decide) (by decide)
      have z4 : adT Y 16 (T 123 (T 100 20 - 1)) 0 (T 100 6 + 1) 116 (T 123 (T 100 20 - 1)) = T 116 (T 123 (T 100 20 - 1)) := by rw [adT_o (by omega) (by omega)]; exact y4 _ _ (by decide) (by decide)
      generalize adT Y 16 (T 123 (T 100 20 - 1)) 0 (T 100 6 + 1) = Z at z1 z2 z3 z4 ⊢
      rw [z1, ckB_p (by omega) (by omega), z3, ckB_p (by omega) (by omega), z4, Tw_put_e (by omega) (by omega), bd_some, b515]
    · subst h
      rw [if_neg (by decide), if_neg (by decide), y1, ckB_p (by omega) (by omega), y4 _ _ (by decide) (by decide), ckB_p (by omega) (by omega), y4 _ _ (by decide) (by decide), Tw_put_e (by omega) (by omega), bd_some, b515]
  rcases hl with h | h
  · subst h
    rw [if_pos rfl, ckI_p (by omega) (by omega)]
    exact b437 _
  · subst h
    rw [if_neg (show ¬ (1 : Int) = 0 by decide)]
    exact b437 _
/-- behind an argument of a call -/
theorem b51_7 {n : Int} {f : Int → Int} {base a : Int} {T : St} (hT : TT n f T) (ha : T 100 6 = a) (a0 : 0 ≤ a) (a1 : a ≤ n) (hb : TB T) (hF : T 100 7 = 0) (hw : base < T 100 20) (h0 : 0 ≤ base) (hk : T 122 (T 100 20 - 1) = 7) (h1 : 0 ≤ T 123 (T 100 20 - 1)) (h2 : T 123 (T 100 20 - 1) < T 100 13) (m0 : 0 ≤ T 125 (T 100 20 - 1)) (m1 : T 125 (T 100 20 - 1) ≤ 5000) : Tw_closes_b51 base 0 T = if lkF n f a = 44 then some (1, cmT T (T 123 (T 100 20 - 1))) else if lkF n f a = 41 then bd (Tw_signsOver base (caT T (T 125 (T 100 20 - 1) + 1) 0)) (fun _ T' => some (1, T')) else some (0, fT 1 a T) := by
  have hn := hT.2.2.1
  have hb' := hb
  obtain ⟨b1, b2, b3, b4, b5, b6⟩ := hb'
  rw [b51_e hT (by omega) (by omega) hb hw h0 hk (by decide)]
  unfold Tw_closes_b116 Tw_closes_b155
  rw [Tw_isSign_e hT (by omega) (by omega) 44, bd_some, ha, sg_c (by decide) (by decide), if_pos rfl, if_pos rfl, if_pos rfl]
  by_cases c : lkF n f a = 44
  · rw [if_pos c, if_pos c, if_neg (by decide), ckI_p (by omega) (by omega), ckB_p (by omega) (by omega), b179_e hb (by omega) (by omega) (by omega) (by omega) m1]
  · rw [if_neg c, if_neg c, if_pos rfl]
    unfold Tw_closes_b221
    rw [Tw_isSign_e hT (by omega) (by omega) 41, bd_some, ha, sg_c (by decide) (by decide)]
    by_cases c2 : lkF n f a = 41
    · rw [if_pos c2, if_pos c2, if_neg (by decide), if_neg (by decide), if_pos rfl, b288_7 hb (by omega) (by omega) (by omega) h1 h2 m0 m1 (Or.inl rfl), if_pos rfl]
    · rw [if_neg c2, if_neg c2, if_pos rfl, b268_e hT (by omega) (by omega), if_neg (show ¬ (7 : Int) = 6 by decide), ite_self, b288_0 hF, ha]
