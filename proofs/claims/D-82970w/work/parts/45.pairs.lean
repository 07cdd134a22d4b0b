/-! PLAIN: the small steps of both readers, side by side -/
theorem FG_of {n : Int} {f : Int → Int} {G T G' : St} {w p : Int} (h : PR n f G T) (hw : w ≠ 0) (c1 : G' 150 1 = G 150 1) (c2 : G' 151 = G 151) (a0 : 0 ≤ G' 150 2) (a1 : G' 150 2 ≤ 2000) (s : G' 110 4 = G 110 4) (d : G' 150 3 = G 150 3) (i : G' 150 4 = G 150 4) (v : G' 150 5 = G 150 5) (e1 : G' 130 0 = w) (e2 : G' 130 1 = p) : FG n f 0 w p G' := by
  obtain ⟨⟨x1, x2, ⟨y1, y2, y3, y4, y5⟩, x4, x5⟩, ⟨z1, z2, z3, z4⟩, w1, w2, w3, w4⟩ := h
  have := x1.2.2.1
  exact ⟨x1.cg c1 c2, a0, by omega, by omega, by omega, by omega, by omega, by omega, by omega, by omega, by omega, e1, e2, hw, Int.le_refl _⟩
theorem FX_fT {w p : Int} (T : St) (hw : 0 < w) : FX w p (fT w p T) := by
  refine ⟨?_, ?_, hw⟩ <;> simp [fT, up_ap]
theorem P_sign {n : Int} {f : Int → Int} {G T : St} {c : Int} (hc : c ∈ sgs) (h : PR n f G T) : ∃ G' T', Rd_sign c G = some (0, G') ∧ Tw_sign c T = some (0, T') ∧ ((sg n f (sk n f (G 150 2)) c = 1 ∧ PR n f G' T' ∧ G' = up G 150 2 (sk n f (G 150 2) + 1) ∧ T' = up T 100 6 (sk n f (G 150 2) + 1)) ∨ ∃ w p, FG n f 0 w p G' ∧ FX w p T') := by
  have h' := h
  obtain ⟨⟨x1, x2, ⟨y1, y2, y3, y4, y5⟩, x4, x5⟩, -, -⟩ := h'
  have hn := x1.2.2.1
  have s1 := sk_ge n f (G 150 2)
  have s2 := sk_le (f := f) y2
  have s3 := sk_ge n f (T 100 6)
  refine ⟨_, _, Rd_sign_e hc x1 y1 (by omega), Tw_sign_e x2 y3 y4 x5, ?_⟩
  rw [if_pos x4, ← y5]
  rcases sg_r n f (sk n f (G 150 2)) c with q | q
  · refine Or.inr ⟨1, sk n f (G 150 2), ?_, ?_⟩
    · rw [if_neg (by omega)]
      refine FG_of h (by decide) ?_ ?_ ?_ ?_ ?_ ?_ ?_ ?_ ?_ ?_ <;> first | (funext k; simp [fC, skC, up_ap]) | (simp [fC, skC, up_ap]; done) | (simp [fC, skC, up_ap]; omega)
    · rw [if_neg (by omega)]
      exact FX_fT _ (by decide)
  · have hcn : c ≠ -1 := by intro e; rw [e] at hc; exact absurd hc (by decide)
    have hl := (lkF_lt (sg_1 q).1 hcn).1
    refine Or.inl ⟨q, ?_, by rw [if_pos q], by rw [if_pos q]⟩
    rw [if_pos q, if_pos q]
    refine h.go ?_ ?_ (by rw [up_s]; omega) (by rw [up_s]; omega) (by rw [up_s]; omega) (by rw [up_s]; omega) (by rw [up_s, up_s])
    · intro o k hs
      rw [up_ap, if_neg]
      rintro ⟨rfl, rfl⟩
      exact hs (Or.inr (by decide))
    · intro o k hs
      rw [up_ap, if_neg]
      rintro ⟨rfl, rfl⟩
      exact hs (Or.inr (by decide))
theorem P_word {n : Int} {f : Int → Int} {G T : St} {w : Int} (i : Nat) (hi : i < 13) (hw : w = 70 + i) (h : PR n f G T) : ∃ G' T', Rd_word w G = some (0, G') ∧ Tw_keyword w T = some (0, T') ∧ ((iw n f (sk n f (G 150 2)) i = 1 ∧ PR n f G' T' ∧ G' = up G 150 2 (sk n f (G 150 2) + swl i) ∧ T' = up T 100 6 (sk n f (G 150 2) + swl i)) ∨ ∃ w p, FG n f 0 w p G' ∧ FX w p T') := by
  have h' := h
  obtain ⟨⟨x1, x2, ⟨y1, y2, y3, y4, y5⟩, x4, x5⟩, -, -⟩ := h'
  have hn := x1.2.2.1
  have s1 := sk_ge n f (G 150 2)
  have s2 := sk_le (f := f) y2
  have s3 := sk_ge n f (T 100 6)
  refine ⟨_, _, Rd_word_e i hi hw x1 y1 (by omega), Tw_keyword_e i hi hw x2 y3 y4 x5, ?_⟩
  rw [if_pos x4, ← y5]
  rcases iw_r n f (sk n f (G 150 2)) i with q | q
  · refine Or.inr ⟨1, sk n f (G 150 2), ?_, ?_⟩
    · rw [if_neg (by omega)]
      refine FG_of h (by decide) ?_ ?_ ?_ ?_ ?_ ?_ ?_ ?_ ?_ ?_ <;> first | (funext k; simp [fC, skC, up_ap]) | (simp [fC, skC, up_ap]; done) | (simp [fC, skC, up_ap]; omega)
    · rw [if_neg (by omega)]
      exact FX_fT _ (by decide)
  · have hl := iw_lt q hi
    have hw2 := we_le (f := f) s2
    refine Or.inl ⟨q, ?_, by rw [if_pos q], by rw [if_pos q]⟩
    rw [if_pos q, if_pos q]
    refine h.go ?_ ?_ (by rw [up_s]; omega) (by rw [up_s]; omega) (by rw [up_s]; omega) (by rw [up_s]; omega) (by rw [up_s, up_s])
    · intro o k hs
      rw [up_ap, if_neg]
      rintro ⟨rfl, rfl⟩
      exact hs (Or.inr (by decide))
    · intro o k hs
      rw [up_ap, if_neg]
      rintro ⟨rfl, rfl⟩
      exact hs (Or.inr (by decide))
theorem P_number {n : Int} {f : Int → Int} {G T : St} (least most : Int) (hmost : most ≤ 4294967295) (h : PR n f G T) : ∃ z G' T', Rd_number least most G = some (z, G') ∧ Tw_number least most T = some (0, T') ∧ ((sk n f (G 150 2) < dgE f n (sk n f (G 150 2)) ∧ PR n f G' T' ∧ z = w32 (T' 100 12) ∧ 0 ≤ T' 100 12 ∧ least ≤ T' 100 12 ∧ T' 100 12 ≤ most ∧ G' = up (up (skC n f G) 150 10 (sk n f (G 150 2))) 150 2 (dgE f n (sk n f (G 150 2))) ∧ T' = up (up T 100 12 (T' 100 12)) 100 6 (dgE f n (sk n f (G 150 2)))) ∨ ∃ w p, FG n f 0 w p G' ∧ FX w p T') := by
  have h' := h
  obtain ⟨⟨x1, x2, ⟨y1, y2, y3, y4, y5⟩, x4, x5⟩, -, -⟩ := h'
  have hn := x1.2.2.1
  have s1 := sk_ge n f (G 150 2)
  have s2 := sk_le (f := f) y2
  have s3 := sk_ge n f (T 100 6)
  have d1 := dgE_ge f n _ (sk n f (G 150 2)) (Nat.le_refl _)
  have eC := Rd_number_e x1 y1 y2 x4 least most _ _ rfl rfl
  have eT := Tw_number_e x2 y3 y4 x5 least most _ _ hmost rfl rfl
  rw [← y5] at eT
  generalize hd : dgE f n (sk n f (G 150 2)) = e at *
  generalize ha : sk n f (G 150 2) = a at *
  by_cases q1 : e = a
  · rw [if_pos q1] at eC eT
    refine ⟨_, _, _, eC, eT, Or.inr ⟨1, a, ?_, FX_fT _ (by decide)⟩⟩
    refine FG_of h (by decide) ?_ ?_ ?_ ?_ ?_ ?_ ?_ ?_ ?_ ?_ <;> first | (funext k; simp [fC, skC, up_ap]) | (simp [fC, skC, up_ap]; done) | (simp [fC, skC, up_ap]; omega)
  · rw [if_neg q1] at eC eT
    by_cases q2 : nb f a e least most = 1
    · rw [if_pos q2] at eC eT
      refine ⟨_, _, _, eC, eT, Or.inr ⟨2, a, ?_, FX_fT _ (by decide)⟩⟩
      refine FG_of h (by decide) ?_ ?_ ?_ ?_ ?_ ?_ ?_ ?_ ?_ ?_ <;> first | (funext k; simp [fC, skC, up_ap]) | (simp [fC, skC, up_ap]; done) | (simp [fC, skC, up_ap]; omega)
    · rw [if_neg q2] at eC eT
      refine ⟨_, _, _, eC, eT, Or.inl ?_⟩
      have nr : up (up T 100 12 (nval f a (e - a).toNat)) 100 6 e 100 12 = nval f a (e - a).toNat := by rw [up_k _ (by decide), up_s]
      have hb : ¬ (10 < e - a ∨ nval f a (e - a).toNat < least ∨ most < nval f a (e - a).toNat) := by
        intro x
        exact q2 (by unfold nb; rw [if_pos x])
      have hv : 0 ≤ nval f a (e - a).toNat := by
        have hall : ∀ (r : Nat) (b : Int), (n - b).toNat ≤ r → ∀ j : Int, b ≤ j → j < dgE f n b → isDg (f j) ≠ 0 := by
          intro r
          induction r with
          | zero =>
            intro b hb j j1 j2
            rw [dgE, if_neg (by omega)] at j2
            omega
          | succ r ih =>
            intro b hb j j1 j2
            rw [dgE] at j2
            split at j2
            · rename_i hh
              by_cases ej : j = b
              · rw [ej]; exact hh.2
              · exact ih (b + 1) (by omega) j (by omega) j2
            · omega
        exact (nval_c f a _ (fun j hj => hall _ a (Nat.le_refl _) (a + j) (by omega) (by rw [hd]; omega))).1
      refine ⟨by omega, ?_, by rw [nr], by rw [nr]; exact hv, by rw [nr]; omega, by rw [nr]; omega, rfl, by rw [nr]⟩
      refine h.go ?_ ?_ (by rw [up_s]; omega) (by rw [up_s]; omega) (by rw [up_s]; omega) (by rw [up_s]; omega) (by rw [up_s, up_s])
      · intro o k hs
        rw [up_ap, if_neg, up_ap, if_neg, skC, up_ap, if_neg]
        · rintro ⟨rfl, rfl⟩
          exact hs (Or.inr (by decide))
        · rintro ⟨rfl, rfl⟩
          exact hs (Or.inr (by decide))
        · rintro ⟨rfl, rfl⟩
          exact hs (Or.inr (by decide))
      · intro o k hs
        rw [up_ap, if_neg, up_ap, if_neg]
        · rintro ⟨rfl, rfl⟩
          exact hs (Or.inr (by decide))
        · rintro ⟨rfl, rfl⟩
          exact hs (Or.inr (by decide))
theorem nm_eq {n : Int} {f : Int → Int} {G T : St} {a len : Int} (x1 : CT n f G) (x2 : TT n f T) (hR : NmR G T) (ha : 0 ≤ a) (hl : a + len ≤ n) : ∀ k, 0 ≤ k → k < G 120 3 → nmC G a len k = nmT T a len k := by
  intro k k0 k1
  obtain ⟨r1, r2⟩ := hR.2 k k0 k1
  unfold nmC nmT
  rw [r1]
  by_cases q : T 112 k = len
  · rw [if_pos q, if_pos q]
    refine eqF_cg _ _ (fun j _ hj => ⟨r2 j (by omega) (by omega), ?_⟩)
    rw [x1.2.2.2 (a + j) (by omega) (by omega), x2.2.2.2 (a + j) (by omega) (by omega)]
  · rw [if_neg q, if_neg q]
/-- a name is read: its number, and what else has changed -/
def nmP (n : Int) (f : Int → Int) (G T G' T' : St) (z a e : Int) : Prop := a = sk n f (G 150 2) ∧ e = we n f a ∧ a < e ∧ e ≤ n ∧ 0 ≤ z ∧ z < G' 120 3 ∧ G' 150 2 = e ∧ G' 150 10 = a ∧ T' 100 6 = e ∧ (∀ o k, ¬ fS [121, 122, 123] [(120, 3), (120, 4), (150, 2), (150, 10)] o k → G' o k = G o k) ∧ (∀ o k, ¬ fS [111, 112] [(100, 6), (100, 9)] o k → T' o k = T o k)
theorem P_name {n : Int} {f : Int → Int} {G T : St} (h : PR n f G T) : ∃ z G' T', Rd_name G = some (z, G') ∧ ((Tw_name T = some (z, T') ∧ PR n f G' T' ∧ ∃ a e, nmP n f G T G' T' z a e) ∨ ∃ z' w p, Tw_name T = some (z', T') ∧ FG n f 0 w p G' ∧ FX w p T') := by
  have h' := h
  obtain ⟨⟨x1, x2, ⟨y1, y2, y3, y4, y5⟩, x4, x5⟩, ⟨z1, z2, z3, z4⟩, w1, w2, w3, w4⟩ := h'
  have hn := x1.2.2.1
  have s1 := sk_ge n f (G 150 2)
  have s2 := sk_le (f := f) y2
  have s3 := sk_ge n f (T 100 6)
  have hk : T 100 9 < 2000 := by
    have := z1.2.1
    have := z3.1
    omega
  have eC := Rd_name_e x1 y1 y2 x4 z1 _ _ rfl rfl
  have eT := Tw_name_e x2 y3 y4 x5 z2 hk _ _ rfl rfl
  rw [← y5] at eT s3
  have d1 := we_ge n f (sk n f (G 150 2))
  have d2 := we_le (f := f) s2
  generalize hd : we n f (sk n f (G 150 2)) = e at *
  generalize ha : sk n f (G 150 2) = a at *
  by_cases q1 : e = a ∨ kw n f a ≠ 0
  · rw [if_pos q1] at eC eT
    refine ⟨_, _, _, eC, Or.inr ⟨_, 1, a, eT, ?_, FX_fT _ (by decide)⟩⟩
    refine FG_of h (by decide) ?_ ?_ ?_ ?_ ?_ ?_ ?_ ?_ ?_ ?_ <;> first | (funext k; simp [fC, skC, up_ap]) | (simp [fC, skC, up_ap]; done) | (simp [fC, skC, up_ap]; omega)
  · rw [if_neg q1] at eC eT
    by_cases q2 : 16 < e - a
    · rw [if_pos q2] at eC eT
      refine ⟨_, _, _, eC, Or.inr ⟨_, 2, a, eT, ?_, FX_fT _ (by decide)⟩⟩
      refine FG_of h (by decide) ?_ ?_ ?_ ?_ ?_ ?_ ?_ ?_ ?_ ?_ <;> first | (funext k; simp [fC, skC, up_ap]) | (simp [fC, skC, up_ap]; done) | (simp [fC, skC, up_ap]; omega)
    · rw [if_neg q2] at eC eT
      have hlt : a < e := by
        have : e ≠ a := fun x => q1 (Or.inl x)
        omega
      have hf : fnd (nmT T a (e - a)) (T 100 9) 0 = fnd (nmC G a (e - a)) (G 120 3) 0 := by
        rw [← z3.1]
        exact (fnd_cg _ 0 (Nat.le_refl _) (Int.le_refl _) (nm_eq x1 x2 z3 (by omega) (by omega))).symm
      rw [hf, ← z3.1] at eT
      have fr1 := fnd_r (nmC G a (e - a)) (G 120 3) _ 0 (Nat.le_refl _) z1.1
      generalize hz : fnd (nmC G a (e - a)) (G 120 3) 0 = z at *
      refine ⟨_, _, _, eC, Or.inl ⟨eT, ?_⟩⟩
      by_cases q3 : z < G 120 3
      · rw [if_pos q3, if_pos q3]
        constructor
        · refine h.go ?_ ?_ (by rw [up_s]; omega) (by rw [up_s]; omega) (by rw [up_s]; omega) (by rw [up_s]; omega) (by rw [up_s, up_s])
          · intro o k hs
            rw [up_ap, if_neg, up_ap, if_neg, skC, up_ap, if_neg]
            · rintro ⟨rfl, rfl⟩
              exact hs (Or.inr (by decide))
            · rintro ⟨rfl, rfl⟩
              exact hs (Or.inr (by decide))
            · rintro ⟨rfl, rfl⟩
              exact hs (Or.inr (by decide))
          · intro o k hs
            rw [up_ap, if_neg, skT, up_ap, if_neg]
            · rintro ⟨rfl, rfl⟩
              exact hs (Or.inr (by decide))
            · rintro ⟨rfl, rfl⟩
              exact hs (Or.inr (by decide))
        · refine ⟨a, e, ha.symm, hd.symm, hlt, d2, fr1.1, ?_, up_s _ _ _ _, ?_, up_s _ _ _ _, ?_, ?_⟩
          · simp only [up_ap, skC]; simp; exact q3
          · simp [up_ap]
          · intro o k hs
            rw [up_ap, if_neg, up_ap, if_neg, skC, up_ap, if_neg]
            · rintro ⟨rfl, rfl⟩
              exact hs (Or.inr (by decide))
            · rintro ⟨rfl, rfl⟩
              exact hs (Or.inr (by decide))
            · rintro ⟨rfl, rfl⟩
              exact hs (Or.inr (by decide))
          · intro o k hs
            rw [up_ap, if_neg, skT, up_ap, if_neg]
            · rintro ⟨rfl, rfl⟩
              exact hs (Or.inr (by decide))
            · rintro ⟨rfl, rfl⟩
              exact hs (Or.inr (by decide))
      · have ez : z = G 120 3 := by omega
        rw [if_neg q3, if_neg q3]
        generalize hG : up (nmU (up (skC n f G) 150 10 a) a (e - a)) 150 2 e = G'
        generalize hT : up (nmV (skT n f T) a (e - a)) 100 6 e = T'
        have fC1 : ∀ o k, ¬ fS [121, 122, 123] [(120, 3), (120, 4), (150, 2), (150, 10)] o k → G' o k = G o k := by
          intro o k hs
          have g1 : ¬ (o = 121 ∨ o = 122 ∨ o = 123 ∨ (o = 120 ∧ k = 3) ∨ (o = 120 ∧ k = 4) ∨ (o = 150 ∧ k = 2) ∨ (o = 150 ∧ k = 10)) := by
            intro x
            apply hs
            unfold fS
            simp only [List.mem_cons, List.not_mem_nil, or_false, Prod.mk.injEq]
            omega
          rw [← hG]
          simp only [nmU, skC, up_ap, acp_ap]
          repeat rw [if_neg (by omega)]
        have fT1 : ∀ o k, ¬ fS [111, 112] [(100, 6), (100, 9)] o k → T' o k = T o k := by
          intro o k hs
          have g1 : ¬ (o = 111 ∨ o = 112 ∨ (o = 100 ∧ k = 6) ∨ (o = 100 ∧ k = 9)) := by
            intro x
            apply hs
            unfold fS
            simp only [List.mem_cons, List.not_mem_nil, or_false, Prod.mk.injEq]
            omega
          rw [← hT]
          simp only [nmV, skT, up_ap]
          repeat rw [if_neg (by omega)]
        have n1 : G' 120 3 = G 120 3 + 1 := by rw [← hG]; simp [nmU, skC, up_ap, acp_ap]
        have n2 : G' 120 4 = G 120 4 + (e - a) := by rw [← hG]; simp [nmU, skC, up_ap, acp_ap]
        have n3 : ∀ k, G' 122 k = if k = G 120 3 then G 120 4 else G 122 k := by intro k; rw [← hG]; simp [nmU, skC, up_ap, acp_ap]
        have n4 : ∀ k, G' 123 k = if k = G 120 3 then e - a else G 123 k := by intro k; rw [← hG]; simp [nmU, skC, up_ap, acp_ap]
        have n5 : ∀ k, G' 121 k = if G 120 4 ≤ k ∧ k < G 120 4 + (e - a) then G 151 (a + (k - G 120 4)) else G 121 k := by intro k; rw [← hG]; simp [nmU, skC, up_ap, acp_ap]
        have n6 : G' 150 2 = e := by rw [← hG, up_s]
        have n7 : G' 150 10 = a := by rw [← hG]; simp [nmU, skC, up_ap, acp_ap]
        have m1 : T' 100 9 = T 100 9 + 1 := by rw [← hT]; simp [nmV, skT, up_ap]
        have m2 : ∀ k, T' 111 k = if k = T 100 9 then a else T 111 k := by intro k; rw [← hT]; simp [nmV, skT, up_ap]
        have m3 : ∀ k, T' 112 k = if k = T 100 9 then e - a else T 112 k := by intro k; rw [← hT]; simp [nmV, skT, up_ap]
        have m4 : T' 100 6 = e := by rw [← hT, up_s]
        have c0 : ∀ o k, o ≠ 121 → o ≠ 122 → o ≠ 123 → o ≠ 120 → o ≠ 150 → G' o k = G o k := by
          intro o k h1 h2 h3 h4 h5
          apply fC1
          unfold fS
          simp only [List.mem_cons, List.not_mem_nil, or_false, Prod.mk.injEq]
          omega
        have c1 : ∀ k, k ≠ 2 → k ≠ 10 → G' 150 k = G 150 k := by
          intro k h1 h2
          apply fC1
          unfold fS
          simp only [List.mem_cons, List.not_mem_nil, or_false, Prod.mk.injEq]
          omega
        have t0 : ∀ o k, o ≠ 111 → o ≠ 112 → o ≠ 100 → T' o k = T o k := by
          intro o k h1 h2 h3
          apply fT1
          unfold fS
          simp only [List.mem_cons, List.not_mem_nil, or_false, Prod.mk.injEq]
          omega
        have t1 : ∀ k, k ≠ 6 → k ≠ 9 → T' 100 k = T 100 k := by
          intro k h1 h2
          apply fT1
          unfold fS
          simp only [List.mem_cons, List.not_mem_nil, or_false, Prod.mk.injEq]
          omega
        clear hG hT eC eT
        constructor
        · refine ⟨⟨x1.cg (c1 _ (by decide) (by decide)) (funext fun k => c0 _ k (by decide) (by decide) (by decide) (by decide) (by decide)), x2.cg (t1 _ (by decide) (by decide)) (funext fun k => t0 _ k (by decide) (by decide) (by decide)), ⟨by omega, by omega, by omega, by omega, by rw [n6, m4]⟩, ?_, ?_⟩, ⟨?_, ?_, ?_, ?_⟩, ?_⟩
          · rw [c0 130 0 (by decide) (by decide) (by decide) (by decide) (by decide)]; exact x4
          · rw [t1 _ (by decide) (by decide)]; exact x5
          · obtain ⟨u1, u2, u3, u4⟩ := z1
            refine ⟨by omega, by omega, by omega, ?_⟩
            intro k k0 k1
            rw [n3, n4, n2]
            by_cases ek : k = G 120 3
            · rw [if_pos ek, if_pos ek]; omega
            · rw [if_neg ek, if_neg ek]
              have := u4 k k0 (by omega)
              omega
          · refine ⟨by rw [m1]; have := z2.1; omega, ?_⟩
            intro k k0 k1
            rw [m2, m3]
            by_cases ek : k = T 100 9
            · rw [if_pos ek, if_pos ek]; omega
            · rw [if_neg ek, if_neg ek]
              exact z2.2 k k0 (by omega)
          · refine ⟨by rw [n1, m1, z3.1], ?_⟩
            intro k k0 k1
            rw [n4, m3, n3, m2, ← z3.1]
            by_cases ek : k = G 120 3
            · rw [if_pos ek, if_pos ek, if_pos ek, if_pos ek]
              refine ⟨rfl, fun i i0 i1 => ?_⟩
              rw [n5, if_pos (by omega), t0 105 _ (by decide) (by decide) (by decide), show a + (G 120 4 + i - G 120 4) = a + i by omega, x1.2.2.2 _ (by omega) (by omega), x2.2.2.2 _ (by omega) (by omega)]
            · rw [if_neg ek, if_neg ek, if_neg ek, if_neg ek]
              have k2 : k < G 120 3 := by omega
              obtain ⟨u1, u2⟩ := z3.2 k k0 k2
              obtain ⟨v1, v2, v3⟩ := z1.2.2.2 k k0 k2
              refine ⟨u1, fun i i0 i1 => ?_⟩
              rw [n5, if_neg (by omega), t0 105 _ (by decide) (by decide) (by decide)]
              exact u2 i i0 i1
          · omega
          · refine ⟨?_, ?_, ?_, ?_⟩
            · rw [c1 3 (by decide) (by decide), t1 _ (by decide) (by decide)]; exact w1
            · rw [c0 110 _ (by decide) (by decide) (by decide) (by decide) (by decide)]; omega
            · rw [t1 13 (by decide) (by decide), t1 20 (by decide) (by decide), t1 26 (by decide) (by decide), t1 19 (by decide) (by decide)]; omega
            · rw [c1 4 (by decide) (by decide), c1 5 (by decide) (by decide)]; exact w4
        · exact ⟨a, e, ha.symm, hd.symm, hlt, d2, fr1.1, by omega, n6, n7, m4, fC1, fT1⟩
