/-! PLAIN: conditions, behind their first block -/
theorem f_block {n : Int} {f : Int → Int} {k w p : Int} {G : St} (h : FG n f k w p G) (d : Nat) : RS (d + 1) 1 [] G = some (0, skC n f G) := by
  show Rd_block (RS d) G = _
  have h2 := FG_F (FG_sk h)
  unfold Rd_block
  rw [Rd_skip_e h.1 h.2.1, bd_some, show up G 150 2 (sk n f (G 150 2)) = skC n f G from rfl, Ft_is_1 h2, bd_some, if_neg (by decide)]
theorem c164_f {n : Int} {f : Int → Int} {k w p a : Int} {G : St} (h : FG n f k w p G) (hk : k ≤ 6000) (Rf : Nat → List Int → St → Option (Int × St)) : ∃ G', Rd_condition_b164 Rf a G = some (0, G') ∧ FG n f (k + 1) w p G' := by
  unfold Rd_condition_b164
  rw [FG_add_e h (by omega) 0 a 0 (by decide) (by decide), bd_some]
  exact ⟨_, rfl, FG_add h _ _ _ _⟩
theorem c79_f {n : Int} {f : Int → Int} {k w p a z6 : Int} {G : St} (h : FG n f k w p G) (hk : k ≤ 5900) (z0 : 0 ≤ z6) (z1 : z6 < 12000) (Rf : Nat → List Int → St → Option (Int × St)) : ∃ G', Rd_condition_b79 Rf a z6 0 G = some (0, G') ∧ FG n f (k + 2) w p G' := by
  unfold Rd_condition_b79
  have h1 := FG_add h 14 0 a 0
  have h2 := FG_114 h1 z6 (G 110 4)
  rw [FG_add_e h (by omega) 0 a 0 (by decide) (by decide), bd_some, ckB_p z0 z1, tk_e, if_pos rfl]
  obtain ⟨G', e, fg⟩ := c164_f (k := k + 1) (a := a) h2 (by omega) Rf
  exact ⟨G', e, fg.mono (by omega)⟩
/-- behind the first block, with a fault -/
theorem ck_f {n : Int} {f : Int → Int} {k w p a z6 : Int} {G : St} (h : FG n f k w p G) (hk : k ≤ 5900) (z0 : 0 ≤ z6) (z1 : z6 < 12000) (Rf : Nat → List Int → St → Option (Int × St)) : ∃ G', (bd (Rd_skip G) fun _ G11 => bd (Ft_is G11) fun z12 G13 => if z12 = 0 then (bd (Rd_isWord 77 G13) fun z31 G32 => Rd_condition_b79 Rf a z6 (if z31 = 0 then 0 else 1) G32) else (Rd_condition_b79 Rf a z6 0 G13)) = some (0, G') ∧ FG n f (k + 2) w p G' := by
  rw [Rd_skip_e h.1 h.2.1, bd_some, show up G 150 2 (sk n f (G 150 2)) = skC n f G from rfl, Ft_is_1 (FG_F (FG_sk h)), bd_some, if_neg (by decide)]
  exact c79_f (FG_sk h) hk z0 z1 Rf
theorem f_cond {n : Int} {f : Int → Int} {k w p : Int} {G : St} (h : FG n f k w p G) (hk : k ≤ 5800) (d : Nat) : ∃ G', RS (d + 2) 2 [] G = some (0, G') ∧ FG n f (k + 6) w p G' := by
  show ∃ G', Rd_condition (RS (d + 1)) G = some (0, G') ∧ _
  unfold Rd_condition
  have h1 := FG_add h 6 0 (G 150 2) 0
  have nn := h1.num
  have h2 := FG_at (h1.mono (show k + 1 ≤ k + 3 by omega)) (x := adC G 6 0 (G 150 2) 0 150 2 + 2) (by omega) (by omega)
  rw [FG_add_e h (by omega) 0 _ 0 (by decide) (by decide), bd_some, ckI_p (by omega) (by omega), tk_e]
  generalize up (adC G 6 0 (G 150 2) 0) 150 2 (adC G 6 0 (G 150 2) 0 150 2 + 2) = G3 at h2 ⊢
  have h3 := FG_sk h2
  have eA : Rd_aroundO G3 = some (0, skC n f G3) := f_around h2 599
  have z0 := h3.2.2.2
  rw [eA, bd_some, FG_add_e h3 (by omega) 0 _ 0 (by decide) (by decide), bd_some, f_block (FG_add h3 13 0 (G 150 2) 0), bd_some]
  obtain ⟨G', e, fg⟩ := ck_f (k := k + 3 + 1) (a := G 150 2) (z6 := skC n f G3 110 4) (FG_sk (FG_add h3 13 0 (G 150 2) 0)) (by omega) z0.1 (by omega) (RS (d + 1))
  exact ⟨G', e, fg.mono (by omega)⟩
/-- the pair behind a block -/
theorem bk_nx {n : Int} {f : Int → Int} {P W kk idx b c : Int} {G T Gb T1 G' : St} (hP : PR n f G T) (h : BK n f P W kk idx G T Gb T1 G' b) (hc : sk n f (b + 1) = c) : CS Gb (skC n f G') c (Gb 110 4 + 1) (G 150 3) ∧ skC n f G' 111 (Gb 110 4) = 21 ∧ PR n f (skC n f G') (up (cbT T1 b) 100 6 c) ∧ b + 1 ≤ c ∧ c ≤ n ∧ CT n f G' ∧ G' 150 2 = b + 1 ∧ G' 130 0 = 0 := by
  obtain ⟨p1, p2, p3, ⟨p4, p5, p6⟩, p7, p8, p9, p10, p11, p12, p13, p14, p15, p16, p17, ⟨pr1, pr2⟩, p18, p19⟩ := h
  have N := p1.nums
  have N0 := hP.nums
  have lt := lkF_lt p6 (by decide)
  have g := sk_ge n f (b + 1)
  have g2 := sk_le (n := n) (f := f) (a := b + 1) (by omega)
  rw [hc] at g g2
  have s1 := ((CS_at Gb (b + 1)).ndeep (Int.le_refl _) (G 150 3)).nad (Int.le_refl _) 21 0 (b + 1) 0
  rw [← p19] at s1
  have z : up (up Gb 150 2 (b + 1)) 150 3 (G 150 3) 110 4 = Gb 110 4 := by rw [up_o _ (by decide), up_o _ (by decide)]
  have cv := adC_v (up (up Gb 150 2 (b + 1)) 150 3 (G 150 3)) 21 0 (b + 1) 0
  rw [z, ← p19] at cv
  have s2 := s1.nsk (by omega) n f
  rw [hc] at s2
  have F := cs_F p1 s1
  obtain ⟨c1, c2, c3, c4, c5, c6, c7, c8, c9, c10, c11⟩ := cbT_s T1 b
  generalize cbT T1 b = X at c1 c2 c3 c4 c5 c6 c7 c8 c9 c10 c11 ⊢
  have k1 := c1.tr (kT_up (o := 100) (k := 6) (Or.inr (by decide)) X c)
  have e : ∀ k, k ≠ 6 → up X 100 6 c 100 k = X 100 k := fun k h => up_k _ h
  unfold SB at p2
  refine ⟨s2, by rw [skC_o _ _ _ _ (by decide)]; exact cv.1, ?_, g, g2, F.2, s1.2.1, F.1⟩
  exact p1.kb s2.1 s2.2.1 s2.2.2.1 s2.2.2.2.1 k1 (up_s _ _ _ _) (by rw [e _ (by decide), c3]) (by rw [e _ (by decide), c4]) (by rw [e _ (by decide), c5]) (by rw [e _ (by decide), c6]) (by omega) (by omega) (by omega) (by omega) rfl (by omega) (by omega) (by omega) (by omega) (by omega) (by omega) (by omega) (by omega) (by omega) (by omega)
theorem cd_0 {n : Int} {f : Int → Int} {P W a z6 b c : Int} {d : Nat} {G T G7 T7 Gb T1 G9 : St} (hP : PR n f G T) (hH : HD n f P W a z6 G T G7 T7) (hB : BK n f P W 1 (T7 100 13 - 1) G7 T7 Gb T1 G9 b) (hc : sk n f (b + 1) = c) (Rf : Nat → List Int → St → Option (Int × St)) :
    ∃ G', Rd_condition_b79 Rf a z6 0 (skC n f G9) = some (0, G') ∧ OKZ n f P W G T G' (enT (up (cbT T1 b) 100 6 c) (T7 100 13 - 1) (T7 100 13 - 1)) ∧ (bd (Tw_closeBlock_b215 P W (T7 100 13 - 1) (up (cbT T1 b) 100 6 c)) fun _ T' => Lp P W T') = KB P W (enT (up (cbT T1 b) 100 6 c) (T7 100 13 - 1) (T7 100 13 - 1)) := by
  obtain ⟨h1, h2, h3, h4, h5, h6, h7, h8, h9, h10, ⟨h11, h12⟩, ⟨h13, h14⟩, h15, ⟨h16, h17, h18⟩, ⟨h19, h20, h21⟩, h22, h23, h24, h25⟩ := hH
  obtain ⟨x1, x2, x3, x4, x5, x6, x7, x8⟩ := bk_nx h1 hB hc
  obtain ⟨p1, p2, p3, ⟨p4, p5, p6⟩, p7, p8, p9, p10, p11, p12, p13, p14, p15, p16, p17, ⟨pr1, pr2⟩, p18, p19⟩ := hB
  have N := hP.nums
  have N7 := h1.nums
  have N1 := p1.nums
  have lw := wf_le p18
  have lw0 := wf_le h15
  unfold SB at p2 h2
  have F := cs_F p1 x1
  generalize skC n f G9 = G10 at x1 x2 x3 F ⊢
  obtain ⟨y1, y2, y3, y4, y5⟩ := x1
  obtain ⟨c1, c2, c3, c4, c5, c6, c7, c8, c9, c10, c11⟩ := cbT_s T1 b
  have tk : ∀ k, k ≠ 6 → up (cbT T1 b) 100 6 c 100 k = cbT T1 b 100 k := fun k h => up_k _ h
  have ta : ∀ o k, o ≠ 100 → up (cbT T1 b) 100 6 c o k = T1 o k := fun o k h => by rw [up_o _ h]; exact c7 o k h
  have t1 := tk 13 (by decide)
  have t2 := tk 19 (by decide)
  have t3 := tk 20 (by decide)
  have t4 := tk 26 (by decide)
  have t5 := tk 30 (by decide)
  have t6 := tk 29 (by decide)
  have t7 : up (cbT T1 b) 100 6 c 100 6 = c := up_s _ _ _ _
  have z2 : up (cbT T1 b) 100 6 c 117 (T7 100 13 - 1) = 0 := by rw [ta _ _ (by decide), p13.1 _ _ (by decide) (by omega) (by omega)]; exact h21
  generalize up (cbT T1 b) 100 6 c = T10 at x3 tk ta t1 t2 t3 t4 t5 t6 t7 z2 ⊢
  generalize cbT T1 b = X at c1 c2 c3 c4 c5 c6 c7 c8 c9 c10 c11 tk t1 t2 t3 t4 t5 t6
  obtain ⟨e1, e2, e3, e4, e5, e6, e7, e8, e9, e10, e11, e12⟩ := enT_s (T := T10) (T7 100 13 - 1) (y := T7 100 13 - 1) (by omega)
  have kb := b215_e (P := P) (W := W) (T := T10) (x := T7 100 13 - 1) (y := T7 100 13 - 1) (by omega) (by omega) (by omega) (Or.inl ⟨z2, rfl⟩)
  generalize enT T10 (T7 100 13 - 1) (T7 100 13 - 1) = T' at e1 e2 e3 e4 e5 e6 e7 e8 e9 e10 e11 e12 kb ⊢
  unfold Rd_condition_b79 Rd_condition_b164
  rw [Cd_add_e (by omega) (by omega) (by decide) (by decide), bd_some, ckB_p (by omega) (by omega), tk_e, if_pos rfl]
  have s1 := CS_ad G10 14 0 a 0
  have cv1 := adC_v G10 14 0 a 0
  have ka : ∀ o k, 111 ≤ o → o ≤ 114 → k < G10 110 4 → adC G10 14 0 a 0 o k = G10 o k := fun o k q1 q2 q3 => adC_o (by omega) (by omega)
  generalize adC G10 14 0 a 0 = G11 at s1 cv1 ka ⊢
  have m1 := s1.1.tr (kC_up (o := 114) (k := z6) (Or.inl (by decide)) G11 (G10 110 4))
  have kb' : ∀ o k, ¬ (o = 114 ∧ k = z6) → up G11 114 z6 (G10 110 4) o k = G11 o k := fun o k h => by rw [up_ap, if_neg h]
  have kv : up G11 114 z6 (G10 110 4) 114 z6 = G10 110 4 := up_s _ _ _ _
  generalize up G11 114 z6 (G10 110 4) = G12 at m1 kb' kv ⊢
  have u1 := kb' 150 2 (by omega)
  have u2 := kb' 110 4 (by omega)
  have u3 := kb' 150 3 (by omega)
  obtain ⟨w1, w2, w3, w4, w5⟩ := s1
  rw [Cd_add_e (by omega) (by omega) (by decide) (by decide), bd_some]
  have cv2 := adC_v G12 15 0 a 0
  have kd : ∀ o k, 111 ≤ o → o ≤ 114 → k < G12 110 4 → adC G12 15 0 a 0 o k = G12 o k := fun o k q1 q2 q3 => adC_o (by omega) (by omega)
  have m2 := m1.tr (kC_ad G12 15 0 a 0)
  have v1 : adC G12 15 0 a 0 150 2 = G12 150 2 := adC_o (by omega) (by omega)
  have v2 := adC_s G12 15 0 a 0
  have v3 : adC G12 15 0 a 0 150 3 = G12 150 3 := adC_o (by omega) (by omega)
  generalize adC G12 15 0 a 0 = G' at cv2 kd m2 v1 v2 v3 ⊢
  have pr : PR n f G' T' := x3.kb m2 (by rw [v1, u1, w2]) (by rw [v2, u2, w3]) (by rw [v3, u3, w4]) e1 e2 e3 e4 e5 e6 (by omega) (by omega) (by omega) (by omega) (by rw [y2, t7]) (by omega) (by omega) (by omega) (by omega) (by omega) (by omega) (by omega) (by omega) (by omega) (by omega)
  have gG : ∀ o k, 111 ≤ o → o ≤ 114 → ¬ (o = 114 ∧ k = z6) → 0 ≤ k → k < Gb 110 4 → G' o k = Gb o k := fun o k q1 q2 q3 q4 q5 => by rw [kd o k q1 q2 (by omega), kb' o k q3, ka o k q1 q2 (by omega), y5 o k q1 q2 q4 q5]
  have g7 : ∀ o k, 111 ≤ o → o ≤ 114 → ¬ (o = 114 ∧ k = z6) → 0 ≤ k → k < G7 110 4 → G' o k = G7 o k := fun o k q1 q2 q3 q4 q5 => by rw [gG o k q1 q2 q3 q4 (by omega), p14 o k q1 q2 q4 q5]
  have gT : ∀ o k, 115 ≤ o → ¬ (o = 117 ∧ k = T7 100 13 - 1) → k < T1 100 13 ∨ 119 < o → T' o k = T1 o k := fun o k q1 q2 q3 => by rw [e7 o k q1 q2 (by omega)]; exact ta o k (by omega)
  have t7' : ∀ o k, 115 ≤ o → o ≤ 119 → ¬ (o = 117 ∧ k = T7 100 13 - 1) → 0 ≤ k → k < T7 100 13 → T' o k = T7 o k := fun o k q1 q2 q3 q4 q5 => by rw [gT o k q1 q3 (by omega), p13.1 o k (by omega) q4 q5]
  have gv : G' 150 5 = Gb 150 5 := by rw [m2 _ _ (by simp [fS]), y1 _ _ (by simp [fS])]
  have gi : G' 150 4 = Gb 150 4 := by rw [m2 _ _ (by simp [fS]), y1 _ _ (by simp [fS])]
  refine ⟨G', rfl, ⟨⟨pr, by omega, by omega, by omega, ⟨?_, ?_⟩, ?_, ?_, by omega, by omega, by omega, by omega⟩, p3.tr gv gi (by rw [e11, t5, c8]) (by rw [e12, t6, c9]), ?_⟩, kb⟩
  · intro o k q1 q2 q3
    rw [gT o k (by omega) (by omega) (by omega), p13.1 o k q1 q2 (by omega), h7.1 o k q1 q2 q3]
  · intro o k q1 q2 q3
    rw [gT o k (by omega) (by omega) (by omega), p13.2 o k q1 q2 (by omega), h7.2 o k q1 q2 q3]
  · intro o k q1 q2 q3 q4
    rw [g7 o k q1 q2 (by omega) q3 (by omega), h10 o k q1 q2 q3 q4]
  · have wE := (h15.cg (G1 := G') (T1 := T')).2.2 (fun o k q1 q2 q3 q4 => g7 o k q1 q2 (by omega) (by omega) (by omega)) (fun o k q1 q2 q3 => by
      by_cases q : o = 134
      · subst q
        rw [gT _ _ (by decide) (by omega) (by omega), p13.1 _ _ (by decide) (by omega) (by omega)]
      · exact t7' o k (by omega) (by omega) (by omega) (by omega) (by omega))
    have wB := (p18.cg (G1 := G') (T1 := T')).2.2 (fun o k q1 q2 q3 q4 => gG o k q1 q2 (by omega) (by omega) (by omega)) (fun o k q1 q2 q3 => gT o k (by omega) (by omega) (by omega))
    rw [v2, u2, w3, y3, e3, t1, c3, e11, t5, c8]
    rw [h9, h4] at wB
    rw [h18, show z6 + 1 + 1 = z6 + 2 by omega] at wB
    have idx : T7 100 13 - 1 + 1 = T7 100 13 := by omega
    have pl : G' 113 (G 110 4) = a := by rw [g7 _ _ (by decide) (by decide) (by omega) (by omega) (by omega)]; exact h12
    rw [show Gb 110 4 + 1 + 1 + 1 = Gb 110 4 + 3 by omega]
    refine wf_if0 P W _ _ (G 110 4) z6 (Gb 110 4) (T 100 13) (T7 100 13 - 1) (T1 100 13) _ _ _ 31 ?_ ?_ ?_ wE (Int.le_refl _) ?_ ?_ ?_ ?_ ?_ ?_ ?_ (by rw [idx]; exact wB) (by omega) (by omega) ?_ ?_ ?_ ?_ ?_
    · rw [g7 _ _ (by decide) (by decide) (by omega) (by omega) (by omega)]; exact h11
    · rw [t7' _ _ (by decide) (by decide) (by omega) (by omega) (by omega)]; exact h13
    · rw [t7' _ _ (by decide) (by decide) (by omega) (by omega) (by omega), h14, pl]
    · rw [g7 _ _ (by decide) (by decide) (by omega) (by omega) (by omega)]; exact h16
    · rw [g7 _ _ (by decide) (by decide) (by omega) (by omega) (by omega), h17, pl]
    · rw [kd _ _ (by decide) (by decide) (by omega), kv, y3]
    · rw [t7' _ _ (by decide) (by decide) (by omega) (by omega) (by omega)]; exact h19
    · rw [t7' _ _ (by decide) (by decide) (by omega) (by omega) (by omega), h20, pl]
    · rw [e8, t1, c3]
    · rw [gG _ _ (by decide) (by decide) (by omega) (by omega) (by omega), ← h18]; exact p15
    · rw [kd _ _ (by decide) (by decide) (by omega), kb' _ _ (by omega), ka _ _ (by decide) (by decide) (by omega)]; exact x2
    · rw [kd _ _ (by decide) (by decide) (by omega), kb' _ _ (by omega), ← y3]; exact cv1.1
    · rw [show Gb 110 4 + 2 = G12 110 4 by omega]; exact cv2.1
    · rw [← c3, ← t1]; exact e9
    · rw [← c3, ← t1]; exact e10
  · intro o k q1 q2 q3
    rw [gT o k (by omega) (by omega) (by omega), p12 o k q1 q2 (by omega), h8 o k q1]
