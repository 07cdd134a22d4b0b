/-! PLAIN: loops -/
theorem lp_f {n : Int} {f : Int → Int} {k w p z a z20 : Int} {G : St} (h : FG n f k w p G) (hk : k ≤ 6000) (z0 : 0 ≤ z20) (z1 : z20 < 12000) : ∃ G', (bd (Cd_add 19 z a z20 G) fun z24 G25 => ckB z20 12000 <| tk (up G25 114 z20 z24) fun G26 => some ((0 : Int), G26)) = some (0, G') ∧ FG n f (k + 1) w p G' := by
  rw [FG_add_e h (by omega) z a z20 (by decide) (by decide), bd_some, ckB_p z0 z1, tk_e]
  exact ⟨_, rfl, FG_114 (FG_add h _ _ _ _) _ _⟩
theorem cb_3 {P W : Int} {T : St} {b idx : Int} (a0 : 0 ≤ T 100 6) (a1 : T 100 6 ≤ 3000) (hb : T 100 6 = b) (d0 : -1000 ≤ T 100 19) (d1 : T 100 19 ≤ 1000) (b0 : 1 ≤ T 100 26) (b1 : T 100 26 ≤ 60) (hk : T 128 (T 100 26 - 1) = 3) (hi : T 129 (T 100 26 - 1) = idx) (i0 : 0 ≤ idx) (i1 : idx < T 100 13) (m1 : T 100 13 < 11000) : ∃ p, Tw_closeBlock P W T = some (0, adT (up (adT (cbT T b) 40 idx 0 p) 117 idx (T 100 13)) 21 0 0 p) := by
  have e1 : up T 100 6 (b + 1) 100 19 = T 100 19 := up_k _ (by decide)
  have e2 : up (up T 100 6 (b + 1)) 100 19 (T 100 19 - 1) 100 26 = T 100 26 := by rw [up_k _ (by decide), up_k _ (by decide)]
  obtain ⟨c1, c2, c3, c4, c5, c6, c7, c8, c9, c10, c11⟩ := cbT_s T b
  unfold Tw_closeBlock
  rw [hb, ckI_p (by omega) (by omega), tk_e, e1, ckI_p (by omega) (by omega), tk_e, e2, ckI_p (by omega) (by omega), tk_e, show up (up (up T 100 6 (b + 1)) 100 19 (T 100 19 - 1)) 100 26 (T 100 26 - 1) = cbT T b from rfl]
  generalize cbT T b = X at c1 c2 c3 c4 c5 c6 c7 c8 c9 c10 c11 ⊢
  rw [c6, ckB_p (by omega) (by omega), ckB_p (by omega) (by omega), c7 _ _ (by decide), hk, if_pos rfl, c7 _ _ (by decide), hi, ckB_p (by omega) (by omega), Tw_put_e (by omega) (by omega), bd_some, ckB_p (by omega) (by omega), tk_e, ckB_p (by omega) (by omega), c3]
  generalize hp : X 118 idx = p
  refine ⟨p, ?_⟩
  have e3 : adT X 40 idx 0 p 118 idx = p := by rw [adT_o (by omega) (by omega)]; exact hp
  have e4 : adT X 40 idx 0 p 100 13 = T 100 13 + 1 := by rw [adT_s, c3]
  generalize adT X 40 idx 0 p = Y at e3 e4 ⊢
  rw [up_o _ (show 118 ≠ 117 by decide), e3, Tw_put_e (by rw [up_o _ (by decide)]; omega) (by rw [up_o _ (by decide)]; omega), bd_some]
theorem lp_fin {n : Int} {f : Int → Int} {P W a z pl z6 k8 z20 b : Int} {G T G7 T7 Gb T1 G9 : St} (hP : PR n f G T) (hH : HF n f P W a z pl z6 k8 G T G7 T7) (hz : z20 = G7 110 4 - 1) (hB : BK n f P W 3 (T7 100 13 - 1) G7 T7 Gb T1 G9 b) :
    ∃ G' T', (bd (Cd_add 19 z a z20 G9) fun z24 G25 => ckB z20 12000 <| tk (up G25 114 z20 z24) fun G26 => some ((0 : Int), G26)) = some (0, G') ∧ Tw_closeBlock P W T1 = some (0, T') ∧ OKZ n f P W G T G' T' := by
  obtain ⟨x1, x2⟩ := bk_g hB
  obtain ⟨h1, h2, h3, ⟨h4, h5, h6⟩, h7, h8, h9, h10, ⟨r1, r2, r3, r4⟩, ⟨r5, r6, r7, r8, r9, r10⟩, w1, ⟨r11, r12⟩, w2, ⟨r13, r14⟩, ⟨r15, r16, r17⟩, ⟨r18, r19, r20⟩, n1, n2, n3, n4⟩ := hH
  obtain ⟨p1, p2, p3, ⟨p4, p5, p6⟩, p7, p8, p9, p10, p11, p12, p13, p14, p15, p16, p17, ⟨pr1, pr2⟩, p18, p19⟩ := hB
  have N := hP.nums
  have N7 := h1.nums
  have N1 := p1.nums
  have lw := wf_le p18
  have lwE := wf_le w1
  have lwB := wf_le w2
  unfold SB at p2 h2
  have lt := lkF_lt p6 (by decide)
  obtain ⟨y1, y2, y3, y4, y5⟩ := x1
  obtain ⟨p, eT⟩ := cb_3 (P := P) (W := W) (T := T1) (b := b) (idx := T7 100 13 - 1) (by omega) (by omega) p5 (by omega) (by omega) (by omega) (by omega) (by rw [p9, show T7 100 26 + 1 - 1 = T7 100 26 by omega]; exact p10) (by rw [p9, show T7 100 26 + 1 - 1 = T7 100 26 by omega]; exact p11) (by omega) (by omega) (by omega)
  obtain ⟨c1, c2, c3, c4, c5, c6, c7, c8, c9, c10, c11⟩ := cbT_s T1 b
  generalize cbT T1 b = X at c1 c2 c3 c4 c5 c6 c7 c8 c9 c10 c11 eT
  have s1 := TS_ad X 40 (T7 100 13 - 1) 0 p
  have v1 := adT_v X 40 (T7 100 13 - 1) 0 p
  have k1 : ∀ o k, 115 ≤ o → k < T1 100 13 ∨ 119 < o → adT X 40 (T7 100 13 - 1) 0 p o k = X o k := fun o k q1 q2 => adT_o (by omega) (by omega)
  rw [c3] at v1
  generalize adT X 40 (T7 100 13 - 1) 0 p = Y at s1 v1 k1 eT
  obtain ⟨s11, s12, s13, s14, s15, s16, s17⟩ := s1
  have kk := s11.tr (kT_up (o := 117) (k := T7 100 13 - 1) (Or.inl (by decide)) Y (T1 100 13))
  have k2 : ∀ o k, ¬ (o = 117 ∧ k = T7 100 13 - 1) → up Y 117 (T7 100 13 - 1) (T1 100 13) o k = Y o k := fun o k h => by rw [up_ap, if_neg h]
  have v2 : up Y 117 (T7 100 13 - 1) (T1 100 13) 117 (T7 100 13 - 1) = T1 100 13 := up_s _ _ _ _
  generalize up Y 117 (T7 100 13 - 1) (T1 100 13) = Z at kk k2 v2 eT
  have mZ : Z 100 13 = T1 100 13 + 1 := by rw [k2 _ _ (by omega), s13, c3]
  have v3 := adT_v Z 21 0 0 p
  rw [mZ] at v3
  have k3 : ∀ o j, ¬ ((o = 115 ∨ o = 116 ∨ o = 117 ∨ o = 118) ∧ j = T1 100 13 + 1) → ¬ (o = 100 ∧ j = 13) → adT Z 21 0 0 p o j = Z o j := fun o j q q2 => adT_o (by rw [mZ]; exact q) q2
  have kk2 := kk.tr (kT_ad Z 21 0 0 p)
  have m3 : adT Z 21 0 0 p 100 13 = T1 100 13 + 2 := by rw [adT_s, mZ]; omega
  generalize adT Z 21 0 0 p = T' at v3 k3 kk2 m3 eT
  have f1 : ∀ k, k ≠ 13 → T' 100 k = Y 100 k := fun k h => by rw [k3 _ _ (by omega) (by omega), k2 _ _ (by omega)]
  have a1 := f1 6 (by decide)
  have a2 := f1 19 (by decide)
  have a3 := f1 20 (by decide)
  have a4 := f1 26 (by decide)
  have a5 : T' 100 30 = T1 100 30 := by rw [kk2 _ _ (by simp [fS]), c8]
  have a6 : T' 100 29 = T1 100 29 := by rw [kk2 _ _ (by simp [fS]), c9]
  have gT : ∀ o k, 115 ≤ o → ¬ (o = 117 ∧ k = T7 100 13 - 1) → k < T1 100 13 ∨ 119 < o → T' o k = T1 o k := fun o k q1 q2 q3 => by rw [k3 o k (by omega) (by omega), k2 o k q2, k1 o k q1 q3]; exact c7 o k (by omega)
  have t7 : ∀ o k, (115 ≤ o ∧ o ≤ 119 ∨ o = 134) → ¬ (o = 117 ∧ k = T7 100 13 - 1) → 0 ≤ k → k < T7 100 13 → T' o k = T7 o k := fun o k q1 q3 q4 q5 => by rw [gT o k (by omega) q3 (by omega), p13.1 o k q1 q4 q5]
  -- the component
  rw [Cd_add_e (by omega) (by omega) (by decide) (by decide), bd_some, ckB_p (by omega) (by omega), tk_e]
  have cv := adC_v G9 19 z a z20
  have kd : ∀ o k, 111 ≤ o → o ≤ 114 → k < G9 110 4 → adC G9 19 z a z20 o k = G9 o k := fun o k q1 q2 q3 => adC_o (by omega) (by omega)
  have m2 := y1.tr (kC_ad G9 19 z a z20)
  have u1 : adC G9 19 z a z20 150 2 = G9 150 2 := adC_o (by omega) (by omega)
  have u2 := adC_s G9 19 z a z20
  have u3 : adC G9 19 z a z20 150 3 = G9 150 3 := adC_o (by omega) (by omega)
  generalize adC G9 19 z a z20 = G10 at cv kd m2 u1 u2 u3 ⊢
  have m4 := m2.tr (kC_up (o := 114) (k := z20) (Or.inl (by decide)) G10 (G9 110 4))
  have ke : ∀ o k, ¬ (o = 114 ∧ k = z20) → up G10 114 z20 (G9 110 4) o k = G10 o k := fun o k h => by rw [up_ap, if_neg h]
  have kv : up G10 114 z20 (G9 110 4) 114 z20 = G9 110 4 := up_s _ _ _ _
  generalize up G10 114 z20 (G9 110 4) = G' at m4 ke kv ⊢
  have b1 := ke 150 2 (by omega)
  have b2 := ke 110 4 (by omega)
  have b3 := ke 150 3 (by omega)
  have pr : PR n f G' T' := p1.kb m4 (by rw [b1, u1, y2]) (by rw [b2, u2, y3]) (by rw [b3, u3, y4]) (c1.tr kk2) (by rw [a1, s12, c2]) m3 (by rw [a2, s14, c4]) (by rw [a3, s15, c5]) (by rw [a4, s16, c6]) (by omega) (by omega) (by omega) (by omega) rfl (by omega) (by omega) (by omega) (by omega) (by omega) (by omega) (by omega) (by omega) (by omega) (by omega)
  have gC : ∀ o k, 111 ≤ o → o ≤ 114 → ¬ (o = 114 ∧ k = z20) → 0 ≤ k → k < Gb 110 4 → G' o k = Gb o k := fun o k q1 q2 q3 q4 q5 => by rw [ke o k q3, kd o k q1 q2 (by omega), y5 o k q1 q2 q4 q5]
  have g7 : ∀ o k, 111 ≤ o → o ≤ 114 → ¬ (o = 114 ∧ k = z20) → 0 ≤ k → k < G7 110 4 → G' o k = G7 o k := fun o k q1 q2 q3 q4 q5 => by rw [gC o k q1 q2 q3 q4 (by omega), p14 o k q1 q2 q4 q5]
  have gv : G' 150 5 = Gb 150 5 := m4 _ _ (by simp [fS])
  have gi : G' 150 4 = Gb 150 4 := m4 _ _ (by simp [fS])
  refine ⟨G', T', rfl, eT, ⟨pr, by omega, by omega, by omega, ⟨?_, ?_⟩, ?_, ?_, by omega, by omega, by omega, by omega⟩, p3.tr gv gi a5 a6, ?_⟩
  · intro o k q1 q2 q3
    rw [t7 o k q1 (by omega) q2 (by omega), h7.1 o k q1 q2 q3]
  · intro o k q1 q2 q3
    rw [gT o k (by omega) (by omega) (by omega), p13.2 o k q1 q2 (by omega), h7.2 o k q1 q2 q3]
  · intro o k q1 q2 q3 q4
    rw [g7 o k q1 q2 (by omega) q3 (by omega), h10 o k q1 q2 q3 q4]
  · have wE := (w1.cg (G1 := G') (T1 := T')).2.2 (fun o k q1 q2 q3 q4 => g7 o k q1 q2 (by omega) (by omega) (by omega)) (fun o k q1 q2 q3 => t7 o k q1 (by omega) (by omega) (by omega))
    have wF := (w2.cg (G1 := G') (T1 := T')).2.2 (fun o k q1 q2 q3 q4 => g7 o k q1 q2 (by omega) (by omega) (by omega)) (fun o k q1 q2 q3 => t7 o k q1 (by omega) (by omega) (by omega))
    have wB := (p18.cg (G1 := G') (T1 := T')).2.2 (fun o k q1 q2 q3 q4 => gC o k q1 q2 (by omega) (by omega) (by omega)) (fun o k q1 q2 q3 => gT o k (by omega) (by omega) (by omega))
    obtain ⟨k9, hk9⟩ : ∃ k9, k9 = G7 110 4 - 2 := ⟨_, rfl⟩
    obtain ⟨d9, hd9⟩ : ∃ d9, d9 = T7 100 13 - 2 := ⟨_, rfl⟩
    rw [← hk9, ← hd9] at wF
    rw [show G7 110 4 + 1 = k9 + 3 by omega, show T7 100 13 = d9 + 2 by omega, h9, h4] at wB
    rw [b2, u2, y3, m3, a5, show Gb 110 4 + 1 + 1 = Gb 110 4 + 2 by omega]
    have pz : G' 112 (G 110 4 + 1) = z := by rw [g7 _ _ (by decide) (by decide) (by omega) (by omega) (by omega)]; exact r6
    have pp : G' 113 (G 110 4) = a := by rw [g7 _ _ (by decide) (by decide) (by omega) (by omega) (by omega)]; exact r2
    have e1 : G7 110 4 - 1 = k9 + 1 := by omega
    have e2 : T7 100 13 - 1 = d9 + 1 := by omega
    rw [← hk9] at r13
    rw [← hd9] at r14
    rw [e1] at r15 r16 r17
    rw [e2] at r18 r19 r20 v1 v2
    rw [hz, e1] at kv
    refine wf_for P W _ _ (G 110 4) z6 k9 (Gb 110 4) (T 100 13) k8 d9 (T1 100 13) _ _ _ 31 ?_ ?_ ?_ ?_ ?_ ?_ ?_ wE (Int.le_refl _) ?_ ?_ wF ?_ ?_ ?_ ?_ ?_ ?_ ?_ ?_ ?_ ?_ ?_ wB (by omega) (by omega) ?_ ?_ ?_ ?_ ?_ ?_
    · rw [g7 _ _ (by decide) (by decide) (by omega) (by omega) (by omega)]; exact r1
    · rw [t7 _ _ (by decide) (by omega) (by omega) (by omega)]; exact r3
    · rw [t7 _ _ (by decide) (by omega) (by omega) (by omega), r4, pp]
    · rw [g7 _ _ (by decide) (by decide) (by omega) (by omega) (by omega)]; exact r5
    · rw [t7 _ _ (by decide) (by omega) (by omega) (by omega)]; exact r8
    · rw [t7 _ _ (by decide) (by omega) (by omega) (by omega), r9, pz]
    · rw [t7 _ _ (by decide) (by omega) (by omega) (by omega), g7 _ _ (by decide) (by decide) (by omega) (by omega) (by omega), r10, r7]
    · rw [g7 _ _ (by decide) (by decide) (by omega) (by omega) (by omega)]; exact r11
    · rw [t7 _ _ (by decide) (by omega) (by omega) (by omega)]; exact r12
    · rw [g7 _ _ (by decide) (by decide) (by omega) (by omega) (by omega)]; exact r13
    · rw [t7 _ _ (by decide) (by omega) (by omega) (by omega)]; exact r14
    · rw [g7 _ _ (by decide) (by decide) (by omega) (by omega) (by omega)]; exact r15
    · rw [g7 _ _ (by decide) (by decide) (by omega) (by omega) (by omega), r16, pz]
    · rw [g7 _ _ (by decide) (by decide) (by omega) (by omega) (by omega), r17, pp]
    · rw [kv, y3]
    · rw [t7 _ _ (by decide) (by omega) (by omega) (by omega)]; exact r18
    · rw [t7 _ _ (by decide) (by omega) (by omega) (by omega), r19, pz]
    · rw [t7 _ _ (by decide) (by omega) (by omega) (by omega), r20, pp]
    · rw [k3 _ _ (by omega) (by omega)]; exact v2
    · rw [gC _ _ (by decide) (by decide) (by omega) (by omega) (by omega), show k9 + 2 = G7 110 4 by omega]; exact p15
    · rw [ke _ _ (by omega), kd _ _ (by decide) (by decide) (by omega)]; exact x2
    · rw [ke _ _ (by omega), ← y3]; exact cv.1
    · rw [ke _ _ (by omega), ← y3, cv.2.2.2, hz, e1]
    · rw [k3 _ _ (by omega) (by omega), k2 _ _ (by omega)]; exact v1.1
    · rw [k3 _ _ (by omega) (by omega), k2 _ _ (by omega)]; exact v1.2.1
    · exact v3.1
  · intro o k q1 q2 q3
    rw [gT o k (by omega) (by omega) (by omega), p12 o k q1 q2 (by omega), h8 o k q1]
