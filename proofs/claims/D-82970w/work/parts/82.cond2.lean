/-! PLAIN: conditions with an else: their ends -/
theorem bk_g {n : Int} {f : Int → Int} {P W kk idx b : Int} {G T Gb T1 G' : St} (h : BK n f P W kk idx G T Gb T1 G' b) : CS Gb G' (b + 1) (Gb 110 4 + 1) (G 150 3) ∧ G' 111 (Gb 110 4) = 21 := by
  obtain ⟨p1, p2, p3, ⟨p4, p5, p6⟩, p7, p8, p9, p10, p11, p12, p13, p14, p15, p16, p17, ⟨pr1, pr2⟩, p18, p19⟩ := h
  have s1 := ((CS_at Gb (b + 1)).ndeep (Int.le_refl _) (G 150 3)).nad (Int.le_refl _) 21 0 (b + 1) 0
  rw [← p19] at s1
  have z : up (up Gb 150 2 (b + 1)) 150 3 (G 150 3) 110 4 = Gb 110 4 := by rw [up_o _ (by decide), up_o _ (by decide)]
  have cv := adC_v (up (up Gb 150 2 (b + 1)) 150 3 (G 150 3)) 21 0 (b + 1) 0
  rw [z, ← p19] at cv
  exact ⟨s1, cv.1⟩
theorem cd_1 {n : Int} {f : Int → Int} {P W a z6 idx k d b : Int} {G T G11 T11 Gc T2 G12 : St} (hP : PR n f G T) (hE : EL n f P W a z6 idx k d G T G11 T11) (hB : BK n f P W 2 idx G11 T11 Gc T2 G12 b) (Rf : Nat → List Int → St → Option (Int × St)) :
    ∃ G' T', Rd_condition_b164 Rf a G12 = some (0, G') ∧ (bd (Tw_closeBlock P W T2) fun _ T' => Lp P W T') = KB P W T' ∧ OKZ n f P W G T G' T' := by
  obtain ⟨x1, x2⟩ := bk_g hB
  obtain ⟨h1, h2, h3, ⟨h4, h5, h6, h7⟩, h8, h9, h10, h11, h12, ⟨r1, r2, r3, r4⟩, ⟨r5, r6, r7, r8, r9, r10⟩, ⟨r11, r12, r13, r14⟩, ⟨r15, r16⟩, n1, n2, n3, n4⟩ := hE
  obtain ⟨p1, p2, p3, ⟨p4, p5, p6⟩, p7, p8, p9, p10, p11, p12, p13, p14, p15, p16, p17, ⟨pr1, pr2⟩, p18, p19⟩ := hB
  have N := hP.nums
  have N11 := h1.nums
  have N1 := p1.nums
  have lw := wf_le p18
  have lwE := wf_le h11
  have lwB := wf_le h12
  unfold SB at p2 h2
  have lt := lkF_lt p6 (by decide)
  obtain ⟨y1, y2, y3, y4, y5⟩ := x1
  have eT := cb_2 (P := P) (W := W) (T := T2) (b := b) (idx := idx) (by omega) (by omega) p5 (by omega) (by omega) (by omega) (by omega) (by rw [p9, show T11 100 26 + 1 - 1 = T11 100 26 by omega]; exact p10) (by rw [p9, show T11 100 26 + 1 - 1 = T11 100 26 by omega]; exact p11)
  obtain ⟨c1, c2, c3, c4, c5, c6, c7, c8, c9, c10, c11⟩ := cbT_s T2 b
  generalize cbT T2 b = X at c1 c2 c3 c4 c5 c6 c7 c8 c9 c10 c11 eT
  have z2 : X 117 idx = d := by rw [c7 _ _ (by decide), p13.1 _ _ (by decide) (by omega) (by omega)]; exact r10
  have kb := b215_e (P := P) (W := W) (T := X) (x := idx) (y := d) (by omega) (by omega) (by omega) (Or.inr ⟨z2, by omega, by omega⟩)
  rw [← eT] at kb
  obtain ⟨e1, e2, e3, e4, e5, e6, e7, e8, e9, e10, e11, e12⟩ := enT_s (T := X) idx (y := d) (by omega)
  generalize enT X idx d = T' at e1 e2 e3 e4 e5 e6 e7 e8 e9 e10 e11 e12 kb
  unfold Rd_condition_b164
  rw [Cd_add_e (by omega) (by omega) (by decide) (by decide), bd_some]
  have cv := adC_v G12 15 0 a 0
  have kd : ∀ o k, 111 ≤ o → o ≤ 114 → k < G12 110 4 → adC G12 15 0 a 0 o k = G12 o k := fun o k q1 q2 q3 => adC_o (by omega) (by omega)
  have m2 := y1.tr (kC_ad G12 15 0 a 0)
  have v1 : adC G12 15 0 a 0 150 2 = G12 150 2 := adC_o (by omega) (by omega)
  have v2 := adC_s G12 15 0 a 0
  have v3 : adC G12 15 0 a 0 150 3 = G12 150 3 := adC_o (by omega) (by omega)
  generalize adC G12 15 0 a 0 = G' at cv kd m2 v1 v2 v3 ⊢
  have pr : PR n f G' T' := p1.kb m2 (by rw [v1, y2]) (by rw [v2, y3]) (by rw [v3, y4]) (c1.tr e1) (by rw [e2, c2]) (by rw [e3, c3]) (by rw [e4, c4]) (by rw [e5, c5]) (by rw [e6, c6]) (by omega) (by omega) (by omega) (by omega) rfl (by omega) (by omega) (by omega) (by omega) (by omega) (by omega) (by omega) (by omega) (by omega) (by omega)
  have gC : ∀ o k, 111 ≤ o → o ≤ 114 → 0 ≤ k → k < Gc 110 4 → G' o k = Gc o k := fun o k q1 q2 q4 q5 => by rw [kd o k q1 q2 (by omega), y5 o k q1 q2 q4 q5]
  have g11 : ∀ o k, 111 ≤ o → o ≤ 114 → 0 ≤ k → k < G11 110 4 → G' o k = G11 o k := fun o k q1 q2 q4 q5 => by rw [gC o k q1 q2 q4 (by omega), p14 o k q1 q2 q4 q5]
  have gT : ∀ o k, 115 ≤ o → ¬ (o = 117 ∧ k = d) → k < T2 100 13 ∨ 119 < o → T' o k = T2 o k := fun o k q1 q2 q3 => by rw [e7 o k q1 q2 (by omega)]; exact c7 o k (by omega)
  have t11 : ∀ o k, (115 ≤ o ∧ o ≤ 119 ∨ o = 134) → ¬ (o = 117 ∧ k = d) → 0 ≤ k → k < T11 100 13 → T' o k = T11 o k := fun o k q1 q3 q4 q5 => by rw [gT o k (by omega) q3 (by omega), p13.1 o k q1 q4 q5]
  have gv : G' 150 5 = Gc 150 5 := m2 _ _ (by simp [fS])
  have gi : G' 150 4 = Gc 150 4 := m2 _ _ (by simp [fS])
  refine ⟨G', T', rfl, kb, ⟨pr, by omega, by omega, by omega, ⟨?_, ?_⟩, ?_, ?_, by omega, by omega, by omega, by omega⟩, p3.tr gv gi (by rw [e11, c8]) (by rw [e12, c9]), ?_⟩
  · intro o k q1 q2 q3
    rw [t11 o k q1 (by omega) q2 (by omega), h8.1 o k q1 q2 q3]
  · intro o k q1 q2 q3
    rw [gT o k (by omega) (by omega) (by omega), p13.2 o k q1 q2 (by omega), h8.2 o k q1 q2 q3]
  · intro o k q1 q2 q3 q4
    rw [g11 o k q1 q2 q3 (by omega), h10 o k q1 q2 q3 q4]
  · have wE := (h11.cg (G1 := G') (T1 := T')).2.2 (fun o k q1 q2 q3 q4 => g11 o k q1 q2 (by omega) (by omega)) (fun o k q1 q2 q3 => t11 o k q1 (by omega) (by omega) (by omega))
    have wB := (h12.cg (G1 := G') (T1 := T')).2.2 (fun o k q1 q2 q3 q4 => g11 o k q1 q2 (by omega) (by omega)) (fun o k q1 q2 q3 => t11 o k q1 (by omega) (by omega) (by omega))
    have wC := (p18.cg (G1 := G') (T1 := T')).2.2 (fun o k q1 q2 q3 q4 => gC o k q1 q2 (by omega) (by omega)) (fun o k q1 q2 q3 => gT o k (by omega) (by omega) (by omega))
    rw [r14, h4, r16, show k + 2 + 1 = k + 3 by omega] at wC
    rw [v2, y3, e3, c3, e11, c8, show Gc 110 4 + 1 + 1 = Gc 110 4 + 2 by omega]
    have pl : G' 113 (G 110 4) = a := by rw [g11 _ _ (by decide) (by decide) (by omega) (by omega)]; exact r2
    refine wf_if1 P W _ _ (G 110 4) z6 k (Gc 110 4) (T 100 13) idx d (T2 100 13) _ _ _ _ 31 ?_ ?_ ?_ wE (Int.le_refl _) ?_ ?_ ?_ ?_ ?_ ?_ ?_ wB (by omega) h7 ?_ ?_ ?_ wC ?_ ?_ ?_ ?_ ?_ ?_
    · rw [g11 _ _ (by decide) (by decide) (by omega) (by omega)]; exact r1
    · rw [t11 _ _ (by decide) (by omega) (by omega) (by omega)]; exact r3
    · rw [t11 _ _ (by decide) (by omega) (by omega) (by omega), r4, pl]
    · rw [g11 _ _ (by decide) (by decide) (by omega) (by omega)]; exact r5
    · rw [g11 _ _ (by decide) (by decide) (by omega) (by omega), r6, pl]
    · rw [g11 _ _ (by decide) (by decide) (by omega) (by omega)]; exact r7
    · rw [t11 _ _ (by decide) (by omega) (by omega) (by omega)]; exact r8
    · rw [t11 _ _ (by decide) (by omega) (by omega) (by omega), r9, pl]
    · rw [t11 _ _ (by decide) (by omega) (by omega) (by omega)]; exact r10
    · rw [g11 _ _ (by decide) (by decide) (by omega) (by omega)]; exact r11
    · rw [g11 _ _ (by decide) (by decide) (by omega) (by omega)]; exact r12
    · rw [g11 _ _ (by decide) (by decide) (by omega) (by omega)]; exact r13
    · rw [gC _ _ (by decide) (by decide) (by omega) (by omega), ← r14]; exact p15
    · rw [kd _ _ (by decide) (by decide) (by omega)]; exact x2
    · rw [← y3]; exact cv.1
    · rw [t11 _ _ (by decide) (by omega) (by omega) (by omega)]; exact r15
    · rw [e8, c3]
    · rw [← c3]; exact e9
    · rw [← c3]; exact e10
  · intro o k q1 q2 q3
    rw [gT o k (by omega) (by omega) (by omega), p12 o k q1 q2 (by omega), h9 o k q1 q2 q3]
theorem cd_2 {n : Int} {f : Int → Int} {P W a z6 idx k d e : Int} {G T G11 T11 Ga Ta G13 T13 : St} (hP : PR n f G T) (hE : EL n f P W a z6 idx k d G T G11 T11) (sGa : CS G11 Ga e (G11 110 4) (G 150 3 + 1)) (tM : Ta 100 13 = T11 100 13) (tW : Ta 100 20 = T11 100 20) (tB : Ta 100 26 = T 100 26 + 1) (tV : Ta 100 30 = T11 100 30) (tA : Ta 100 6 = e) (t12 : Ta 128 (T 100 26) = 12) (t13 : Ta 129 (T 100 26) = idx) (tR : ∀ o k, 115 ≤ o → o ≤ 127 ∨ o = 134 → Ta o k = T11 o k) (tK : bk T11 Ta (T 100 26)) (ge : G11 150 2 = e) (te : T11 100 6 = e) (hO : OKZ n f P W Ga Ta G13 T13) (Rf : Nat → List Int → St → Option (Int × St)) :
    ∃ G' T', (ckI ((G13 150 3) - 1) <| tk (up G13 150 3 ((G13 150 3) - 1)) fun G30 => Rd_condition_b164 Rf a G30) = some (0, G') ∧ KB P W T13 = KB P W T' ∧ OKZ n f P W G T G' T' := by
  obtain ⟨h1, h2, h3, ⟨h4, h5, h6, h7⟩, h8, h9, h10, h11, h12, ⟨r1, r2, r3, r4⟩, ⟨r5, r6, r7, r8, r9, r10⟩, ⟨r11, r12, r13, r14⟩, ⟨r15, r16⟩, n1, n2, n3, n4⟩ := hE
  obtain ⟨⟨o1, o2, o3, o4, o5, o6, o7, o8, o9, o10, o11⟩, vq, ob⟩ := hO
  have N := hP.nums
  have N11 := h1.nums
  have N13 := o1.nums
  have lw := wf_le o7
  have lwE := wf_le h11
  have lwB := wf_le h12
  obtain ⟨y1, y2, y3, y4, y5⟩ := sGa
  have tr11 : ∀ o k, (115 ≤ o ∧ o ≤ 119 ∨ o = 134) → 0 ≤ k → k < T11 100 13 → T13 o k = T11 o k := fun o k q1 q2 q3 => by rw [o5.1 o k q1 q2 (by omega)]; exact tR o k (by omega) (by omega)
  have b1 : T13 128 (T 100 26) = 12 := by rw [ob _ _ (by decide) (by omega) (by omega)]; exact t12
  have b2 : T13 129 (T 100 26) = idx := by rw [ob _ _ (by decide) (by omega) (by omega)]; exact t13
  have z2 : T13 117 idx = d := by rw [tr11 _ _ (by decide) (by omega) (by omega)]; exact r10
  have wB : T13 100 26 - 1 = T 100 26 := by omega
  have kb := kb_pop (P := P) (W := W) (T := T13) (x := idx) (y := d) (by omega) (by omega) (by omega) (by omega) (by rw [wB]; exact b1) (by rw [wB]; exact b2) (by omega) (by omega) (by omega) (Or.inr ⟨z2, by omega, by omega⟩)
  obtain ⟨c1, c2, c3, c4, c5, c6, c7, c8, c9⟩ := pbT_s T13
  generalize pbT T13 = X at c1 c2 c3 c4 c5 c6 c7 c8 c9 kb
  obtain ⟨e1, e2, e3, e4, e5, e6, e7, e8, e9, e10, e11, e12⟩ := enT_s (T := X) idx (y := d) (by omega)
  generalize enT X idx d = T' at e1 e2 e3 e4 e5 e6 e7 e8 e9 e10 e11 e12 kb
  unfold Rd_condition_b164
  have s1 := CS_deep G13 (G13 150 3 - 1)
  rw [ckI_p (by omega) (by omega), tk_e]
  generalize up G13 150 3 (G13 150 3 - 1) = G14 at s1 ⊢
  have z14 := s1.2.2.1
  rw [Cd_add_e (by omega) (by omega) (by decide) (by decide), bd_some]
  have s2 := s1.nad (Int.le_refl _) 15 0 a 0
  have cv := adC_v G14 15 0 a 0
  rw [z14] at cv
  generalize adC G14 15 0 a 0 = G' at s2 cv ⊢
  obtain ⟨w1, w2, w3, w4, w5⟩ := s2
  have pr : PR n f G' T' := o1.kb w1 w2 w3 w4 (c1.tr e1) (by rw [e2, c2]) (by rw [e3, c3]) (by rw [e4, c4]) (by rw [e5, c5]) (by rw [e6, c6]) (by omega) (by omega) (by omega) (by omega) N13.1.2.2.2.2 (by omega) (by omega) (by omega) (by omega) (by omega) (by omega) (by omega) (by omega) (by omega) (by omega)
  have g11 : ∀ o k, 111 ≤ o → o ≤ 114 → 0 ≤ k → k < G11 110 4 → G' o k = G11 o k := fun o k q1 q2 q4 q5 => by rw [w5 o k q1 q2 q4 (by omega), o6 o k q1 q2 q4 (by omega), y5 o k q1 q2 q4 q5]
  have gT : ∀ o k, 115 ≤ o → ¬ (o = 117 ∧ k = d) → k < T13 100 13 ∨ 119 < o → T' o k = T13 o k := fun o k q1 q2 q3 => by rw [e7 o k q1 q2 (by omega)]; exact c7 o k (by omega)
  have t11 : ∀ o k, (115 ≤ o ∧ o ≤ 119 ∨ o = 134) → ¬ (o = 117 ∧ k = d) → 0 ≤ k → k < T11 100 13 → T' o k = T11 o k := fun o k q1 q3 q4 q5 => by rw [gT o k (by omega) q3 (by omega), tr11 o k q1 q4 q5]
  have gv : G' 150 5 = G13 150 5 := w1 _ _ (by simp [fS])
  have gi : G' 150 4 = G13 150 4 := w1 _ _ (by simp [fS])
  refine ⟨G', T', rfl, kb, ⟨pr, by omega, by omega, by omega, ⟨?_, ?_⟩, ?_, ?_, by omega, by omega, by omega, by omega⟩, vq.tr gv gi (by rw [e11, c8]) (by rw [e12, c9]), ?_⟩
  · intro o k q1 q2 q3
    rw [t11 o k q1 (by omega) q2 (by omega), h8.1 o k q1 q2 q3]
  · intro o k q1 q2 q3
    rw [gT o k (by omega) (by omega) (by omega), o5.2 o k q1 q2 (by omega), tR o k (by omega) (by omega), h8.2 o k q1 q2 q3]
  · intro o k q1 q2 q3 q4
    rw [g11 o k q1 q2 q3 (by omega), h10 o k q1 q2 q3 q4]
  · have wE := (h11.cg (G1 := G') (T1 := T')).2.2 (fun o k q1 q2 q3 q4 => g11 o k q1 q2 (by omega) (by omega)) (fun o k q1 q2 q3 => t11 o k q1 (by omega) (by omega) (by omega))
    have wBl := (h12.cg (G1 := G') (T1 := T')).2.2 (fun o k q1 q2 q3 q4 => g11 o k q1 q2 (by omega) (by omega)) (fun o k q1 q2 q3 => t11 o k q1 (by omega) (by omega) (by omega))
    have wC := (o7.cg (G1 := G') (T1 := T')).2.2 (w5.mono (by omega) (by omega)) (fun o k q1 q2 q3 => gT o k (by omega) (by omega) (by omega))
    rw [y3, r14, tM, r16, tV, y4] at wC
    rw [w3, e3, c3, e11, c8]
    have pl : G' 113 (G 110 4) = a := by rw [g11 _ _ (by decide) (by decide) (by omega) (by omega)]; exact r2
    refine wf_if2 P W _ _ (G 110 4) z6 k (G13 110 4) (T 100 13) idx d (T13 100 13) _ _ _ _ 31 ?_ ?_ ?_ wE (Int.le_refl _) ?_ ?_ ?_ ?_ ?_ ?_ ?_ wBl (by omega) h7 ?_ ?_ wC ?_ ?_ ?_ ?_ ?_
    · rw [g11 _ _ (by decide) (by decide) (by omega) (by omega)]; exact r1
    · rw [t11 _ _ (by decide) (by omega) (by omega) (by omega)]; exact r3
    · rw [t11 _ _ (by decide) (by omega) (by omega) (by omega), r4, pl]
    · rw [g11 _ _ (by decide) (by decide) (by omega) (by omega)]; exact r5
    · rw [g11 _ _ (by decide) (by decide) (by omega) (by omega), r6, pl]
    · rw [g11 _ _ (by decide) (by decide) (by omega) (by omega)]; exact r7
    · rw [t11 _ _ (by decide) (by omega) (by omega) (by omega)]; exact r8
    · rw [t11 _ _ (by decide) (by omega) (by omega) (by omega), r9, pl]
    · rw [t11 _ _ (by decide) (by omega) (by omega) (by omega)]; exact r10
    · rw [g11 _ _ (by decide) (by decide) (by omega) (by omega)]; exact r11
    · rw [g11 _ _ (by decide) (by decide) (by omega) (by omega)]; exact r12
    · rw [g11 _ _ (by decide) (by decide) (by omega) (by omega)]; exact r13
    · exact cv.1
    · rw [t11 _ _ (by decide) (by omega) (by omega) (by omega)]; exact r15
    · rw [e8, c3]
    · rw [← c3]; exact e9
    · rw [← c3]; exact e10
  · intro o k q1 q2 q3
    rw [gT o k (by omega) (by omega) (by omega), ob o k q1 q2 (by omega), tK o k q1 q2 q3, h9 o k q1 q2 q3]
