/-! PLAIN: conditions with an else -/
/-- behind the word else -/
def EL (n : Int) (f : Int → Int) (P W a z6 idx k d : Int) (G T G11 T11 : St) : Prop :=
  PR n f G11 T11 ∧ SB G11 T11 ∧ VQ G11 T11 ∧ (G11 150 3 = G 150 3 ∧ T11 100 20 = T 100 20 ∧ T11 100 26 = T 100 26 ∧ G 150 3 + 1 ≤ 30) ∧ tb T T11 ∧ bk T T11 (T 100 26) ∧ agC G G11 0 (G 110 4) ∧
  WF P W G11 T11 0 (G 110 4 + 1) z6 (T 100 13 + 1) idx 0 0 31 ∧ WF P W G11 T11 3 (z6 + 2) k (idx + 1) d (T 100 30) (T11 100 30) (G 150 3 + 1) ∧
  (G11 111 (G 110 4) = 6 ∧ G11 113 (G 110 4) = a ∧ T11 115 (T 100 13) = 20 ∧ T11 118 (T 100 13) = a) ∧ (G11 111 z6 = 13 ∧ G11 113 z6 = a ∧ G11 114 z6 = k + 1 ∧ T11 115 idx = 35 ∧ T11 118 idx = a ∧ T11 117 idx = d) ∧ (G11 111 (z6 + 1) = 20 ∧ G11 111 k = 21 ∧ G11 111 (k + 1) = 14 ∧ G11 110 4 = k + 2) ∧ (T11 115 d = 36 ∧ T11 100 13 = d + 1) ∧
  (G 150 2 + 4 ≤ G11 150 2 ∧ T 100 6 + 4 ≤ T11 100 6 ∧ G11 110 4 + 2 * G 150 2 + 6 ≤ G 110 4 + 2 * G11 150 2 ∧ T11 100 13 + 4 * T 100 6 + 8 ≤ T 100 13 + 4 * T11 100 6)
theorem el_nx {n : Int} {f : Int → Int} {P W a z6 b c e : Int} {G T G7 T7 Gb T1 G9 : St} (hP : PR n f G T) (hH : HD n f P W a z6 G T G7 T7) (hB : BK n f P W 1 (T7 100 13 - 1) G7 T7 Gb T1 G9 b) (hc : sk n f (b + 1) = c) (hw : iw n f c 7 = 1) (he : sk n f (c + 4) = e) (Rf : Nat → List Int → St → Option (Int × St)) :
    ∃ G11 T11, EL n f P W a z6 (T7 100 13 - 1) (Gb 110 4) (T1 100 13) G T G11 T11 ∧ G11 150 2 = e ∧ T11 100 6 = e ∧ e ≤ n ∧
      Rd_condition_b79 Rf a z6 1 (skC n f G9) = (if iw n f e 6 = 0 then (bd (Rf 1 [] G11) fun _ G25 => Rd_condition_b164 Rf a G25) else (bd (Rd_enter e G11) fun _ G27 => bd (Rf 2 [] G27) fun _ G29 => ckI ((G29 150 3) - 1) <| tk (up G29 150 3 ((G29 150 3) - 1)) fun G30 => Rd_condition_b164 Rf a G30)) ∧
      Tw_closeBlock P W T1 = (if iw n f e 6 = 0 then (bd (Tw_openBlock 2 (T7 100 13 - 1) T11) fun _ G23 => some (0, G23)) else (bd (Tw_deeper e T11) fun _ G25 => ckB (G25 100 26) 70 <| tk (up G25 128 (G25 100 26) 12) fun G26 => ckB (G26 100 26) 70 <| tk (up G26 129 (G26 100 26) (T7 100 13 - 1)) fun G27 => ckI ((G27 100 26) + 1) <| tk (up G27 100 26 ((G27 100 26) + 1)) fun G28 => bd (Tw_ifStatement P W (G28 100 6) G28) fun _ G30 => some (0, G30))) := by
  obtain ⟨h1, h2, h3, h4, h5, h6, h7, h8, h9, h10, ⟨h11, h12⟩, ⟨h13, h14⟩, h15, ⟨h16, h17, h18⟩, ⟨h19, h20, h21⟩, h22, h23, h24, h25⟩ := hH
  obtain ⟨x1, x2, x3, x4, x5, x6, x7, x8⟩ := bk_nx h1 hB hc
  obtain ⟨p1, p2, p3, ⟨p4, p5, p6⟩, p7, p8, p9, p10, p11, p12, p13, p14, p15, p16, p17, ⟨pr1, pr2⟩, p18, p19⟩ := hB
  have N := hP.nums
  have N7 := h1.nums
  have N1 := p1.nums
  have lw := wf_le p18
  have lw0 := wf_le h15
  unfold SB at p2 h2
  have il := iw_lt hw (by decide)
  have sl : swl 7 = 4 := by decide
  have wl := we_le (f := f) x5
  have g := sk_ge n f (c + 4)
  have g2 := sk_le (n := n) (f := f) (a := c + 4) (by omega)
  rw [he] at g g2
  -- the twin
  obtain ⟨c1, c2, c3, c4, c5, c6, c7, c8, c9, c10, c11⟩ := cbT_s T1 b
  have eT := cb_1 (P := P) (W := W) (T := T1) (b := b) (idx := T7 100 13 - 1) (by omega) (by omega) p5 (by omega) (by omega) (by omega) (by omega) (by rw [p9, show T7 100 26 + 1 - 1 = T7 100 26 by omega]; exact p10) (by rw [p9, show T7 100 26 + 1 - 1 = T7 100 26 by omega]; exact p11)
  have tX : TT n f (cbT T1 b) := p1.1.2.1.cg c11 (funext fun k => c7 _ _ (by decide))
  rw [Tw_gap_e tX (by omega) (by omega), bd_some, c2, hc] at eT
  have ta : ∀ o k, o ≠ 100 → up (cbT T1 b) 100 6 c o k = T1 o k := fun o k h => by rw [up_o _ h]; exact c7 o k h
  have tk : ∀ k, k ≠ 6 → up (cbT T1 b) 100 6 c 100 k = cbT T1 b 100 k := fun k h => up_k _ h
  have t7 : up (cbT T1 b) 100 6 c 100 6 = c := up_s _ _ _ _
  generalize up (cbT T1 b) 100 6 c = T10 at x3 eT ta tk t7
  generalize cbT T1 b = X at c1 c2 c3 c4 c5 c6 c7 c8 c9 c10 c11 tX tk
  have N10 := x3.nums
  rw [Tw_isWord_e x3.1.2.1 (by omega) (by omega) 7 (by decide) (by decide), bd_some, t7, hw, if_neg (show ¬ (1 : Int) = 0 by decide), ckI_p (by omega) (by omega), tk_e] at eT
  have t1 := tk 13 (by decide)
  have t2 := tk 19 (by decide)
  have t3 := tk 20 (by decide)
  have t4 := tk 26 (by decide)
  have t5 := tk 30 (by decide)
  have t6 := tk 29 (by decide)
  have s1 := TS_at T10 (c + 4)
  have ka : ∀ o k, o ≠ 100 → up T10 100 6 (c + 4) o k = T1 o k := fun o k h => by rw [up_o _ h]; exact ta o k h
  generalize up T10 100 6 (c + 4) = T10' at s1 ka eT
  have mm := s1.2.2.1
  rw [ckB_p (by omega) (by omega), Tw_put_e (by omega) (by omega), bd_some] at eT
  generalize hpl : T10' 118 (T7 100 13 - 1) = pl at eT
  have s2 := s1.nad (Int.le_refl _) (Int.le_refl _) 36 (T7 100 13 - 1) 0 pl
  have v2 := adT_v T10' 36 (T7 100 13 - 1) 0 pl
  have kb : ∀ o k, 115 ≤ o → k < T1 100 13 ∨ 119 < o → adT T10' 36 (T7 100 13 - 1) 0 pl o k = T1 o k := fun o k q1 q2 => by rw [adT_o (by omega) (by omega)]; exact ka o k (by omega)
  rw [mm, t1, c3] at v2 eT
  generalize adT T10' 36 (T7 100 13 - 1) 0 pl = T12 at s2 v2 kb eT
  rw [ckB_p (by omega) (by omega), tk_e] at eT
  obtain ⟨w1, w2, w3, w4, w5, w6, w7⟩ := s2
  have kk := w1.tr (kT_up (o := 117) (k := T7 100 13 - 1) (Or.inl (by decide)) T12 (T1 100 13))
  have kc : ∀ o k, ¬ (o = 117 ∧ k = T7 100 13 - 1) → up T12 117 (T7 100 13 - 1) (T1 100 13) o k = T12 o k := fun o k h => by rw [up_ap, if_neg h]
  have kv : up T12 117 (T7 100 13 - 1) (T1 100 13) 117 (T7 100 13 - 1) = T1 100 13 := up_s _ _ _ _
  generalize up T12 117 (T7 100 13 - 1) (T1 100 13) = T13 at kk kc kv eT
  have tt13 : TT n f T13 := x3.1.2.1.cg (kk _ _ (by simp [fS])) (funext fun k => kk _ _ (by simp [fS]))
  have a13 : T13 100 6 = c + 4 := by rw [kc _ _ (by omega)]; exact w2
  rw [Tw_gap_e tt13 (by omega) (by omega), bd_some, a13, he] at eT
  have kk2 := kk.tr (kT_up (o := 100) (k := 6) (Or.inr (by decide)) T13 e)
  have kd : ∀ o k, o ≠ 100 → up T13 100 6 e o k = T13 o k := fun o k h => up_o _ h
  have ke : ∀ k, k ≠ 6 → up T13 100 6 e 100 k = T12 100 k := fun k h => by rw [up_k _ h]; exact kc _ _ (by omega)
  have a14 : up T13 100 6 e 100 6 = e := up_s _ _ _ _
  generalize up T13 100 6 e = T11 at kk2 kd ke a14 eT
  have tt14 : TT n f T11 := x3.1.2.1.cg (kk2 _ _ (by simp [fS])) (funext fun k => kk2 _ _ (by simp [fS]))
  rw [Tw_isWord_e tt14 (by omega) (by omega) 6 (by decide) (by decide), bd_some, a14] at eT
  have m11 : T11 100 13 = T1 100 13 + 1 := by rw [ke _ (by decide), w3]; omega
  have d11 : T11 100 19 = G 150 3 := by rw [ke _ (by decide), w4]; omega
  have ww11 : T11 100 20 = T 100 20 := by rw [ke _ (by decide), w5]; omega
  have bb11 : T11 100 26 = T 100 26 := by rw [ke _ (by decide), w6]; omega
  have vr11 : T11 100 30 = T1 100 30 := by rw [kk2 _ _ (by simp [fS]), t5, c8]
  have vi11 : T11 100 29 = T1 100 29 := by rw [kk2 _ _ (by simp [fS]), t6, c9]
  have gT : ∀ o k, 115 ≤ o → ¬ (o = 117 ∧ k = T7 100 13 - 1) → k < T1 100 13 ∨ 119 < o → T11 o k = T1 o k := fun o k q1 q2 q3 => by rw [kd o k (by omega), kc o k q2, kb o k q1 q3]
  have t7' : ∀ o k, 115 ≤ o → o ≤ 119 → ¬ (o = 117 ∧ k = T7 100 13 - 1) → 0 ≤ k → k < T7 100 13 → T11 o k = T7 o k := fun o k q1 q2 q3 q4 q5 => by rw [gT o k q1 q3 (by omega), p13.1 o k (by omega) q4 q5]
  -- the component
  have FC := cs_F p1 x1
  generalize skC n f G9 = G10 at x1 x2 x3 FC ⊢
  obtain ⟨y1, y2, y3, y4, y5⟩ := x1
  have eC : Rd_condition_b79 Rf a z6 1 G10 = Rd_condition_b79 Rf a z6 1 G10 := rfl
  conv at eC => rhs; unfold Rd_condition_b79
  rw [Cd_add_e (by omega) (by omega) (by decide) (by decide), bd_some, ckB_p (by omega) (by omega), tk_e, if_neg (show ¬ (1 : Int) = 0 by decide)] at eC
  have r1 := CS_ad G10 14 0 a 0
  have cv1 := adC_v G10 14 0 a 0
  have ga : ∀ o k, 111 ≤ o → o ≤ 114 → k < G10 110 4 → adC G10 14 0 a 0 o k = G10 o k := fun o k q1 q2 q3 => adC_o (by omega) (by omega)
  generalize adC G10 14 0 a 0 = G12 at r1 cv1 ga eC
  obtain ⟨z1, z2, z3, z4, z5⟩ := r1
  have l1 := z1.tr (kC_up (o := 114) (k := z6) (Or.inl (by decide)) G12 (G10 110 4))
  have gb : ∀ o k, ¬ (o = 114 ∧ k = z6) → up G12 114 z6 (G10 110 4) o k = G12 o k := fun o k h => by rw [up_ap, if_neg h]
  have gv : up G12 114 z6 (G10 110 4) 114 z6 = G10 110 4 := up_s _ _ _ _
  generalize up G12 114 z6 (G10 110 4) = G13 at l1 gb gv eC
  have u1 := gb 150 2 (by omega)
  rw [u1, z2, y2, ckI_p (by omega) (by omega), tk_e] at eC
  have l2 := l1.tr (kC_up (o := 150) (k := 2) (Or.inr (by decide)) G13 (c + 4))
  have gc : ∀ o k, ¬ (o = 150 ∧ k = 2) → up G13 150 2 (c + 4) o k = G13 o k := fun o k h => by rw [up_ap, if_neg h]
  have ac : up G13 150 2 (c + 4) 150 2 = c + 4 := up_s _ _ _ _
  generalize up G13 150 2 (c + 4) = G14 at l2 gc ac eC
  have ct14 : CT n f G14 := FC.2.cg (l2 _ _ (by simp [fS])) (funext fun k => l2 _ _ (by simp [fS]))
  rw [Rd_skip_e ct14 (by omega), bd_some, ac, he] at eC
  have l3 := l2.tr (kC_up (o := 150) (k := 2) (Or.inr (by decide)) G14 e)
  have gd : ∀ o k, ¬ (o = 150 ∧ k = 2) → up G14 150 2 e o k = G13 o k := fun o k h => by rw [up_ap, if_neg h]; exact gc o k h
  have ae : up G14 150 2 e 150 2 = e := up_s _ _ _ _
  generalize up G14 150 2 e = G11 at l3 gd ae eC
  have ct15 : CT n f G11 := FC.2.cg (l3 _ _ (by simp [fS])) (funext fun k => l3 _ _ (by simp [fS]))
  rw [Rd_isWord_e ct15 (by omega) (by omega) 6 (by decide) (by decide), bd_some, ae] at eC
  have sz11 : G11 110 4 = Gb 110 4 + 2 := by rw [gd _ _ (by omega), gb _ _ (by omega), z3, y3]; omega
  have dp11 : G11 150 3 = G 150 3 := by rw [gd _ _ (by omega), gb _ _ (by omega), z4, y4, h4]
  have pr : PR n f G11 T11 := x3.kb l3 ae sz11 dp11 kk2 a14 m11 d11 ww11 bb11 (by omega) (by omega) (by omega) (by omega) rfl rfl (by omega) (by omega) (by omega) (by omega) (by omega) (by omega) (by omega) (by omega) (by omega)
  have gG : ∀ o k, 111 ≤ o → o ≤ 114 → ¬ (o = 114 ∧ k = z6) → 0 ≤ k → k < Gb 110 4 + 1 → G11 o k = G10 o k := fun o k q1 q2 q3 q4 q5 => by rw [gd o k (by omega), gb o k q3, ga o k q1 q2 (by omega)]
  have gB : ∀ o k, 111 ≤ o → o ≤ 114 → ¬ (o = 114 ∧ k = z6) → 0 ≤ k → k < Gb 110 4 → G11 o k = Gb o k := fun o k q1 q2 q3 q4 q5 => by rw [gG o k q1 q2 q3 q4 (by omega), y5 o k q1 q2 q4 q5]
  have g7 : ∀ o k, 111 ≤ o → o ≤ 114 → ¬ (o = 114 ∧ k = z6) → 0 ≤ k → k < G7 110 4 → G11 o k = G7 o k := fun o k q1 q2 q3 q4 q5 => by rw [gB o k q1 q2 q3 q4 (by omega), p14 o k q1 q2 q4 q5]
  have grv : G11 150 5 = Gb 150 5 := by rw [l3 _ _ (by simp [fS]), y1 _ _ (by simp [fS])]
  have gri : G11 150 4 = Gb 150 4 := by rw [l3 _ _ (by simp [fS]), y1 _ _ (by simp [fS])]
  refine ⟨G11, T11, ⟨pr, ⟨by omega, by omega⟩, p3.tr grv gri vr11 vi11, ⟨dp11, ww11, bb11, by omega⟩, ⟨?_, ?_⟩, ?_, ?_, ?_, ?_, ⟨?_, ?_, ?_, ?_⟩, ⟨?_, ?_, ?_, ?_, ?_, ?_⟩, ⟨?_, ?_, ?_, sz11⟩, ⟨?_, m11⟩, by omega, by omega, by omega, by omega⟩, ae, a14, g2, eC, eT⟩
  · intro o k q1 q2 q3
    rw [gT o k (by omega) (by omega) (by omega), p13.1 o k q1 q2 (by omega), h7.1 o k q1 q2 q3]
  · intro o k q1 q2 q3
    rw [gT o k (by omega) (by omega) (by omega), p13.2 o k q1 q2 (by omega), h7.2 o k q1 q2 q3]
  · intro o k q1 q2 q3
    rw [gT o k (by omega) (by omega) (by omega), p12 o k q1 q2 (by omega), h8 o k q1]
  · intro o k q1 q2 q3 q4
    rw [g7 o k q1 q2 (by omega) q3 (by omega), h10 o k q1 q2 q3 q4]
  · exact (h15.cg (G1 := G11) (T1 := T11)).2.2 (fun o k q1 q2 q3 q4 => g7 o k q1 q2 (by omega) (by omega) (by omega)) (fun o k q1 q2 q3 => by
      by_cases q : o = 134
      · subst q
        rw [gT _ _ (by decide) (by omega) (by omega), p13.1 _ _ (by decide) (by omega) (by omega)]
      · exact t7' o k (by omega) (by omega) (by omega) (by omega) (by omega))
  · have wB := (p18.cg (G1 := G11) (T1 := T11)).2.2 (fun o k q1 q2 q3 q4 => gB o k q1 q2 (by omega) (by omega) (by omega)) (fun o k q1 q2 q3 => gT o k (by omega) (by omega) (by omega))
    rw [h9, h4, h18, show z6 + 1 + 1 = z6 + 2 by omega] at wB
    rw [show T7 100 13 - 1 + 1 = T7 100 13 by omega, vr11]
    exact wB
  · rw [g7 _ _ (by decide) (by decide) (by omega) (by omega) (by omega)]; exact h11
  · rw [g7 _ _ (by decide) (by decide) (by omega) (by omega) (by omega)]; exact h12
  · rw [t7' _ _ (by decide) (by decide) (by omega) (by omega) (by omega)]; exact h13
  · rw [t7' _ _ (by decide) (by decide) (by omega) (by omega) (by omega)]; exact h14
  · rw [g7 _ _ (by decide) (by decide) (by omega) (by omega) (by omega)]; exact h16
  · rw [g7 _ _ (by decide) (by decide) (by omega) (by omega) (by omega)]; exact h17
  · rw [gd _ _ (by omega), gv, y3]
  · rw [t7' _ _ (by decide) (by decide) (by omega) (by omega) (by omega)]; exact h19
  · rw [t7' _ _ (by decide) (by decide) (by omega) (by omega) (by omega)]; exact h20
  · rw [kd _ _ (by decide)]; exact kv
  · rw [gB _ _ (by decide) (by decide) (by omega) (by omega) (by omega), ← h18]; exact p15
  · rw [gG _ _ (by decide) (by decide) (by omega) (by omega) (by omega)]; exact x2
  · rw [gd _ _ (by omega), gb _ _ (by omega), ← y3]; exact cv1.1
  · rw [kd _ _ (by decide), kc _ _ (by omega)]; exact v2.1
