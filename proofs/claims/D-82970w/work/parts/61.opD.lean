/-! PLAIN: operands: numbers, names, elements -/
theorem fx_ad {w p : Int} {T : St} (h : FX w p T) (k u v q : Int) : FX w p (adT T k u v q) := ⟨by rw [adT_o (by omega) (by omega)]; exact h.1, by rw [adT_o (by omega) (by omega)]; exact h.2.1, h.2.2⟩
theorem op_num {n : Int} {f : Int → Int} {P W base k a : Int} {G T : St} (hP : PR n f G T) (h0 : 0 ≤ base) (hk : 2 ≤ k) (ea : G 150 2 = a) (et : T 100 6 = a) (hsk : sk n f a = a)
    (hto : Tw_takeOperand P W T = (bd (Tw_number 0 4294967295 T) fun _ G81 => bd (Tw_put 1 0 0 a G81) fun _ G83 => bd (Tw_put 2 0 0 a G83) fun z84 G85 => ckB z84 12000 <| tk (up G85 119 z84 (j_lan (G85 100 12) (2 ^ W.toNat - 1))) fun G86 => ckB 1 2 (some (1, G86)))) :
    OpOK n f P W base k G T (bd (Rd_number 0 4294967295 G) fun z44 G45 => bd (Cd_add 22 z44 a 0 G45) fun _ G47 => some (0, G47)) := by
  have N := hP.nums
  obtain ⟨z, G', T', e1, e2, R⟩ := P_number 0 4294967295 (Int.le_refl _) hP
  rw [e1, bd_some]
  rw [e2, bd_some] at hto
  rcases R with ⟨r1, r2, r3, r4, r5, r6, r7, r8⟩ | ⟨w, p, fg, fx⟩
  · rw [ea, hsk] at r1 r7 r8
    have sG : CS G G' (dgE f n a) (G 110 4) (G 150 3) := by
      rw [r7]
      exact ((CS_sk n f G).nplace (Int.le_refl _) a).nat (Int.le_refl _) _
    have sT : TS T T' (dgE f n a) (T 100 13) (T 100 19) (T 100 20) := by
      rw [r8]
      exact (TS_num T (T' 100 12)).nat (Int.le_refl _) (Int.le_refl _) _
    obtain ⟨u, hu⟩ : ∃ u, u = T' 100 12 := ⟨_, rfl⟩
    rw [← hu] at r3 r4 r5 r6
    have N' := r2.nums
    have cc := sG.2.2.1
    have tt := sT.2.2.1
    have ca := sG.2.1
    have ta := sT.2.1
    rw [Cd_add_e (by omega) (by omega) (by decide) (by decide), bd_some]
    have c1 := sG.nad (Int.le_refl _) 22 z a 0
    have cv := adC_v G' 22 z a 0
    rw [cc] at cv
    generalize adC G' 22 z a 0 = G1 at c1 cv ⊢
    rw [Tw_put_e (by omega) (by omega), bd_some] at hto
    have t1 := sT.nad (Int.le_refl _) (Int.le_refl _) 1 0 0 a
    have v1 := adT_v T' 1 0 0 a
    have n1 : adT T' 1 0 0 a 100 12 = u := by rw [adT_o (by omega) (by omega), hu]
    rw [tt] at v1
    generalize adT T' 1 0 0 a = X1 at t1 v1 n1 hto
    have m1 := t1.2.2.1
    rw [Tw_put_e (by omega) (by omega), bd_some] at hto
    have t2 := t1.nad (by omega) (Int.le_refl _) 2 0 0 a
    have v2 := adT_v X1 2 0 0 a
    have n2 : adT X1 2 0 0 a 100 12 = u := by rw [adT_o (by omega) (by omega)]; exact n1
    have v1' : adT X1 2 0 0 a 115 (T 100 13) = 1 := by rw [adT_o (by omega) (by omega)]; exact v1.1
    rw [m1] at v2
    generalize adT X1 2 0 0 a = X2 at t2 v2 n2 v1' hto
    rw [m1, n2, ckB_p (by omega) (by omega), tk_e, ckB_p (by decide) (by decide)] at hto
    have t3 := t2.wr (o := 119) (k := T 100 13 + 1) (j_lan u (2 ^ W.toNat - 1)) (by decide) (by omega)
    have u1 : up X2 119 (T 100 13 + 1) (j_lan u (2 ^ W.toNat - 1)) 115 (T 100 13) = 1 := by rw [up_o _ (by decide)]; exact v1'
    have u2 : up X2 119 (T 100 13 + 1) (j_lan u (2 ^ W.toNat - 1)) 115 (T 100 13 + 1) = 2 := by rw [up_o _ (by decide)]; exact v2.1
    have u3 : up X2 119 (T 100 13 + 1) (j_lan u (2 ^ W.toNat - 1)) 118 (T 100 13 + 1) = a := by rw [up_o _ (by decide)]; exact v2.2.2.2
    have u4 : up X2 119 (T 100 13 + 1) (j_lan u (2 ^ W.toNat - 1)) 119 (T 100 13 + 1) = j_lan u (2 ^ W.toNat - 1) := up_s _ _ _ _
    generalize up X2 119 (T 100 13 + 1) (j_lan u (2 ^ W.toNat - 1)) = X3 at t3 u1 u2 u3 u4 hto
    have lx := Lx_t1 (base := base) N.2.2.2.2.2.2 hto (by have := t3.2.2.2.2.1; omega)
    rw [show T 100 13 + 1 + 1 = T 100 13 + 2 by omega] at t3
    refine ⟨G1, rfl, Or.inr ⟨X3, lx, leaf_ok (s := 0) hP c1 t3 (by omega) (by omega) (by omega) ?_ ?_⟩⟩
    · exact wf_num P W _ _ _ _ u _ cv.1 r4 r6 (by rw [cv.2.1, r3]) u1 u2 (by rw [u3, cv.2.2.1]) u4
    · rw [u2]; decide
  · rw [FG_add_e fg (by omega) z a 0 (by decide) (by decide), bd_some]
    have fr := fr_Tw_number 0 4294967295 T (0, T') e2
    have tm : T' 100 13 = T 100 13 := fr _ _ (by simp [fS])
    have tw : T' 100 20 = T 100 20 := fr _ _ (by simp [fS])
    have td : T' 100 19 = T 100 19 := fr _ _ (by simp [fS])
    clear fr
    rw [Tw_put_e (by omega) (by omega), bd_some] at hto
    have t1 := TS_ad T' 1 0 0 a
    have f1 := fx_ad fx 1 0 0 a
    generalize adT T' 1 0 0 a = X1 at t1 f1 hto
    have m1 := t1.2.2.1
    rw [Tw_put_e (by omega) (by omega), bd_some] at hto
    have t2 := TS_ad X1 2 0 0 a
    have f2 := fx_ad f1 2 0 0 a
    generalize adT X1 2 0 0 a = X2 at t2 f2 hto
    rw [m1, ckB_p (by omega) (by omega), tk_e, ckB_p (by decide) (by decide)] at hto
    have t3 := t2.wr (o := 119) (k := X1 100 13) (j_lan (X2 100 12) (2 ^ W.toNat - 1)) (by decide) (Int.le_refl _)
    rw [m1] at t3
    have f3 : FX w p (up X2 119 (T' 100 13 + 1) (j_lan (X2 100 12) (2 ^ W.toNat - 1))) := ⟨by rw [up_o _ (by decide)]; exact f2.1, by rw [up_o _ (by decide)]; exact f2.2.1, f2.2.2⟩
    generalize up X2 119 (T' 100 13 + 1) (j_lan (X2 100 12) (2 ^ W.toNat - 1)) = X3 at t3 f3 hto
    obtain ⟨c1, c2, c3, c4, c5, c6, c7⟩ := t1
    obtain ⟨d1, d2, d3, d4, d5, d6, d7⟩ := t3
    obtain ⟨T2, ks, fx2⟩ := KS_fx (P := P) (W := W) h0 f3 (by omega) (by omega) (by omega) (by omega) (by omega) (by omega)
    have lx := Lx_t1 (base := base) N.2.2.2.2.2.2 hto (by omega)
    exact ⟨_, rfl, Or.inl ⟨w, p, T2, (FG_add fg _ _ _ _).mono (by omega), by rw [lx, ks], fx2⟩⟩
theorem OKX.pre {n : Int} {f : Int → Int} {P W : Int} {G T G' T' Gx Tx : St} (h : OKX n f P W G' T' Gx Tx) (c1 : G' 110 4 = G 110 4) (c2 : G' 150 3 = G 150 3) (c3 : ∀ o k, 111 ≤ o → o ≤ 114 → G' o k = G o k) (t1 : T' 100 13 = T 100 13) (t2 : T' 100 20 = T 100 20) (t3 : T' 100 26 = T 100 26) (t4 : ∀ o k, 115 ≤ o → T' o k = T o k) (a1 : G 150 2 ≤ G' 150 2) (a2 : T 100 6 ≤ T' 100 6) : OKX n f P W G T Gx Tx := by
  obtain ⟨p1, p2, p3, p4, p5, p6, p7, p8, p9, p10, p11, p12⟩ := h
  rw [c1] at p6
  rw [c1, c2, t1] at p7
  refine ⟨p1, by omega, by omega, by omega, ⟨?_, ?_⟩, ?_, p7, p8, by omega, by omega, by omega, by omega⟩
  · intro o k h1 h2 h3
    rw [p5.1 o k h1 h2 (by omega), t4 o k (by omega)]
  · intro o k h1 h2 h3
    rw [p5.2 o k h1 h2 (by omega), t4 o k (by omega)]
  · intro o k h1 h2 h3 h4
    rw [p6 o k h1 h2 h3 h4, c3 o k h1 h2]
/-- behind a name: what is as it was -/
theorem nm_fr {n : Int} {f : Int → Int} {G T G' T' : St} {z a e : Int} (h : nmP n f G T G' T' z a e) : (G' 110 4 = G 110 4 ∧ G' 150 3 = G 150 3 ∧ (∀ o k, 111 ≤ o → o ≤ 114 → G' o k = G o k)) ∧ (T' 100 13 = T 100 13 ∧ T' 100 20 = T 100 20 ∧ T' 100 26 = T 100 26 ∧ (∀ o k, 115 ≤ o → T' o k = T o k)) := by
  obtain ⟨h1, h2, h3, h4, h5, h6, h7, h8, h9, h10, h11⟩ := h
  refine ⟨⟨h10 _ _ (by simp [fS]), h10 _ _ (by simp [fS]), fun o k q1 q2 => h10 o k ?_⟩, h11 _ _ (by simp [fS]), h11 _ _ (by simp [fS]), h11 _ _ (by simp [fS]), fun o k q1 => h11 o k ?_⟩
  · unfold fS
    simp only [List.mem_cons, List.not_mem_nil, or_false, Prod.mk.injEq]
    omega
  · unfold fS
    simp only [List.mem_cons, List.not_mem_nil, or_false, Prod.mk.injEq]
    omega
/-- a name alone -/
theorem rd_ok {n : Int} {f : Int → Int} {P W x : Int} {G T G1 T1 G' T' : St} {z a e : Int} (hP : PR n f G T) (hP1 : PR n f G1 T1) (hn : nmP n f G T G1 T1 z a e) (sG : CS G1 G' x (G1 110 4 + 1) (G1 150 3)) (sT : TS T1 T' x (T1 100 13 + 2) (T1 100 19) (T1 100 20)) (hx : e ≤ x) (xn : x ≤ n) (hw : WF P W G' T' 0 (G1 110 4) (G1 110 4 + 1) (T1 100 13) (T1 100 13 + 2) 0 0 (31 - G1 150 3)) (hk : T' 115 (T1 100 13 + 1) ≠ 8) : OKX n f P W G T G' T' := by
  have N := hP.nums
  have N1 := hP1.nums
  obtain ⟨⟨c1, c2, c3⟩, t1, t2, t3, t4⟩ := nm_fr hn
  obtain ⟨h1, h2, h3, h4, h5, h6, h7, h8, h9, h10, h11⟩ := hn
  have g := sk_ge n f (G 150 2)
  have g' := sk_ge n f (T 100 6)
  have g2 := N.1.2.2.2.2
  have pr : PR n f G' T' := hP1.mv sG sT (by omega) (by omega) (by omega) (by omega) rfl (by omega) (by omega) (by omega) (by omega) (by omega) (by omega) (by omega) (by omega) (by omega)
  obtain ⟨b1, b2, b3, b4, b5⟩ := sG
  obtain ⟨d1, d2, d3, d4, d5, d6, d7⟩ := sT
  rw [c1] at b5
  refine ⟨pr, by omega, by omega, by omega, ⟨?_, ?_⟩, ?_, ?_, ?_, by omega, by omega, by omega, by omega⟩
  · intro o k q1 q2 q3
    rw [d7.1 o k q1 q2 (by omega), t4 o k (by omega)]
  · intro o k q1 q2 q3
    rw [d7.2 o k q1 q2 (by omega), t4 o k (by omega)]
  · intro o k q1 q2 q3 q4
    rw [b5 o k q1 q2 q3 q4, c3 o k q1 q2]
  · rw [b3, d3, ← c1, ← t1, ← c2]; exact hw
  · rw [d3, show T1 100 13 + 2 - 1 = T1 100 13 + 1 by omega]; exact hk
