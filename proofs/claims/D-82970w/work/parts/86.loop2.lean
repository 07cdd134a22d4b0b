/-! PLAIN: loops, from their word on -/
theorem LoopOK_s {n : Int} {f : Int → Int} {P W : Int} {d : Nat} (hd : (d : Int) ≤ 600) (hBl : BlockOK n f P W d) : LoopOK n f P W (d + 1) := by
  intro G T a hP hS hV ea et hsk hw hA
  have N := hP.nums
  have il := iw_lt hw (by decide)
  have sl : swl 4 = 3 := by decide
  have wl := we_le (n := n) (f := f) (a := a) (by omega)
  have an : a + 3 ≤ n := by omega
  have hS' := hS
  unfold SB at hS
  unfold AS at hA
  obtain ⟨e', rfl⟩ : ∃ e', d = e' + 1 := ⟨d - 1, by omega⟩
  show ∃ G', Rd_loop (RS (e' + 1)) G = some (0, G') ∧ _
  unfold Rd_loop
  rw [ea, Cd_add_e (by omega) (by omega) (by decide) (by decide), bd_some]
  have sA := CS_ad G 6 0 a 0
  have cv := adC_v G 6 0 a 0
  generalize adC G 6 0 a 0 = GA at sA cv ⊢
  rw [ea] at sA
  rw [sA.2.1, ckI_p (by omega) (by omega), tk_e]
  have s0 := sA.nat (by omega) (a + 3)
  have c0 : ∀ o k, 111 ≤ o → o ≤ 114 → up GA 150 2 (a + 3) o k = GA o k := fun o k h1 h2 => up_o _ (by omega)
  generalize up GA 150 2 (a + 3) = G0 at s0 c0 ⊢
  obtain ⟨b, hbb⟩ : ∃ b, sk n f (a + 3) = b := ⟨_, rfl⟩
  have gb := sk_ge n f (a + 3)
  have gb2 := sk_le (f := f) an
  rw [hbb] at gb gb2
  have t1 := TS_ad T 20 0 0 a
  have v1 := adT_v T 20 0 0 a
  have t2 := t1.nat (by omega) (Int.le_refl _) (a + 3)
  have F2 := ts_F hP t2
  have eT : Tw_forStatement P W a T = Tw_forStatement P W a T := rfl
  conv at eT => rhs; unfold Tw_forStatement
  rw [Tw_put_e (by omega) (by omega), bd_some, t1.2.1, et, ckI_p (by omega) (by omega), tk_e, Tw_gap_e F2.2 (by rw [t2.2.1]; omega) (by rw [t2.2.1]; omega), bd_some, t2.2.1, hbb, up_s] at eT
  have t3 := t2.nat (by omega) (Int.le_refl _) b
  have kA : ∀ o k, 119 < o → adT T 20 0 0 a o k = T o k := fun o k h => adT_o (by omega) (by omega)
  have c3 : ∀ o k, o ≠ 100 → up (up (adT T 20 0 0 a) 100 6 (a + 3)) 100 6 b o k = adT T 20 0 0 a o k := fun o k h => by rw [up_o _ h, up_o _ h]
  generalize adT T 20 0 0 a = TA at v1 c3 t3 eT kA
  generalize up (up TA 100 6 (a + 3)) 100 6 b = T0 at t3 c3 eT
  have p0 : PR n f G0 T0 := hP.mv s0 t3 (by omega) (by omega) (by omega) (by omega) (by rw [hbb, ← hbb, sk_sk]) (by omega) (by omega) (by omega) (by omega) (by omega) (by omega) (by omega) (by omega) (by omega)
  have vr0 : T0 100 30 = T 100 30 := t3.1 _ _ (by simp [fS])
  have vi0 : T0 100 29 = T 100 29 := t3.1 _ _ (by simp [fS])
  have gr0 : G0 150 5 = G 150 5 := s0.1 _ _ (by simp [fS])
  have gi0 : G0 150 4 = G 150 4 := s0.1 _ _ (by simp [fS])
  obtain ⟨A1, A2, A3, A4, A5⟩ := s0
  obtain ⟨B1, B2, B3, B4, B5, B6, B7⟩ := t3
  obtain ⟨z, G1, T1, e1, R⟩ := P_name p0
  rw [e1, bd_some]
  rcases R with ⟨e2, p1, b', x, hn⟩ | ⟨z', w, p, e2, fg, fx⟩
  · have N1 := p1.nums
    obtain ⟨⟨c1, c2, c3'⟩, q1, q2, q3, q4⟩ := nm_fr hn
    obtain ⟨n1, n2, n3, n4, n5, n6, n7, n8, n9, n10, n11⟩ := hn
    rw [A2, hbb] at n1
    subst n1
    have vr1 : T1 100 30 = T 100 30 := by rw [n11 _ _ (by simp [fS])]; exact vr0
    have vi1 : T1 100 29 = T 100 29 := by rw [n11 _ _ (by simp [fS])]; exact vi0
    have gr1 : G1 150 5 = G 150 5 := by rw [n10 _ _ (by simp [fS])]; exact gr0
    have gi1 : G1 150 4 = G 150 4 := by rw [n10 _ _ (by simp [fS])]; exact gi0
    clear n10 n11
    rw [e2, bd_some, if_neg (by omega), Tw_put_e (by omega) (by omega), bd_some] at eT
    rw [n8, Cd_add_e (by omega) (by omega) (by decide) (by decide), bd_some]
    have s2 := CS_ad G1 16 z b' 0
    have cv2 := adC_v G1 16 z b' 0
    generalize adC G1 16 z b' 0 = G2 at s2 cv2 ⊢
    have u2 := TS_ad T1 38 z 0 b'
    have tv2 := adT_v T1 38 z 0 b'
    have ku2 : ∀ o k, 119 < o → adT T1 38 z 0 b' o k = T1 o k := fun o k h => adT_o (by omega) (by omega)
    generalize adT T1 38 z 0 b' = T2 at u2 tv2 ku2 eT
    have p2 : PR n f G2 T2 := p1.mv s2 u2 (by omega) (by omega) (by omega) (by omega) N1.1.2.2.2.2 (by omega) (by omega) (by omega) (by omega) (by omega) (by omega) (by omega) (by omega) (by omega)
    have vr2 : T2 100 30 = T 100 30 := by rw [u2.1 _ _ (by simp [fS])]; exact vr1
    have vi2 : T2 100 29 = T 100 29 := by rw [u2.1 _ _ (by simp [fS])]; exact vi1
    have gr2 : G2 150 5 = G 150 5 := by rw [s2.1 _ _ (by simp [fS])]; exact gr1
    have gi2 : G2 150 4 = G 150 4 := by rw [s2.1 _ _ (by simp [fS])]; exact gi1
    obtain ⟨C1, C2, C3, C4, C5⟩ := s2
    obtain ⟨D1, D2, D3, D4, D5, D6, D7⟩ := u2
    obtain ⟨z20, G21, eK, y0, y1, R⟩ := fo_1 (P := P) (W := W) (a := a) (z := z) p2 (by omega) (by omega) (fun z20 G21 => bd (RS (e' + 1) 1 [] G21) fun _ G23 => bd (Cd_add 19 z a z20 G23) fun z24 G25 => ckB z20 12000 <| tk (up G25 114 z20 z24) fun G26 => some ((0 : Int), G26))
    rw [eK]
    rw [← eT] at R
    rcases R with ⟨w, p, T', fg, lx, fx⟩ | ⟨T7, z6, k8, lx, hz, p7, ⟨m1, m2, m3⟩, m4, m5, ⟨m6, m7, m8, m9⟩, m10, w1, ⟨r1, r2⟩, w2, r3, r4, r5, l1, l2, l3, l4⟩
    · rw [f_block fg, bd_some]
      obtain ⟨G', e3, fg'⟩ := lp_f (z := z) (a := a) (FG_sk fg) (by decide) y0 y1
      exact ⟨G', e3, Or.inl ⟨w, p, T', fg'.mono (by unfold FKd; omega), by rw [lx, bd_some, Lp_flt fx.ne], fx⟩⟩
    · have lx2 : (bd (Tw_forStatement P W a T) fun _ T' => Lp P W T') = (bd (Tw_openBlock 3 (T7 100 13 - 1) T7) fun _ T' => Lp P W T') := by
        rw [lx]
        cases Tw_openBlock 3 (T7 100 13 - 1) T7 <;> rfl
      rw [lx2]
      have lw1 := wf_le w1
      have lw2 := wf_le w2
      have N7 := p7.nums
      have hn := N1.1
      have tb2 : tb T T2 := (B7.tr (tb_eq q4) (by omega) (by omega)).tr D7 (by omega) (by omega)
      have ag2 : agC G G2 0 (G 110 4) := by
        intro o k h1 h2 h3 h4
        rw [C5 o k h1 h2 h3 (by omega), c3' o k h1 h2]; exact A5 o k h1 h2 h3 h4
      have hH : HF n f P W a z b' z6 k8 G T G21 T7 := by
        refine ⟨p7, ⟨by omega, by omega⟩, hV.tr (by rw [m8, gr2]) (by rw [m9, gi2]) (by rw [m6, vr2]) (by rw [m7, vi2]), ⟨by omega, by omega, by omega⟩, tb2.tr m4 (by omega) (by omega), ?_, by rw [m6, vr2], ag2.tr m10 (by omega) (by omega), ⟨?_, ?_, ?_, ?_⟩, ⟨?_, ?_, ?_, ?_, ?_, ?_⟩, ?_, ⟨r1, r2⟩, w2, r3, r4, r5, by omega, by omega, by omega, by omega⟩
        · intro o k h
          rw [m5 o k h, ku2 o k (by omega), q4 o k (by omega), c3 o k (by omega), kA o k (by omega)]
        · rw [m10 _ _ (by decide) (by decide) (by omega) (by omega), C5 _ _ (by decide) (by decide) (by omega) (by omega), c3' _ _ (by decide) (by decide), c0 _ _ (by decide) (by decide)]; exact cv.1
        · rw [m10 _ _ (by decide) (by decide) (by omega) (by omega), C5 _ _ (by decide) (by decide) (by omega) (by omega), c3' _ _ (by decide) (by decide), c0 _ _ (by decide) (by decide)]; exact cv.2.2.1
        · rw [m4.1 _ _ (by decide) (by omega) (by omega), D7.1 _ _ (by decide) (by omega) (by omega), q4 _ _ (by decide), c3 _ _ (by decide)]; exact v1.1
        · rw [m4.1 _ _ (by decide) (by omega) (by omega), D7.1 _ _ (by decide) (by omega) (by omega), q4 _ _ (by decide), c3 _ _ (by decide)]; exact v1.2.2.2
        · rw [m10 _ _ (by decide) (by decide) (by omega) (by omega), show G 110 4 + 1 = G1 110 4 by omega]; exact cv2.1
        · rw [m10 _ _ (by decide) (by decide) (by omega) (by omega), show G 110 4 + 1 = G1 110 4 by omega]; exact cv2.2.1
        · rw [m10 _ _ (by decide) (by decide) (by omega) (by omega), show G 110 4 + 1 = G1 110 4 by omega]; exact cv2.2.2.1
        · rw [m4.1 _ _ (by decide) (by omega) (by omega), show T 100 13 + 1 = T1 100 13 by omega]; exact tv2.1
        · rw [m4.1 _ _ (by decide) (by omega) (by omega), show T 100 13 + 1 = T1 100 13 by omega]; exact tv2.2.1
        · rw [m4.1 _ _ (by decide) (by omega) (by omega), show T 100 13 + 1 = T1 100 13 by omega]; exact tv2.2.2.2
        · rw [show G 110 4 + 2 = G2 110 4 by omega, show T 100 13 + 2 = T2 100 13 by omega]; exact w1
      obtain ⟨G9, e9, R⟩ := hBl G21 T7 3 (T7 100 13 - 1) p7 hH.2.1 hH.2.2.1 (by decide) (by unfold AS; omega)
      rw [e9, bd_some]
      rcases R with ⟨w, p, T', fg, ly, fx⟩ | ⟨Gb, Tb, bb, ly, hB⟩
      · obtain ⟨G', e3, fg'⟩ := lp_f (z := z) (a := a) fg (by unfold FKd; omega) y0 y1
        exact ⟨G', e3, Or.inl ⟨w, p, T', fg'.mono (by unfold FKd; omega), ly, fx⟩⟩
      · obtain ⟨G', T', e3, kb, ok⟩ := lp_fin hP hH hz hB
        exact ⟨G', e3, Or.inr ⟨T', by rw [ly, kb, bd_some], ok⟩⟩
  · rw [e2, bd_some, if_pos fx.ps] at eT
    have fa := FG_add fg 16 z (G1 150 10) 0
    rw [FG_add_e fg (by decide) z _ 0 (by decide) (by decide), bd_some, FG_sign fa (by decide) (by decide), bd_some, fx_expr (FG_sk fa), bd_some]
    obtain ⟨z20, G21, eK, y0, y1, fg2⟩ := lf_2 (z := z) (a := a) (FG_sk fa) (by decide) (fun z20 G21 => bd (RS (e' + 1) 1 [] G21) fun _ G23 => bd (Cd_add 19 z a z20 G23) fun z24 G25 => ckB z20 12000 <| tk (up G25 114 z20 z24) fun G26 => some ((0 : Int), G26))
    rw [eK, f_block fg2, bd_some]
    obtain ⟨G', e3, fg'⟩ := lp_f (z := z) (a := a) (FG_sk fg2) (by decide) y0 y1
    exact ⟨G', e3, Or.inl ⟨w, p, T1, fg'.mono (by unfold FKd; omega), by rw [eT, bd_some, Lp_flt fx.ne], fx⟩⟩
