/-! PLAIN: items: definitions, from their word on -/
theorem it_def {n : Int} {f : Int → Int} {P W a : Int} {G T : St} (hI : II n f P W G T) (ea : G 150 2 = a) (et : T 100 6 = a) (an : a + 3 ≤ n) : ∃ G', Rd_def G = some (0, G') ∧ ((∃ w p T', FG n f 2420 w p G' ∧ Tw_defItem P W a T = some (0, T') ∧ FX w p T') ∨ ∃ T', Tw_defItem P W a T = some (0, T') ∧ II n f P W G' T' ∧ a < G' 150 2) := by
  have hI' := hI
  obtain ⟨hP, hS, hV, ⟨hw, hb, hdp⟩, zz, hz, hW⟩ := hI'
  have N := hP.nums
  unfold SB at hS
  unfold Rd_def
  rw [ea, ckI_p (by omega) (by omega), tk_e]
  have s0 := CS_at G (a + 3)
  generalize up G 150 2 (a + 3) = G0 at s0 ⊢
  obtain ⟨b, hbb⟩ : ∃ b, sk n f (a + 3) = b := ⟨_, rfl⟩
  have gb := sk_ge n f (a + 3)
  have gb2 := sk_le (f := f) an
  rw [hbb] at gb gb2
  have t1 := TS_at T (a + 3)
  have F1 := ts_F hP t1
  have eT : Tw_defItem P W a T = Tw_defItem P W a T := rfl
  conv at eT => rhs; unfold Tw_defItem
  rw [et, ckI_p (by omega) (by omega), tk_e, Tw_gap_e F1.2 (by rw [t1.2.1]; omega) (by rw [t1.2.1]; omega), bd_some, t1.2.1, hbb, up_s] at eT
  have t0 := t1.nat (Int.le_refl _) (Int.le_refl _) b
  generalize up (up T 100 6 (a + 3)) 100 6 b = T0 at t0 eT
  have p0 : PR n f G0 T0 := hP.mv s0 t0 (by omega) (by omega) (by omega) (by omega) (by rw [hbb, ← hbb, sk_sk]) (by omega) (by omega) (by omega) (by omega) (by omega) (by omega) (by omega) (by omega) (by omega)
  have vr0 : T0 100 30 = T 100 30 := t0.1 _ _ (by simp [fS])
  have vi0 : T0 100 29 = T 100 29 := t0.1 _ _ (by simp [fS])
  have gr0 : G0 150 5 = G 150 5 := s0.1 _ _ (by simp [fS])
  have gi0 : G0 150 4 = G 150 4 := s0.1 _ _ (by simp [fS])
  obtain ⟨A1, A2, A3, A4, A5⟩ := s0
  obtain ⟨B1, B2, B3, B4, B5, B6, B7⟩ := t0
  obtain ⟨z, G1, T1, e1, R⟩ := P_name p0
  rw [e1, bd_some]
  rcases R with ⟨e2, p1, b', x, hn⟩ | ⟨z', w, p, e2, fg, fx⟩
  · have N1 := p1.nums
    obtain ⟨⟨c1, c2, c3'⟩, q1, q2, q3, q4⟩ := nm_fr hn
    obtain ⟨n1, n2, n3, n4, n5, n6, n7, n8, n9, n10, n11⟩ := hn
    rw [A2, hbb] at n1
    subst n1
    have vr1 : T1 100 30 = T 100 30 := by rw [n11 _ _ (by simp [fS])]; exact vr0
    have vi1 : T1 100 29 = T 100 29 := by rw [n11 _ _ (by simp [fS])]; exact vi0
    have gr1 : G1 150 5 = G 150 5 := by rw [n10 _ _ (by simp [fS])]; exact gr0
    have gi1 : G1 150 4 = G 150 4 := by rw [n10 _ _ (by simp [fS])]; exact gi0
    clear n10 n11
    rw [e2, bd_some, if_pos N1.2.2.2.2.2.2] at eT
    rw [n8, Cd_add_e (by omega) (by omega) (by decide) (by decide), bd_some]
    have s2 := CS_ad G1 1 z b' 0
    have cv2 := adC_v G1 1 z b' 0
    generalize adC G1 1 z b' 0 = G2 at s2 cv2 ⊢
    have p2 : PR n f G2 T1 := p1.mv s2 (TS.rf T1) (by omega) (by omega) (by omega) (by omega) N1.1.2.2.2.2 (by omega) (by omega) (by omega) (by omega) (by omega) (by omega) (by omega) (by omega) (by omega)
    have gr2 : G2 150 5 = G 150 5 := by rw [s2.1 _ _ (by simp [fS])]; exact gr1
    have gi2 : G2 150 4 = G 150 4 := by rw [s2.1 _ _ (by simp [fS])]; exact gi1
    obtain ⟨C1, C2, C3, C4, C5⟩ := s2
    have hs1 : G1 110 4 = G 110 4 := by omega
    have hm1 : T1 100 13 = T 100 13 := by omega
    rw [hs1] at cv2 ⊢
    obtain ⟨G3, T3, e3, e4, R⟩ := P_sign (c := 40) (by decide) p2
    rw [e3, bd_some]
    rw [e4, bd_some] at eT
    unfold Tw_defItem_b37 at eT
    rcases R with ⟨r1, p3, r3, r4⟩ | ⟨w, p, fg, fx⟩
    · have lt3 := lkF_lt (sg_1 r1).1 (by decide)
      have N3 := p3.nums
      have g2 := sk_ge n f (G2 150 2)
      have g2' := sk_ge n f (T1 100 6)
      have x2 := p2.nums.1.2.2.2.2
      obtain ⟨c, hc⟩ : ∃ c, c = sk n f (G2 150 2) + 1 := ⟨_, rfl⟩
      rw [← hc] at r3 r4
      have s3 := CS_at G2 c
      rw [← r3] at s3
      have u3 := TS_at T1 c
      rw [← r4] at u3
      have m3 := u3.2.2.1
      rw [if_neg (show ¬ 0 < T3 100 7 by omega), Tw_put_e (by omega) (by omega), bd_some] at eT
      have u4 := u3.nad (Int.le_refl _) (Int.le_refl _) 26 z 0 b'
      have tv4 := adT_v T3 26 z 0 b'
      rw [m3, hm1] at tv4 eT
      generalize adT T3 26 z 0 b' = T4 at u4 tv4 eT
      obtain ⟨e, he⟩ : ∃ e, sk n f c = e := ⟨_, rfl⟩
      have a3 := s3.2.1
      have ge := sk_ge n f c
      have ge2 := sk_le (n := n) (f := f) (a := c) (by omega)
      rw [he] at ge ge2
      have F4 := ts_F p2 u4
      have a4 := u4.2.1
      rw [Tw_gap_e F4.2 (by omega) (by omega), bd_some, a4, he] at eT
      have u5 := u4.nat (by omega) (Int.le_refl _) e
      have k5 : ∀ o k, o ≠ 100 → up T4 100 6 e o k = T4 o k := fun o k h => up_o _ h
      generalize up T4 100 6 e = T5 at u5 k5 eT
      have F5 := ts_F p2 u5
      have a5 := u5.2.1
      rw [Tw_isSign_e F5.2 (by omega) (by omega) 41, bd_some, a5, sg_c (by decide) (by decide)] at eT
      unfold Tw_defItem_b74 at eT
      rw [Ft_is_0 N3.2.2.2.2.2.1, bd_some, if_pos rfl, Rd_isSign_e p3.1.1 (by omega) (by omega) 41, bd_some, a3, he]
      have s5 := s3.nsk (Int.le_refl _) n f
      rw [he] at s5
      generalize skC n f G3 = G5 at s5 ⊢
      have F5' := cs_F p2 s5
      -- the head is read
      have hD : ∀ (e1 : Int) (G8 T8 : St), e ≤ e1 → e1 ≤ n → G8 = up G5 150 2 e1 → T8 = up T5 100 6 e1 → DI n f P W a z b' 0 G T G8 T8 := by
        intro e1 G8 T8 m1 m2 m3' m4'
        have s8 := s5.nat (Int.le_refl _) e1
        rw [← m3'] at s8
        have u8 := u5.nat (by omega) (Int.le_refl _) e1
        rw [← m4'] at u8
        have pr : PR n f G8 T8 := p2.mv s8 u8 (by omega) (by omega) (by omega) (by omega) rfl (by omega) (by omega) (by omega) (by omega) (by omega) (by omega) (by omega) (by omega) (by omega)
        have vr8 : T8 100 30 = T 100 30 := by rw [u8.1 _ _ (by simp [fS])]; exact vr1
        have vi8 : T8 100 29 = T 100 29 := by rw [u8.1 _ _ (by simp [fS])]; exact vi1
        have gr8 : G8 150 5 = G 150 5 := by rw [s8.1 _ _ (by simp [fS])]; exact gr2
        have gi8 : G8 150 4 = G 150 4 := by rw [s8.1 _ _ (by simp [fS])]; exact gi2
        have kt : ∀ o k, o ≠ 100 → T8 o k = T4 o k := fun o k h => by rw [m4', up_o _ h]; exact k5 o k h
        obtain ⟨D1, D2, D3, D4, D5⟩ := s8
        obtain ⟨E1, E2, E3, E4, E5, E6, E7⟩ := u8
        refine ⟨pr, ⟨by omega, by omega, by omega⟩, (B7.tr (tb_eq q4) (by omega) (by omega)).tr E7 (by omega) (by omega), ?_, ⟨vr8, vi8, gr8, gi8⟩, ⟨?_, ?_, ?_⟩, ⟨?_, ?_, ?_, ?_⟩, ?_, by omega, by omega, by omega, by omega, by omega⟩
        · intro o k h1 h2 h3 h4
          rw [D5 o k h1 h2 h3 (by omega), C5 o k h1 h2 h3 (by omega), c3' o k h1 h2]; exact A5 o k h1 h2 h3 h4
        · rw [D5 _ _ (by decide) (by decide) (by omega) (by omega)]; exact cv2.1
        · rw [D5 _ _ (by decide) (by decide) (by omega) (by omega)]; exact cv2.2.1
        · rw [D5 _ _ (by decide) (by decide) (by omega) (by omega)]; exact cv2.2.2.1
        · rw [kt _ _ (by decide)]; exact tv4.1
        · rw [kt _ _ (by decide)]; exact tv4.2.1
        · rw [kt _ _ (by decide)]; exact tv4.2.2.1
        · rw [kt _ _ (by decide)]; exact tv4.2.2.2
        · rw [D3, C3, hs1, E3, hm1]; exact wf_prm0 P W _ _ _ _ _ _
      have hD5 := hD e G5 T5 (Int.le_refl _) (by omega) (up_id' s5.2.1.symm).symm (up_id' a5.symm).symm
      have N5 := hD5.1.nums
      by_cases c41 : lkF n f e = 41
      · have lt := lkF_lt c41 (by decide)
        rw [if_pos c41, if_neg (show ¬ (1 : Int) = 0 by decide), s5.2.1, ckI_p (by omega) (by omega), tk_e]
        rw [if_pos c41, if_neg (show ¬ (1 : Int) = 0 by decide), td_0] at eT
        unfold Tw_defItem_b196 at eT
        rw [if_pos N5.2.2.2.2.2.2, Tw_sign_e (c := 41) F5.2 (by omega) (by omega) F5.1, bd_some, a5, show sk n f e = e by rw [← he, sk_sk], sg_c (by decide) (by decide), if_pos c41, if_pos rfl] at eT
        have h := hD (e + 1) _ _ (by omega) (by omega) rfl rfl
        obtain ⟨G', e9, R⟩ := de_ok hI ea et h
        rw [← eT] at R
        exact ⟨G', e9, R⟩
      · rw [if_neg c41, if_pos rfl]
        rw [if_neg c41, if_pos rfl] at eT
        unfold Rd_def_b70 Rd_params
        obtain ⟨G', e8, R⟩ := pm_loop hP (by omega) ((n - G5 150 2).toNat + 1) 0 G5 T5 hD5 (by omega)
        rw [e8, bd_some]
        rw [← eT] at R
        rcases R with ⟨w, p, T', fg, lx, fx⟩ | ⟨T', g', lx, h⟩
        · obtain ⟨G'', e9, fg'⟩ := de_f74 (z := z) (hi := G 110 4) fg (by decide) (by omega) (by omega)
          exact ⟨G'', e9, Or.inl ⟨w, p, T', fg'.mono (by decide), lx, fx⟩⟩
        · obtain ⟨G'', e9, R⟩ := de_ok hI ea et h
          rw [← lx] at R
          exact ⟨G'', e9, R⟩
    · rw [if_pos fx.ps] at eT
      rw [Ft_is_1 (FG_F fg), bd_some, if_neg (by decide)]
      unfold Rd_def_b70 Rd_params
      rw [pm_f fg (by decide), bd_some]
      obtain ⟨G', e9, fg'⟩ := de_f74 (z := z) (hi := G 110 4) (FG_sk fg) (by decide) (by omega) (by omega)
      exact ⟨G', e9, Or.inl ⟨w, p, T3, fg'.mono (by decide), eT, fx⟩⟩
  · rw [e2, bd_some, if_neg fx.ne] at eT
    unfold Tw_defItem_b37 at eT
    rw [if_pos fx.ps] at eT
    have fa := FG_add fg 1 z (G1 150 10) 0
    have fs := fg.2.2.2
    rw [FG_add_e fg (by decide) z _ 0 (by decide) (by decide), bd_some, FG_sign fa (by decide) (by decide), bd_some, Ft_is_1 (FG_F (FG_sk fa)), bd_some, if_neg (by decide)]
    unfold Rd_def_b70 Rd_params
    rw [pm_f (FG_sk fa) (by decide), bd_some]
    obtain ⟨G', e9, fg'⟩ := de_f74 (z := z) (hi := G1 110 4) (FG_sk (FG_sk fa)) (by decide) fs.1 (by omega)
    exact ⟨G', e9, Or.inl ⟨w, p, T1, fg'.mono (by decide), eT, fx⟩⟩
