/-! PLAIN: items: definitions -/
/-- the end of a definition, behind a fault -/
theorem de_f {n : Int} {f : Int → Int} {k w p z hi s : Int} {G : St} (h : FG n f k w p G) (hk : k ≤ 6000) (i0 : 0 ≤ hi) (i1 : hi < 12000) : ∃ G', (bd (Rd_sign 59 G) fun _ G21 => bd (Cd_add 3 z (G21 150 2) s G21) fun z22 G23 => ckB hi 12000 <| tk (up G23 114 hi z22) fun G24 => some ((0 : Int), G24)) = some (0, G') ∧ FG n f (k + 1) w p G' := by
  have h1 := FG_sk h
  rw [FG_sign h (by omega) (by decide), bd_some, FG_add_e h1 (by omega) z _ s (by decide) (by decide), bd_some, ckB_p i0 i1, tk_e]
  exact ⟨_, rfl, FG_114 (FG_add h1 _ _ _ _) _ _⟩
theorem de_f74 {n : Int} {f : Int → Int} {k w p z hi : Int} {G : St} (h : FG n f k w p G) (hk : k ≤ 6000) (i0 : 0 ≤ hi) (i1 : hi < 12000) : ∃ G', Rd_def_b74 z hi G = some (0, G') ∧ FG n f (k + 1) w p G' := by
  have h1 := FG_sk h
  have h2 := FG_sk h1
  have h3 := FG_sk h2
  unfold Rd_def_b74
  rw [FG_sign h (by omega) (by decide), bd_some, FG_sort h1, bd_some, FG_sign h2 (by omega) (by decide), bd_some, fx_expr h3, bd_some]
  exact de_f (s := 0) h3 hk i0 i1
theorem de_ok {n : Int} {f : Int → Int} {P W a z b g : Int} {G T Gk Tk : St} (hI : II n f P W G T) (ea : G 150 2 = a) (et : T 100 6 = a) (hD : DI n f P W a z b g G T Gk Tk) : ∃ G', Rd_def_b74 z (G 110 4) Gk = some (0, G') ∧ ((∃ w p T', FG n f 2420 w p G' ∧ Tw_defItem_b209 P W a b z (T 100 13) Tk = some (0, T') ∧ FX w p T') ∨ ∃ T', Tw_defItem_b209 P W a b z (T 100 13) Tk = some (0, T') ∧ II n f P W G' T' ∧ a < G' 150 2) := by
  obtain ⟨hP, hS, hV, ⟨hw, hb, hdp⟩, zz, hz, hW⟩ := hI
  obtain ⟨pk, ⟨d1, d2, d3⟩, d4, d5, ⟨d6, d7, d8, d9⟩, ⟨d10, d11, d12⟩, ⟨d13, d14, d15, d16⟩, dW, d17, d18, d19, d20, d21⟩ := hD
  have N := hP.nums
  have Nk := pk.nums
  have lw := wf_le dW
  have lwI := wf_le hW
  unfold SB at hS
  unfold Rd_def_b74
  have eT : Tw_defItem_b209 P W a b z (T 100 13) Tk = Tw_defItem_b209 P W a b z (T 100 13) Tk := rfl
  conv at eT => rhs; unfold Tw_defItem_b209
  rw [if_pos Nk.2.2.2.2.2.2] at eT
  obtain ⟨G1, T1, e1, e2, R⟩ := P_sign (c := 58) (by decide) pk
  rw [e1, bd_some]
  rw [e2, bd_some] at eT
  rcases R with ⟨r1, p1, r3, r4⟩ | ⟨w, p, fg, fx⟩
  · have lt1 := lkF_lt (sg_1 r1).1 (by decide)
    have N1 := p1.nums
    have g1 := sk_ge n f (Gk 150 2)
    have g1' := sk_ge n f (Tk 100 6)
    have x1 := Nk.1.2.2.2.2
    have s1 := CS_at Gk (sk n f (Gk 150 2) + 1)
    rw [← r3] at s1
    have u1 := TS_at Tk (sk n f (Gk 150 2) + 1)
    rw [← r4] at u1
    have a1 := s1.2.1
    have ta1 := u1.2.1
    unfold Tw_defItem_b222 at eT
    rw [if_pos N1.2.2.2.2.2.2] at eT
    obtain ⟨s, G2, T2, e3, e4, R⟩ := P_sort p1
    rw [e3, bd_some]
    rw [e4, bd_some] at eT
    rcases R with ⟨b3, p2, sv0, sv1, sv2, s2, u2, l1, l2, l3⟩ | ⟨w, p, fg, fx⟩
    · have N2 := p2.nums
      have s3 := s1.tr s2 (Int.le_refl _)
      have u3 := u1.tr u2 (Int.le_refl _) (Int.le_refl _)
      rw [s1.2.2.1, s1.2.2.2.1] at s3
      rw [u1.2.2.1, u1.2.2.2.1, u1.2.2.2.2.1] at u3
      clear s1 u1 s2 u2
      have a3 := s3.2.1
      have ta3 := u3.2.1
      unfold Tw_defItem_b233 at eT
      rw [if_pos N2.2.2.2.2.2.2, sv2] at eT
      obtain ⟨G3, T3, e5, e6, R⟩ := P_sign (c := 61) (by decide) p2
      rw [e5, bd_some]
      rw [e6, bd_some] at eT
      unfold Tw_defItem_b252 at eT
      rcases R with ⟨r1', p3, r3', r4'⟩ | ⟨w, p, fg, fx⟩
      · have lt3 := lkF_lt (sg_1 r1').1 (by decide)
        have N3 := p3.nums
        have g2 := sk_ge n f (G2 150 2)
        have g2' := sk_ge n f (T2 100 6)
        have x2 := N2.1.2.2.2.2
        obtain ⟨c, hc⟩ : ∃ c, c = sk n f (G2 150 2) + 1 := ⟨_, rfl⟩
        rw [← hc] at r3' r4'
        have s4 := s3.nat (Int.le_refl _) c
        rw [← r3'] at s4
        have u4 := u3.nat (Int.le_refl _) (Int.le_refl _) c
        rw [← r4'] at u4
        have m4 := u4.2.2.1
        have a4 := s4.2.1
        have ta4 := u4.2.1
        rw [if_neg (show ¬ 0 < T3 100 7 by omega), Tw_put_e (by omega) (by omega), bd_some] at eT
        have u5 := u4.nad (Int.le_refl _) (Int.le_refl _) 28 0 0 a
        have tv5 := adT_v T3 28 0 0 a
        rw [m4] at tv5
        generalize adT T3 28 0 0 a = T5 at u5 tv5 eT
        have p5 : PR n f G3 T5 := pk.mv s4 u5 (by omega) (by omega) (by omega) (by omega) rfl (by omega) (by omega) (by omega) (by omega) (by omega) (by omega) (by omega) (by omega) (by omega)
        have vr5 : T5 100 30 = T 100 30 := by rw [u5.1 _ _ (by simp [fS])]; exact d6
        have vi5 : T5 100 29 = T 100 29 := by rw [u5.1 _ _ (by simp [fS])]; exact d7
        have gr5 : G3 150 5 = G 150 5 := by rw [s4.1 _ _ (by simp [fS])]; exact d8
        have gi5 : G3 150 4 = G 150 4 := by rw [s4.1 _ _ (by simp [fS])]; exact d9
        obtain ⟨S1, S2, S3, S4, S5⟩ := s4
        obtain ⟨U1, U2, U3, U4, U5, U6, U7⟩ := u5
        obtain ⟨G6, e7, R⟩ := ex_ok (P := P) (W := W) p5
        rw [e7, bd_some]
        rcases R with ⟨w, p, T', fg, lx, fx⟩ | ⟨T6, lx, L3⟩
        · obtain ⟨G', e8, fg'⟩ := de_f (z := z) (hi := G 110 4) (s := s) fg (by decide) (by omega) (by omega)
          rw [lx, bd_some, if_pos fx.ps] at eT
          exact ⟨G', e8, Or.inl ⟨w, p, T', fg'.mono (by decide), eT, fx⟩⟩
        · have fr := fr_Tw_expression P W T5 (0, T6) lx
          have vr6 : T6 100 30 = T 100 30 := by rw [show T6 100 30 = T5 100 30 from fr _ _ (by simp [fS])]; exact vr5
          have vi6 : T6 100 29 = T 100 29 := by rw [show T6 100 29 = T5 100 29 from fr _ _ (by simp [fS])]; exact vi5
          have fr8 := fr_Rd_exprO G3 (0, G6) e7
          have gr6 : G6 150 5 = G 150 5 := by rw [show G6 150 5 = G3 150 5 from fr8 _ _ (by simp [fS])]; exact gr5
          have gi6 : G6 150 4 = G 150 4 := by rw [show G6 150 4 = G3 150 4 from fr8 _ _ (by simp [fS])]; exact gi5
          clear fr fr8
          obtain ⟨q1, q2, q3, q4, q5, q6, q7, q8, q9, q10, q11, q12⟩ := L3
          have N6 := q1.nums
          have lw6 := wf_le q7
          rw [lx, bd_some, if_neg (show ¬ 0 < T6 100 7 by omega), Tw_put_e (by omega) (by omega), bd_some, ckB_p (by omega) (by omega), tk_e] at eT
          have u7 := TS_ad T6 29 z s b
          have tv7 := adT_v T6 29 z s b
          generalize adT T6 29 z s b = T7 at u7 tv7 eT
          obtain ⟨W1, W2, W3, W4, W5, W6, W7⟩ := u7
          have kk8 := W1.tr (kT_up (o := 119) (k := T 100 13) (Or.inl (by decide)) T7 (T6 100 13))
          have k8 : ∀ o k, ¬ (o = 119 ∧ k = T 100 13) → up T7 119 (T 100 13) (T6 100 13) o k = T7 o k := fun o k h => by rw [up_ap, if_neg h]
          have v8 : up T7 119 (T 100 13) (T6 100 13) 119 (T 100 13) = T6 100 13 := up_s _ _ _ _
          generalize up T7 119 (T 100 13) (T6 100 13) = T8 at kk8 k8 v8 eT
          have i1 := k8 100 6 (by omega)
          have i2 := k8 100 13 (by omega)
          have i3 := k8 100 19 (by omega)
          have i4 := k8 100 20 (by omega)
          have i5 := k8 100 26 (by omega)
          have p8 : PR n f G6 T8 := q1.kb (kC.rf G6) rfl rfl rfl kk8 (by rw [i1, W2]) (by rw [i2, W3]) (by rw [i3, W4]) (by rw [i4, W5]) (by rw [i5, W6]) (by omega) (by omega) (by omega) (by omega) N6.1.2.2.2.2 (by omega) (by omega) (by omega) (by omega) (by omega) (by omega) (by omega) (by omega) (by omega) (by omega)
          have vr8 : T8 100 30 = T 100 30 := by rw [kk8 _ _ (by simp [fS])]; exact vr6
          have vi8 : T8 100 29 = T 100 29 := by rw [kk8 _ _ (by simp [fS])]; exact vi6
          obtain ⟨G9, T9, f1, f2, R⟩ := P_sign (c := 59) (by decide) p8
          rw [f1, bd_some]
          rw [f2, bd_some] at eT
          rcases R with ⟨o1, p9, o3, o4⟩ | ⟨w, p, fg, fx⟩
          · have lt9 := lkF_lt (sg_1 o1).1 (by decide)
            have g6 := sk_ge n f (G6 150 2)
            have g6' := sk_ge n f (T8 100 6)
            have x6 := N6.1.2.2.2.2
            obtain ⟨e, he⟩ : ∃ e, e = sk n f (G6 150 2) + 1 := ⟨_, rfl⟩
            rw [← he] at o3 o4
            have N9 := p9.nums
            have s9 := CS_at G6 e
            rw [← o3] at s9
            have z9 := s9.2.2.1
            have a9 := s9.2.1
            have d9' := s9.2.2.2.1
            rw [Cd_add_e (by omega) (by omega) (by decide) (by decide), bd_some, ckB_p (by omega) (by omega), tk_e, a9]
            have s10 := s9.nad (Int.le_refl _) 3 z e s
            have cv := adC_v G9 3 z e s
            have k10 : ∀ o k, 111 ≤ o → o ≤ 114 → k < G6 110 4 → adC G9 3 z e s o k = G9 o k := fun o k h1 h2 h3 => adC_o (by omega) (by omega)
            rw [z9] at cv ⊢
            generalize adC G9 3 z e s = G10 at s10 cv k10 ⊢
            obtain ⟨A1, A2, A3, A4, A5⟩ := s10
            have m10 := A1.tr (kC_up (o := 114) (k := G 110 4) (Or.inl (by decide)) G10 (G6 110 4))
            have k11 : ∀ o k, ¬ (o = 114 ∧ k = G 110 4) → up G10 114 (G 110 4) (G6 110 4) o k = G10 o k := fun o k h => by rw [up_ap, if_neg h]
            have v11 : up G10 114 (G 110 4) (G6 110 4) 114 (G 110 4) = G6 110 4 := up_s _ _ _ _
            generalize up G10 114 (G 110 4) (G6 110 4) = G' at m10 k11 v11 ⊢
            have b1 := k11 150 2 (by omega)
            have b2 := k11 110 4 (by omega)
            have b3 := k11 150 3 (by omega)
            have kt : ∀ o k, ¬ (o = 100 ∧ k = 6) → T9 o k = T8 o k := fun o k h => by rw [o4, up_ap, if_neg h]
            have h9 : T9 100 6 = e := by rw [o4]; exact up_s _ _ _ _
            have kk9 := kk8.tr (kT_up (o := 100) (k := 6) (Or.inr (by decide)) T8 e)
            rw [← o4] at kk9
            have j1 := kt 100 13 (by omega)
            have j2 := kt 100 19 (by omega)
            have j3 := kt 100 20 (by omega)
            have j4 := kt 100 26 (by omega)
            have j5 := kt 100 30 (by omega)
            have j6 := kt 100 29 (by omega)
            have pr : PR n f G' T9 := q1.kb m10 (by rw [b1, A2]) (by rw [b2, A3]) (by rw [b3, A4]) kk9 h9 (by rw [j1, i2, W3]) (by rw [j2, i3, W4]) (by rw [j3, i4, W5]) (by rw [j4, i5, W6]) (by omega) (by omega) (by omega) (by omega) rfl (by omega) (by omega) (by omega) (by omega) (by omega) (by omega) (by omega) (by omega) (by omega) (by omega)
            have gv : G' 150 5 = G 150 5 := by rw [m10 _ _ (by simp [fS])]; exact gr6
            have gi : G' 150 4 = G 150 4 := by rw [m10 _ _ (by simp [fS])]; exact gi6
            have g6k : ∀ o k, 111 ≤ o → o ≤ 114 → ¬ (o = 114 ∧ k = G 110 4) → 0 ≤ k → k < G6 110 4 → G' o k = G6 o k := fun o k h1 h2 h3 h4 h5 => by rw [k11 o k h3, A5 o k h1 h2 h4 h5]
            have gkk : ∀ o k, 111 ≤ o → o ≤ 114 → ¬ (o = 114 ∧ k = G 110 4) → 0 ≤ k → k < Gk 110 4 → G' o k = Gk o k := fun o k h1 h2 h3 h4 h5 => by rw [g6k o k h1 h2 h3 h4 (by omega), q6 o k h1 h2 h4 (by omega), S5 o k h1 h2 h4 h5]
            have t6k : ∀ o k, (115 ≤ o ∧ o ≤ 119 ∨ o = 134) → ¬ (o = 119 ∧ k = T 100 13) → 0 ≤ k → k < T6 100 13 → T9 o k = T6 o k := fun o k h1 h3 h4 h5 => by rw [kt o k (by omega), k8 o k h3, W7.1 o k h1 h4 h5]
            have t5k : ∀ o k, (115 ≤ o ∧ o ≤ 119 ∨ o = 134) → ¬ (o = 119 ∧ k = T 100 13) → 0 ≤ k → k < T5 100 13 → T9 o k = T5 o k := fun o k h1 h3 h4 h5 => by rw [t6k o k h1 h3 h4 (by omega), q5.1 o k h1 h4 h5]
            have tkk : ∀ o k, (115 ≤ o ∧ o ≤ 119 ∨ o = 134) → ¬ (o = 119 ∧ k = T 100 13) → 0 ≤ k → k < Tk 100 13 → T9 o k = Tk o k := fun o k h1 h3 h4 h5 => by rw [t5k o k h1 h3 h4 (by omega), U7.1 o k h1 h4 h5]
            refine ⟨G', rfl, Or.inr ⟨T9, eT, ⟨pr, ⟨by omega, by omega⟩, hV.tr gv gi (by rw [j5, vr8]) (by rw [j6, vi8]), ⟨by omega, by omega, by omega⟩, e, by omega, ?_⟩, by omega⟩⟩
            have w0 := (hW.cg (G1 := G') (T1 := T9)).2.2 (fun o k h1 h2 h3 h4 => by rw [gkk o k h1 h2 (by omega) h3 (by omega)]; exact d5 o k h1 h2 h3 h4) (fun o k h1 h2 h3 => by rw [tkk o k h1 (by omega) h2 (by omega)]; exact d4.1 o k h1 h2 h3)
            have w1 := (dW.cg (G1 := G') (T1 := T9)).2.2 (fun o k h1 h2 h3 h4 => gkk o k h1 h2 (by omega) (by omega) h4) (fun o k h1 h2 h3 => tkk o k h1 (by omega) (by omega) h3)
            have w2 := (q7.cg (G1 := G') (T1 := T9)).2.2 (fun o k h1 h2 h3 h4 => g6k o k h1 h2 (by omega) (by omega) h4) (fun o k h1 h2 h3 => t6k o k h1 (by omega) (by omega) h3)
            rw [S3, U3] at w2
            rw [b2, A3, j1, i2, W3, j5, j6, vr8, vi8]
            have pz : G' 112 (G 110 4) = z := by rw [gkk _ _ (by decide) (by decide) (by omega) (by omega) (by omega)]; exact d11
            refine wf_itd P W _ _ _ _ _ _ _ _ _ _ _ _ _ _ (31 - G3 150 3) g s w0 (by omega) d17 ?_ v11 ?_ ?_ ?_ ?_ ?_ w1 ?_ w2 (by omega) ?_ ?_ ?_ sv0 sv1 ?_ ?_ ?_
            · rw [gkk _ _ (by decide) (by decide) (by omega) (by omega) (by omega)]; exact d10
            · rw [tkk _ _ (by decide) (by omega) (by omega) (by omega)]; exact d13
            · rw [tkk _ _ (by decide) (by omega) (by omega) (by omega), d14, pz]
            · rw [tkk _ _ (by decide) (by omega) (by omega) (by omega)]; exact d15
            · rw [tkk _ _ (by decide) (by omega) (by omega) (by omega), d16, gkk _ _ (by decide) (by decide) (by omega) (by omega) (by omega), d12]
            · rw [kt _ _ (by omega)]; exact v8
            · rw [t5k _ _ (by decide) (by omega) (by omega) (by omega)]; exact tv5.1
            · rw [k11 _ _ (by omega)]; exact cv.1
            · rw [k11 _ _ (by omega), cv.2.1, pz]
            · rw [k11 _ _ (by omega)]; exact cv.2.2.2
            · rw [kt _ _ (by omega), k8 _ _ (by omega)]; exact tv7.1
            · rw [kt _ _ (by omega), k8 _ _ (by omega), tv7.2.1, pz]
            · rw [kt _ _ (by omega), k8 _ _ (by omega)]; exact tv7.2.2.1
          · rw [FG_add_e fg (by decide) z _ s (by decide) (by decide), bd_some, ckB_p (by omega) (by omega), tk_e]
            exact ⟨_, rfl, Or.inl ⟨w, p, T9, (FG_114 (FG_add fg _ _ _ _) _ _).mono (by decide), eT, fx⟩⟩
      · rw [if_pos fx.ps] at eT
        rw [fx_expr fg, bd_some]
        obtain ⟨G', e8, fg'⟩ := de_f (z := z) (hi := G 110 4) (s := s) fg (by decide) (by omega) (by omega)
        exact ⟨G', e8, Or.inl ⟨w, p, T3, fg'.mono (by decide), eT, fx⟩⟩
    · rw [td_233 fx.ps] at eT
      rw [FG_sign fg (by decide) (by decide), bd_some, fx_expr (FG_sk fg), bd_some]
      obtain ⟨G', e8, fg'⟩ := de_f (z := z) (hi := G 110 4) (s := s) (FG_sk fg) (by decide) (by omega) (by omega)
      exact ⟨G', e8, Or.inl ⟨w, p, T2, fg'.mono (by decide), eT, fx⟩⟩
  · rw [td_222 fx.ps] at eT
    rw [FG_sort fg, bd_some, FG_sign (FG_sk fg) (by decide) (by decide), bd_some, fx_expr (FG_sk (FG_sk fg)), bd_some]
    obtain ⟨G', e8, fg'⟩ := de_f (z := z) (hi := G 110 4) (s := 0) (FG_sk (FG_sk fg)) (by decide) (by omega) (by omega)
    exact ⟨G', e8, Or.inl ⟨w, p, T1, fg'.mono (by decide), eT, fx⟩⟩
