/-! PLAIN: assignments, from their name on -/
theorem tb_eq {T T1 : St} (h : ∀ o k, 115 ≤ o → T1 o k = T o k) : tb T T1 := ⟨fun o k a _ _ => h o k (by omega), fun o k a _ _ => h o k (by omega)⟩
/-- the common end of both kinds of assignments -/
theorem as_fin {n : Int} {f : Int → Int} {P W b c v : Int} {G T G4 T4 Ga Ta G5 T5 G' T' : St} (p4 : PR n f G4 T4) (tS : T4 100 20 = T 100 20) (tb4 : T4 100 26 = T 100 26) (d4 : G4 150 3 = G 150 3) (t4 : tb T T4) (a4 : agC G G4 0 (G 110 4)) (l1 : G 110 4 + 2 ≤ G4 110 4) (l2 : T 100 13 + 2 ≤ T4 100 13) (l3 : G 150 2 < G4 150 2) (u1 : G4 110 4 + 2 * G 150 2 ≤ G 110 4 + 2 * G4 150 2) (u2 : T4 100 13 + 4 * T 100 6 ≤ T 100 13 + 4 * T4 100 6) (t0 : 0 ≤ T 100 13) (g0 : 0 ≤ G 110 4)
    (sGa : CS G4 Ga b (G4 110 4) (G4 150 3)) (sTa : TS T4 Ta b (T4 100 13) (T4 100 19) (T4 100 20)) (L3 : OKX n f P W Ga Ta G5 T5) (sG : CS G5 G' c (G5 110 4 + 1) (G5 150 3)) (sT : TS T5 T' c (T5 100 13 + 2) (T5 100 19) (T5 100 20)) (hb : G4 150 2 < b) (hb' : T4 100 6 < b) (hc : G5 150 2 < c) (hc' : T5 100 6 < c) (cn : c ≤ n)
    (hw : agC G4 G' 0 (G4 110 4) → agT T4 T' 0 (T4 100 13) → WF P W G' T' 0 (G4 110 4) (G5 110 4) (T4 100 13) (T5 100 13) 0 0 (31 - G 150 3) → WF P W G' T' 2 (G 110 4) (G5 110 4 + 1) (T 100 13) (T5 100 13 + 2) v v (G 150 3)) : OKS n f P W G T G' T' v v := by
  obtain ⟨q1, q2, q3, q4, q5, q6, q7, q8, q9, q10, q11, q12⟩ := L3
  have N4 := p4.nums
  have N5 := q1.nums
  have lw := wf_le q7
  obtain ⟨a1, a2, a3, a4', a5⟩ := sGa
  obtain ⟨b1, b2, b3, b4, b5, b6, b7⟩ := sTa
  have pr : PR n f G' T' := q1.mv sG sT (by omega) (by omega) (by omega) (by omega) rfl (by omega) (by omega) (by omega) (by omega) (by omega) (by omega) (by omega) (by omega) (by omega)
  obtain ⟨c1, c2, c3, c4, c5⟩ := sG
  obtain ⟨d1, d2, d3, d4', d5, d6, d7⟩ := sT
  rw [a3, b3, a4', d4] at q7
  rw [a3] at q6
  have e1 : agC G4 G' 0 (G4 110 4) := (a5.tr q6 (by omega) (by omega)).tr c5 (by omega) (by omega)
  have e2 : tb T4 T' := (b7.tr q5 (by omega) (by omega)).tr d7 (by omega) (by omega)
  have wr := (q7.cg (G1 := G') (T1 := T')).2.2 (c5.mono (by omega) (by omega)) (d7.1.mono (by omega) (by omega))
  refine ⟨pr, by omega, by omega, by omega, t4.tr e2 (by omega) (by omega), a4.tr e1 (by omega) (by omega), ?_, by omega, by omega, by omega, by omega⟩
  rw [c3, d3]
  exact hw e1 e2.1 wr
theorem as_ok {n : Int} {f : Int → Int} {P W a v : Int} {G T : St} (hP : PR n f G T) (hS : SB G T) (ea : G 150 2 = a) (et : T 100 6 = a) (hsk : sk n f a = a) : ∃ G', Rd_assignment G = some (0, G') ∧ ((∃ w p T', FG n f 2420 w p G' ∧ Tw_assignment P W a T = some (0, T') ∧ FX w p T') ∨ ∃ T', Tw_assignment P W a T = some (0, T') ∧ OKS n f P W G T G' T' v v) := by
  have N := hP.nums
  unfold SB at hS
  unfold Rd_assignment
  rw [ea, Cd_add_e (by omega) (by omega) (by decide) (by decide), bd_some]
  have sA := CS_ad G 6 0 a 0
  have cv := adC_v G 6 0 a 0
  generalize adC G 6 0 a 0 = GA at sA cv ⊢
  rw [ea] at sA
  have pA : PR n f GA T := hP.mv sA (TS.rf T) (by omega) (by omega) (by omega) (by omega) (by rw [et]) (by omega) (by omega) (by omega) (by omega) (by omega) (by omega) (by omega) (by omega) (by omega)
  obtain ⟨A1, A2, A3, A4, A5⟩ := sA
  obtain ⟨z, G1, T1, e1, R⟩ := P_name pA
  rw [e1, bd_some]
  rcases R with ⟨e2, p1, a', x, hn⟩ | ⟨z', w, p, e2, fg, fx⟩
  · have N1 := p1.nums
    obtain ⟨⟨c1, c2, c3⟩, t1, t2, t3, t4⟩ := nm_fr hn
    obtain ⟨n1, n2, n3, n4, n5, n6, n7, n8, n9, n10, n11⟩ := hn
    rw [A2, hsk] at n1
    subst n1
    have tt1 := tb_eq t4
    obtain ⟨b, hbb⟩ : ∃ b, sk n f (G1 150 2) = b := ⟨_, rfl⟩
    have gb := sk_ge n f (G1 150 2)
    have gb2 := sk_le (f := f) N1.1.2.1
    rw [hbb] at gb gb2
    have sX := (TS_ad T1 20 0 0 a').nat (by omega) (Int.le_refl _) b
    have vX := adT_v T1 20 0 0 a'
    have F1 := ts_F p1 (TS_ad T1 20 0 0 a')
    have at1 : adT T1 20 0 0 a' 100 6 = T1 100 6 := adT_o (by omega) (by omega)
    have to : Tw_assignment P W a' T = Tw_assignment_b48 P W a' z (if lkF n f b = 91 then 1 else 0) (if (if lkF n f b = 91 then (1 : Int) else 0) = 0 then 31 else 33) (up (adT T1 20 0 0 a') 100 6 b) := by
      unfold Tw_assignment
      have FX2 := ts_F p1 sX
      have ax := sX.2.1
      rw [e2, bd_some, if_neg (by omega), Tw_put_e (by omega) (by omega), bd_some, Tw_gap_e F1.2 (by rw [at1]; omega) (by rw [at1]; omega), bd_some, at1, show sk n f (T1 100 6) = b by rw [← N1.1.2.2.2.2, hbb], Tw_isSign_e FX2.2 (by omega) (by omega) 91, bd_some, ax, sg_c (by decide) (by decide)]
    have kX : ∀ o k, o ≠ 100 → up (adT T1 20 0 0 a') 100 6 b o k = adT T1 20 0 0 a' o k := fun o k q => up_o _ q
    have kX1 : up (adT T1 20 0 0 a') 100 6 b 115 (T 100 13) = 20 := by rw [kX _ _ (by decide), ← t1]; exact vX.1
    have kX2 : up (adT T1 20 0 0 a') 100 6 b 118 (T 100 13) = a' := by rw [kX _ _ (by decide), ← t1]; exact vX.2.2.2
    generalize up (adT T1 20 0 0 a') 100 6 b = X2 at sX to kX1 kX2
    rw [Ft_is_0 N1.2.2.2.2.2.1, bd_some, if_pos rfl, Rd_isSign_e p1.1.1 (by omega) (by omega) 91, bd_some, hbb, n8]
    have sS := CS_sk n f G1
    rw [hbb] at sS
    have cS : ∀ o k, 111 ≤ o → o ≤ 114 → skC n f G1 o k = GA o k := fun o k q q2 => by rw [skC_o _ _ _ _ (by omega)]; exact c3 o k q q2
    generalize skC n f G1 = GS at sS cS ⊢
    have zS := sS.2.2.1
    have dS := sS.2.2.2.1
    have aS := sS.2.1
    have mX := sX.2.2.1
    have wX := sX.2.2.2.2.1
    have aX := sX.2.1
    have dX := sX.2.2.2.1
    have bX := sX.2.2.2.2.2.1
    by_cases c91 : lkF n f b = 91
    · rw [if_pos c91, if_neg (show ¬ (1 : Int) = 0 by decide)] at to
      rw [if_pos c91, if_neg (show ¬ (1 : Int) = 0 by decide)]
      have bn := (lkF_lt c91 (by decide)).1
      unfold Rd_assignment_b51
      rw [if_neg (by decide), Cd_add_e (by omega) (by omega) (by decide) (by decide), bd_some]
      have s4 := sS.nad (Int.le_refl _) 10 z a' 0
      have cv4 := adC_v GS 10 z a' 0
      rw [zS] at cv4
      have cS4 : ∀ o k, 111 ≤ o → o ≤ 114 → k < G1 110 4 → adC GS 10 z a' 0 o k = GA o k := fun o k q q2 q3 => by rw [adC_o (by omega) (by omega)]; exact cS o k q q2
      generalize adC GS 10 z a' 0 = G4 at s4 cv4 cS4 ⊢
      have y4 := sX.nad (by omega) (Int.le_refl _) 33 z 0 a'
      have tv4 := adT_v X2 33 z 0 a'
      rw [mX] at tv4
      have tk4 : ∀ o k, o = 115 ∨ o = 118 → k = T 100 13 → adT X2 33 z 0 a' o k = X2 o k := fun o k q q2 => adT_o (by omega) (by omega)
      unfold Tw_assignment_b48 at to
      rw [Tw_put_e (by omega) (by omega), bd_some, if_neg (show ¬ (1 : Int) = 0 by decide)] at to
      generalize adT X2 33 z 0 a' = T4 at y4 tv4 tk4 to
      have F4 := ts_F p1 y4
      have a4 := s4.2.1
      have d4 := s4.2.2.2.1
      have ta4 := y4.2.1
      have td4 := y4.2.2.2.1
      rw [a4]
      rw [ta4] at to
      by_cases dp : G1 150 3 = 30
      · rw [dp] at s4
        obtain ⟨GB, e3, fg1, eat⟩ := en_f (p := b) p1 s4 (by omega) (by omega) (by omega) (by omega)
        have fg2 := FG_at fg1 (x := GB 150 2 + 1) (by omega) (by omega)
        rw [e3, bd_some, ckI_p (by omega) (by omega), tk_e, fx_expr fg2, bd_some, FG_sign fg2 (by omega) (by decide), bd_some, fl_up (FG_sk fg2) (by omega)]
        have fg3 := FG_deep (FG_sk fg2) (x := skC n f (up GB 150 2 (GB 150 2 + 1)) 150 3 - 1) (by omega) (by omega)
        rw [FG_add_e fg3 (by omega) z a' 0 (by decide) (by decide), bd_some]
        obtain ⟨G', e4, fg4⟩ := ag_t1 (z := z) (a := a') (x := 1) (FG_add fg3 11 z a' 0) (by omega)
        rw [Tw_deeper_f (by omega) F4.1, bd_some] at to
        have fx : FX 3 b (up (up (fT 3 b T4) 100 19 31) 100 6 (b + 1)) := ⟨by simp [fT, up_ap], by simp [fT, up_ap], by decide⟩
        have eat2 : up (fT 3 b T4) 100 19 31 100 6 = b := by simp [fT, up_ap, ta4]
        rw [eat2, ckI_p (by omega) (by omega), tk_e] at to
        have ex : Tw_expression P W (up (up (fT 3 b T4) 100 19 31) 100 6 (b + 1)) = some (0, up (up (up (fT 3 b T4) 100 19 31) 100 6 (b + 1)) 100 20 (up (up (fT 3 b T4) 100 19 31) 100 6 (b + 1) 100 20)) := Lx_flt fx.ne
        rw [ex, bd_some, up_id, if_neg fx.ne, ta_f fx.ne] at to
        exact ⟨G', e4, Or.inl ⟨3, b, _, fg4.mono (by omega), to, fx⟩⟩
      · rw [Rd_enter_e (by omega) (by omega) (by omega), bd_some]
        have eat : up G4 150 3 (G4 150 3 + 1) 150 2 = b := by rw [up_k _ (by decide)]; exact a4
        rw [eat, ckI_p (by omega) (by omega), tk_e]
        have sGa := (s4.ndeep (by omega) (G4 150 3 + 1)).nat (by omega) (b + 1)
        have cGa : ∀ o k, o ≠ 150 → up (up G4 150 3 (G4 150 3 + 1)) 150 2 (b + 1) o k = G4 o k := fun o k q => by rw [up_o _ q, up_o _ q]
        generalize up (up G4 150 3 (G4 150 3 + 1)) 150 2 (b + 1) = Ga at sGa cGa ⊢
        rw [d4] at sGa
        rw [Tw_deeper_e (by omega) (by omega) (by omega), bd_some] at to
        have eat2 : up T4 100 19 (T4 100 19 + 1) 100 6 = b := by rw [up_k _ (by decide)]; exact ta4
        rw [eat2, ckI_p (by omega) (by omega), tk_e] at to
        have sTa := (y4.ndeep (by omega) (Int.le_refl _) (T4 100 19 + 1)).nat (by omega) (Int.le_refl _) (b + 1)
        have cTa : ∀ o k, o ≠ 100 → up (up T4 100 19 (T4 100 19 + 1)) 100 6 (b + 1) o k = T4 o k := fun o k q => by rw [up_o _ q, up_o _ q]
        generalize up (up T4 100 19 (T4 100 19 + 1)) 100 6 (b + 1) = Ta at sTa cTa to
        rw [td4] at sTa
        have pa : PR n f Ga Ta := p1.mv sGa sTa (by omega) (by omega) (by omega) (by omega) rfl (by omega) (by omega) (by omega) (by omega) (by omega) (by omega) (by omega) (by omega) (by omega)
        obtain ⟨u1, u2, u3, u4, u5⟩ := sGa
        obtain ⟨v1, v2, v3, v4, v5, v6, v7⟩ := sTa
        obtain ⟨G5, e5, R⟩ := ex_ok (P := P) (W := W) pa
        rw [e5, bd_some]
        rcases R with ⟨w, p, T', fg, lx, fx⟩ | ⟨T5, lx, L3⟩
        · rw [FG_sign fg (by decide) (by decide), bd_some, fl_up (FG_sk fg) (by decide)]
          have fg3 := FG_deep (FG_sk fg) (x := skC n f G5 150 3 - 1) (by omega) (by omega)
          rw [FG_add_e fg3 (by decide) z a' 0 (by decide) (by decide), bd_some]
          obtain ⟨G', e4, fg4⟩ := ag_t1 (z := z) (a := a') (x := 1) (FG_add fg3 11 z a' 0) (by decide)
          rw [lx, bd_some, if_neg fx.ne, ta_f fx.ne] at to
          exact ⟨G', e4, Or.inl ⟨w, p, T', fg4.mono (by decide), to, fx⟩⟩
        · have L3' := L3
          obtain ⟨q1, q2, q3, q4, q5, q6, q7, q8, q9, q10, q11, q12⟩ := L3'
          have N5 := q1.nums
          have lw := wf_le q7
          rw [lx, bd_some, if_pos N5.2.2.2.2.2.2, Tw_put_e (by omega) (by omega), bd_some] at to
          have s1 := TS_ad T5 42 z 0 a'
          have tv6 := adT_v T5 42 z 0 a'
          generalize adT T5 42 z 0 a' = T6 at s1 tv6 to
          have p6 : PR n f G5 T6 := q1.mv (CS.rf G5) s1 (by omega) (by omega) (by omega) (by omega) N5.1.2.2.2.2 (by omega) (by omega) (by omega) (by omega) (by omega) (by omega) (by omega) (by omega) (by omega)
          have h5 := sk_ge n f (G5 150 2)
          have h5' := sk_ge n f (T5 100 6)
          obtain ⟨G7, T7, e7, e8, R⟩ := P_sign (c := 93) (by decide) p6
          rw [e7, bd_some]
          rw [e8, bd_some] at to
          have fr := fr_Tw_sign 93 T6 (0, T7) e8
          have td7 : T7 100 19 = T6 100 19 := fr _ _ (by simp [fS])
          clear fr
          have d6 := s1.2.2.2.1
          rw [ckI_p (by omega) (by omega), tk_e] at to
          rcases R with ⟨r1', p7, r3', r4'⟩ | ⟨w, p, fg, fx⟩
          · have lt' := lkF_lt (sg_1 r1').1 (by decide)
            have sG7 := (CS_at G5 (sk n f (G5 150 2) + 1)).ndeep (Int.le_refl _) (G7 150 3 - 1)
            rw [← r3'] at sG7
            have dd7 : G7 150 3 = G5 150 3 := by rw [r3', up_k _ (by decide)]
            rw [ckI_p (by omega) (by omega), tk_e]
            have sT7 := (s1.nat (by omega) (Int.le_refl _) (sk n f (G5 150 2) + 1)).ndeep (by omega) (Int.le_refl _) (T7 100 19 - 1)
            rw [← r4'] at sT7
            have kT7 : ∀ o k, o ≠ 100 → up T7 100 19 (T7 100 19 - 1) o k = T6 o k := fun o k q => by rw [up_o _ q, r4', up_o _ q]
            generalize up T7 100 19 (T7 100 19 - 1) = T8 at sT7 kT7 to
            rw [td7, d6] at sT7
            generalize up G7 150 3 (G7 150 3 - 1) = G8 at sG7 ⊢
            rw [dd7] at sG7
            have z8 := sG7.2.2.1
            rw [Cd_add_e (by omega) (by omega) (by decide) (by decide), bd_some]
            have s9 := sG7.nad (Int.le_refl _) 11 z a' 0
            have cv9 := adC_v G8 11 z a' 0
            rw [z8] at cv9
            generalize adC G8 11 z a' 0 = G9 at s9 cv9 ⊢
            have p9 : PR n f G9 T8 := q1.mv s9 sT7 (by omega) (by omega) (by omega) (by omega) rfl (by omega) (by omega) (by omega) (by omega) (by omega) (by omega) (by omega) (by omega) (by omega)
            obtain ⟨w1, w2, w3, w4, w5⟩ := s9
            obtain ⟨x1, x2, x3, x4, x5, x6, x7⟩ := sT7
            obtain ⟨G', e9, R⟩ := ag_ok (P := P) (W := W) (z := z) (a := a') (x := 1) p9
            rcases R with ⟨w, p, T', fg, lx2, fx⟩ | ⟨Gb, Tb, G11, T11, T', bb, c, lx2, y1, y2, y3, y4', y5, y6, y7, y8, y9, y10, ⟨k1, k2, k3⟩, k4, k5, k6⟩
            · exact ⟨G', e9, Or.inl ⟨w, p, T', fg.mono (by decide), to.trans lx2, fx⟩⟩
            · refine ⟨G', e9, Or.inr ⟨T', to.trans lx2, ?_⟩⟩
              have t59 : tb T T8 := ((tt1.tr v7 (by omega) (by omega)).tr q5 (by omega) (by omega)).tr x7 (by omega) (by omega)
              have aGA : agC GA Ga 0 (GA 110 4) := fun o k r1 r2 r3 r4 => by rw [cGa o k (by omega)]; exact cS4 o k r1 r2 (by omega)
              have a59 : agC G G9 0 (G 110 4) := ((A5.tr aGA (by omega) (by omega)).tr q6 (by omega) (by omega)).tr w5 (by omega) (by omega)
              refine as_fin p9 (by omega) (by omega) (by omega) t59 a59 (by omega) (by omega) (by omega) (by omega) (by omega) (by omega) (by omega) y1 y2 y3 y4' y5 y6 y7 y8 y9 y10 ?_
              intro h1 h2 h3
              have e9C : agC Ga G9 0 (Ga 110 4) := q6.tr w5 (by omega) (by omega)
              have eC : agC Ga G' 0 (Ga 110 4) := e9C.tr h1 (by omega) (by omega)
              have e9T : agT Ta T8 0 (Ta 100 13) := q5.1.tr x7.1 (by omega) (by omega)
              have eT : agT Ta T' 0 (Ta 100 13) := e9T.tr h2 (by omega) (by omega)
              have r0 : ∀ o, 111 ≤ o → o ≤ 114 → G' o (G 110 4) = GA o (G 110 4) := fun o r1 r2 => by rw [eC o _ r1 r2 (by omega) (by omega), cGa o _ (by omega), cS4 o _ r1 r2 (by omega)]
              have r1 : ∀ o, 111 ≤ o → o ≤ 114 → G' o (G 110 4 + 1) = G4 o (G1 110 4) := fun o r1 r2 => by rw [eC o _ r1 r2 (by omega) (by omega), cGa o _ (by omega), c1, A3]
              have s0 : ∀ o, o = 115 ∨ o = 118 → T' o (T 100 13) = X2 o (T 100 13) := fun o r1 => by rw [eT o _ (by omega) (by omega) (by omega), cTa o _ (by omega), tk4 o _ r1 rfl]
              have s1' : ∀ o, 115 ≤ o → o ≤ 119 → T' o (T 100 13 + 1) = T4 o (T1 100 13 + 1) := fun o r1 r2 => by rw [eT o _ (by omega) (by omega) (by omega), cTa o _ (by omega), t1]
              have wi := (q7.cg (G1 := G') (T1 := T')).2.2 ((w5.tr h1 (by omega) (by omega)).mono (by omega) (by omega)) ((x7.1.tr h2 (by omega) (by omega)).mono (by omega) (by omega))
              rw [u3, u4, v3, c2, A4] at wi
              rw [w3, x3] at h3
              have j1 : ∀ o, 111 ≤ o → o ≤ 114 → G' o (G5 110 4) = G9 o (G5 110 4) := fun o r1 r2 => h1 o _ r1 r2 (by omega) (by omega)
              have j2 : ∀ o, 115 ≤ o → o ≤ 119 → T' o (T5 100 13) = T6 o (T5 100 13) := fun o r1 r2 => by rw [h2 o _ (by omega) (by omega) (by omega), kT7 o _ (by omega)]
              have zz : G' 112 (G 110 4 + 1) = z := by rw [r1 _ (by decide) (by decide)]; exact cv4.2.1
              refine wf_seta P W _ _ _ _ _ _ _ _ _ _ (31 - G 150 3) ?_ ?_ ?_ ?_ ?_ ?_ ?_ ?_ (by omega) ?_ ?_ ?_ ?_ h3 k1 (by rw [k2, zz]) (by rw [k3]; rfl) (by rw [k4]; rfl) (by rw [k5, zz]) k6
              · rw [r0 _ (by decide) (by decide)]; exact cv.1
              · rw [s0 _ (by decide)]; exact kX1
              · rw [s0 _ (by decide), r0 _ (by decide) (by decide), kX2, cv.2.2.1]
              · rw [r1 _ (by decide) (by decide)]; exact cv4.1
              · rw [s1' _ (by decide) (by decide)]; exact tv4.1
              · rw [s1' _ (by decide) (by decide), zz]; exact tv4.2.1
              · rw [s1' _ (by decide) (by decide), r1 _ (by decide) (by decide), tv4.2.2.2, cv4.2.2.1]
              · have h := wi.mono (z1 := 31 - G 150 3) (by omega)
                rw [c1, A3, t1, show G 110 4 + 1 + 1 = G 110 4 + 2 by omega, show T 100 13 + 1 + 1 = T 100 13 + 2 by omega] at h
                exact h
              · rw [j1 _ (by decide) (by decide)]; exact cv9.1
              · rw [j1 _ (by decide) (by decide), zz]; exact cv9.2.1
              · rw [j2 _ (by decide) (by decide)]; exact tv6.1
              · rw [j2 _ (by decide) (by decide), zz]; exact tv6.2.1
          · rw [fl_up fg (by decide)]
            have fg3 := FG_deep fg (x := G7 150 3 - 1) (by omega) (by omega)
            rw [FG_add_e fg3 (by decide) z a' 0 (by decide) (by decide), bd_some]
            obtain ⟨G', e4, fg4⟩ := ag_t1 (z := z) (a := a') (x := 1) (FG_add fg3 11 z a' 0) (by decide)
            rw [ta_f (fx.d _).ne] at to
            exact ⟨G', e4, Or.inl ⟨w, p, _, fg4.mono (by decide), to, fx.d _⟩⟩
    · rw [if_neg c91, if_pos rfl] at to
      rw [if_neg c91, if_pos rfl]
      unfold Rd_assignment_b51
      rw [if_pos rfl, Cd_add_e (by omega) (by omega) (by decide) (by decide), bd_some]
      have s4 := sS.nad (Int.le_refl _) 9 z a' 0
      have cv4 := adC_v GS 9 z a' 0
      rw [zS] at cv4
      have cS4 : ∀ o k, 111 ≤ o → o ≤ 114 → k < G1 110 4 → adC GS 9 z a' 0 o k = GA o k := fun o k q q2 q3 => by rw [adC_o (by omega) (by omega)]; exact cS o k q q2
      generalize adC GS 9 z a' 0 = G4 at s4 cv4 cS4 ⊢
      have y4 := sX.nad (by omega) (Int.le_refl _) 31 z 0 a'
      have tv4 := adT_v X2 31 z 0 a'
      rw [mX] at tv4
      have tk4 : ∀ o k, o = 115 ∨ o = 118 → k = T 100 13 → adT X2 31 z 0 a' o k = X2 o k := fun o k q q2 => adT_o (by omega) (by omega)
      unfold Tw_assignment_b48 at to
      rw [Tw_put_e (by omega) (by omega), bd_some, if_pos rfl] at to
      generalize adT X2 31 z 0 a' = T4 at y4 tv4 tk4 to
      have p4 : PR n f G4 T4 := p1.mv s4 y4 (by omega) (by omega) (by omega) (by omega) rfl (by omega) (by omega) (by omega) (by omega) (by omega) (by omega) (by omega) (by omega) (by omega)
      obtain ⟨w1, w2, w3, w4, w5⟩ := s4
      obtain ⟨x1, x2, x3, x4, x5, x6, x7⟩ := y4
      obtain ⟨G', e9, R⟩ := ag_ok (P := P) (W := W) (z := z) (a := a') (x := 0) p4
      rcases R with ⟨w, p, T', fg, lx2, fx⟩ | ⟨Gb, Tb, G11, T11, T', bb, c, lx2, y1, y2, y3, y4', y5, y6, y7, y8, y9, y10, ⟨k1, k2, k3⟩, k4, k5, k6⟩
      · exact ⟨G', e9, Or.inl ⟨w, p, T', fg.mono (by decide), to.trans lx2, fx⟩⟩
      · refine ⟨G', e9, Or.inr ⟨T', to.trans lx2, ?_⟩⟩
        have t59 : tb T T4 := tt1.tr x7 (by omega) (by omega)
        have aGA : agC GA G4 0 (GA 110 4) := fun o k r1 r2 r3 r4 => cS4 o k r1 r2 (by omega)
        have a59 : agC G G4 0 (G 110 4) := A5.tr aGA (by omega) (by omega)
        refine as_fin p4 (by omega) (by omega) (by omega) t59 a59 (by omega) (by omega) (by omega) (by omega) (by omega) (by omega) (by omega) y1 y2 y3 y4' y5 y6 y7 y8 y9 y10 ?_
        intro h1 h2 h3
        have r0 : ∀ o, 111 ≤ o → o ≤ 114 → G' o (G 110 4) = GA o (G 110 4) := fun o r1 r2 => by rw [h1 o _ r1 r2 (by omega) (by omega), cS4 o _ r1 r2 (by omega)]
        have r1 : ∀ o, 111 ≤ o → o ≤ 114 → G' o (G 110 4 + 1) = G4 o (G1 110 4) := fun o r1 r2 => by rw [h1 o _ r1 r2 (by omega) (by omega), c1, A3]
        have s0 : ∀ o, o = 115 ∨ o = 118 → T' o (T 100 13) = X2 o (T 100 13) := fun o r1 => by rw [h2 o _ (by omega) (by omega) (by omega), tk4 o _ r1 rfl]
        have s1' : ∀ o, 115 ≤ o → o ≤ 119 → T' o (T 100 13 + 1) = T4 o (T1 100 13 + 1) := fun o r1 r2 => by rw [h2 o _ (by omega) (by omega) (by omega), t1]
        have zz : G' 112 (G 110 4 + 1) = z := by rw [r1 _ (by decide) (by decide)]; exact cv4.2.1
        rw [w3, x3, c1, A3, t1, show G 110 4 + 1 + 1 = G 110 4 + 2 by omega, show T 100 13 + 1 + 1 = T 100 13 + 2 by omega] at h3
        refine wf_set P W _ _ _ _ _ _ _ _ (31 - G 150 3) ?_ ?_ ?_ ?_ ?_ ?_ ?_ h3 (by omega) k1 (by rw [k2, zz]) (by rw [k3]; rfl) (by rw [k4]; rfl) (by rw [k5, zz]) k6
        · rw [r0 _ (by decide) (by decide)]; exact cv.1
        · rw [s0 _ (by decide)]; exact kX1
        · rw [s0 _ (by decide), r0 _ (by decide) (by decide), kX2, cv.2.2.1]
        · rw [r1 _ (by decide) (by decide)]; exact cv4.1
        · rw [s1' _ (by decide) (by decide)]; exact tv4.1
        · rw [s1' _ (by decide) (by decide), zz]; exact tv4.2.1
        · rw [s1' _ (by decide) (by decide), r1 _ (by decide) (by decide), tv4.2.2.2, cv4.2.2.1]
  · have to : Tw_assignment P W a T = some (0, T1) := by
      unfold Tw_assignment
      rw [e2, bd_some, if_pos (by have h1 := fx.1; have h2 := fx.2.2; omega)]
    rw [Ft_is_1 (FG_F fg), bd_some, if_neg (by decide)]
    unfold Rd_assignment_b51
    rw [if_pos rfl, FG_add_e fg (by decide) z _ 0 (by decide) (by decide), bd_some]
    obtain ⟨G', e4, fg4⟩ := ag_t1 (z := z) (a := G1 150 10) (x := 0) (FG_add fg 9 z (G1 150 10) 0) (by decide)
    exact ⟨G', e4, Or.inl ⟨w, p, T1, fg4.mono (by decide), to, fx⟩⟩
