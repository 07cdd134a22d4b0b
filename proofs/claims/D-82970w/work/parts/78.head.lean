/-! PLAIN: the head of a condition -/
theorem ex_okd {n : Int} {f : Int → Int} {P W : Int} {G T : St} (d : Nat) (d0 : 520 ≤ d) (d1 : d ≤ 600) (hP : PR n f G T) : ∃ G', RE d 0 [] G = some (0, G') ∧ ((∃ w p T', FG n f 2400 w p G' ∧ Tw_expression P W T = some (0, T') ∧ FX w p T') ∨ ∃ T', Tw_expression P W T = some (0, T') ∧ OKX n f P W G T G' T') := by
  have N := hP.nums
  obtain ⟨_, _, hE⟩ := all_expr n f P W d (by omega)
  obtain ⟨G', e, R⟩ := hE G T (T 100 20) hP (by omega) (Int.le_refl _) (Or.inl rfl) (by unfold AD; omega)
  refine ⟨G', e, ?_⟩
  have eT : Tw_expression P W T = Lx P W (T 100 20) 1 T := rfl
  rcases R with ⟨w, p, T', fg, lx', fx⟩ | ⟨T1, T2, L1, L2, L3, L4, L5, L6⟩
  · exact Or.inl ⟨w, p, T', fg.mono (by omega), by rw [eT]; exact lx', fx⟩
  · refine Or.inr ⟨md T2 (sk n f (T2 100 6)) 0, ?_, okx_md L3 rfl (by omega)⟩
    have q1 := L3.1
    have q2 := L3.2.1
    have N2 := q1.nums
    have hc := Lx_cl (P := P) (W := W) L4 (by omega) (by omega) rfl (by rw [← N2.1.2.2.2.2]; exact L5) (by rw [← N2.1.2.2.2.2]; exact L6) L2 (TB_of q1) (Or.inl (by omega)) (by omega)
    have mw : md T2 (sk n f (T2 100 6)) 0 100 20 = T 100 20 := by rw [md_o (by omega)]; exact q2
    have b51 : Tw_closes_b51 (T 100 20) 0 (md T2 (sk n f (T2 100 6)) 0) = some (0, md T2 (sk n f (T2 100 6)) 0) := by
      unfold Tw_closes_b51
      rw [if_pos mw, ckB_p (by decide) (by decide)]
    rw [eT, L1, hc, b51, bd_some, if_pos rfl, Lx_end, up_id' mw.symm]
theorem ti_f {P W a : Int} {T : St} (h : T 100 7 ≠ 0) : Tw_ifStatement_b47 P W a T = some (0, T) := by
  unfold Tw_ifStatement_b47 Tw_ifStatement_b58 Tw_ifStatement_b81
  rw [if_neg h, if_neg h, if_neg h]
/-- the head was read -/
def HD (n : Int) (f : Int → Int) (P W a z6 : Int) (G T G7 T7 : St) : Prop :=
  PR n f G7 T7 ∧ SB G7 T7 ∧ VQ G7 T7 ∧ G7 150 3 = G 150 3 ∧ T7 100 20 = T 100 20 ∧ T7 100 26 = T 100 26 ∧ tb T T7 ∧ (∀ o k, (o = 128 ∨ o = 129) → T7 o k = T o k) ∧ T7 100 30 = T 100 30 ∧ agC G G7 0 (G 110 4) ∧ (G7 111 (G 110 4) = 6 ∧ G7 113 (G 110 4) = a) ∧ (T7 115 (T 100 13) = 20 ∧ T7 118 (T 100 13) = a) ∧ WF P W G7 T7 0 (G 110 4 + 1) z6 (T 100 13 + 1) (T7 100 13 - 1) 0 0 31 ∧ (G7 111 z6 = 13 ∧ G7 113 z6 = a ∧ G7 110 4 = z6 + 1) ∧ (T7 115 (T7 100 13 - 1) = 35 ∧ T7 118 (T7 100 13 - 1) = a ∧ T7 117 (T7 100 13 - 1) = 0) ∧ G 150 2 < G7 150 2 ∧ T 100 6 < T7 100 6 ∧ G7 110 4 + 2 * G 150 2 + 4 ≤ G 110 4 + 2 * G7 150 2 ∧ T7 100 13 + 4 * T 100 6 + 8 ≤ T 100 13 + 4 * T7 100 6
theorem cd_head {n : Int} {f : Int → Int} {P W a : Int} {G T : St} (hP : PR n f G T) (hS : SB G T) (hV : VQ G T) (ea : G 150 2 = a) (et : T 100 6 = a) (an : a + 2 ≤ n) {α : Type} (K : Int → St → Option α) :
    ∃ z6 G7, (bd (Cd_add 6 0 a 0 G) fun _ G2 => ckI ((G2 150 2) + 2) <| tk (up G2 150 2 ((G2 150 2) + 2)) fun G3 => bd (Rd_aroundO G3) fun _ G5 => bd (Cd_add 13 0 a 0 G5) fun z6 G7 => K z6 G7) = K z6 G7 ∧ 0 ≤ z6 ∧ z6 < 12000 ∧ ((∃ w p T', FG n f 2410 w p G7 ∧ Tw_ifStatement P W a T = some (0, T') ∧ FX w p T') ∨ ∃ T7, Tw_ifStatement P W a T = (bd (Tw_openBlock 1 (T7 100 13 - 1) T7) fun _ G11 => some (0, G11)) ∧ HD n f P W a z6 G T G7 T7) := by
  have N := hP.nums
  unfold SB at hS
  have eC : (bd (Cd_add 6 0 a 0 G) fun _ G2 => ckI ((G2 150 2) + 2) <| tk (up G2 150 2 ((G2 150 2) + 2)) fun G3 => bd (Rd_aroundO G3) fun _ G5 => bd (Cd_add 13 0 a 0 G5) fun z6 G7 => K z6 G7) = (bd (Cd_add 6 0 a 0 G) fun _ G2 => ckI ((G2 150 2) + 2) <| tk (up G2 150 2 ((G2 150 2) + 2)) fun G3 => bd (Rd_aroundO G3) fun _ G5 => bd (Cd_add 13 0 a 0 G5) fun z6 G7 => K z6 G7) := rfl
  generalize hX : (bd (Cd_add 6 0 a 0 G) fun _ G2 => ckI ((G2 150 2) + 2) <| tk (up G2 150 2 ((G2 150 2) + 2)) fun G3 => bd (Rd_aroundO G3) fun _ G5 => bd (Cd_add 13 0 a 0 G5) fun z6 G7 => K z6 G7) = X
  clear eC
  have eC := hX.symm
  clear hX
  have sA := CS_ad G 6 0 a 0
  have cv := adC_v G 6 0 a 0
  rw [Cd_add_e (by omega) (by omega) (by decide) (by decide), bd_some, sA.2.1, ea, ckI_p (by omega) (by omega), tk_e] at eC
  have s0 := sA.nat (by omega) (a + 2)
  have k0 : ∀ o k, o ≠ 150 → up (adC G 6 0 a 0) 150 2 (a + 2) o k = adC G 6 0 a 0 o k := fun o k q => up_o _ q
  generalize adC G 6 0 a 0 = GA at cv k0 s0 eC
  generalize up GA 150 2 (a + 2) = G0 at s0 k0 eC
  obtain ⟨b, hbb⟩ : ∃ b, sk n f (a + 2) = b := ⟨_, rfl⟩
  have gb := sk_ge n f (a + 2)
  have gb2 := sk_le (f := f) an
  rw [hbb] at gb gb2
  have bs : sk n f b = b := by rw [← hbb, sk_sk]
  have t1 := TS_ad T 20 0 0 a
  have v1 := adT_v T 20 0 0 a
  have t2 := t1.nat (by omega) (Int.le_refl _) (a + 2)
  have F2 := ts_F hP t2
  have t3 := t2.nat (by omega) (Int.le_refl _) b
  have F3 := ts_F hP t3
  have eT : Tw_ifStatement P W a T = Tw_ifStatement P W a T := rfl
  conv at eT => rhs; unfold Tw_ifStatement
  rw [Tw_put_e (by omega) (by omega), bd_some, t1.2.1, et, ckI_p (by omega) (by omega), tk_e, Tw_gap_e F2.2 (by rw [t2.2.1]; omega) (by rw [t2.2.1]; omega), bd_some, t2.2.1, hbb, up_s] at eT
  have kA : ∀ o k, 119 < o → adT T 20 0 0 a o k = T o k := fun o k h => adT_o (by omega) (by omega)
  have k3 : ∀ o k, o ≠ 100 → up (up (adT T 20 0 0 a) 100 6 (a + 2)) 100 6 b o k = adT T 20 0 0 a o k := fun o k h => by rw [up_o _ h, up_o _ h]
  generalize adT T 20 0 0 a = TA at v1 k3 t3 eT F3 kA
  generalize up (up TA 100 6 (a + 2)) 100 6 b = T0 at t3 k3 eT F3
  have a3 := t3.2.1
  rw [Tw_sign_e (c := 40) F3.2 (by omega) (by omega) F3.1, bd_some, a3, bs, sg_c (by decide) (by decide)] at eT
  have FC := cs_F hP s0
  have a0 := s0.2.1
  have eA : Rd_aroundO G0 = Rd_around (RE 599) G0 := rfl
  rw [eA, ar_e _ FC.2 (by omega) (by rw [a0]; exact hbb) gb2 FC.1] at eC
  have sS := s0.nsk (by omega) n f
  rw [hbb] at sS
  have kS : ∀ o k, o ≠ 150 → skC n f G0 o k = GA o k := fun o k q => by rw [skC_o _ _ _ _ q]; exact k0 o k q
  generalize skC n f G0 = GS at sS kS eC
  have dS := sS.2.2.2.1
  have aS := sS.2.1
  by_cases c40 : lkF n f b = 40
  · have bn := (lkF_lt c40 (by decide)).1
    rw [if_pos c40] at eC
    rw [if_pos c40, if_pos rfl] at eT
    have t4 := t3.nat (by omega) (Int.le_refl _) (b + 1)
    have F4 := ts_F hP t4
    have k4 : ∀ o k, o ≠ 100 → up T0 100 6 (b + 1) o k = TA o k := fun o k h => by rw [up_o _ h]; exact k3 o k h
    generalize up T0 100 6 (b + 1) = T4 at t4 F4 k4 eT
    have d4 := t4.2.2.2.1
    rw [if_pos F4.1] at eT
    by_cases dp : G 150 3 = 30
    · rw [dp] at sS
      obtain ⟨GB, e1, fg1, eat⟩ := en_f (p := b) hP sS (by omega) (by omega) (by omega) (by omega)
      have fg2 := FG_at fg1 (x := GB 150 2 + 1) (by omega) (by omega)
      rw [e1, bd_some, ckI_p (by omega) (by omega), tk_e, show RE 599 0 [] (up GB 150 2 (GB 150 2 + 1)) = some (0, up GB 150 2 (GB 150 2 + 1)) from f_expr fg2 598, bd_some, FG_sign fg2 (by decide) (by decide), bd_some, fl_up (FG_sk fg2) (by decide), bd_some] at eC
      have fg3 := FG_deep (FG_sk fg2) (x := skC n f (up GB 150 2 (GB 150 2 + 1)) 150 3 - 1) (by omega) (by omega)
      have fs := fg3.2.2.2
      rw [FG_add_e fg3 (by decide) 0 a 0 (by decide) (by decide), bd_some] at eC
      have fx : FX 3 b (up (fT 3 b T4) 100 19 31) := ⟨by simp [fT, up_ap], by simp [fT, up_ap], by decide⟩
      rw [Tw_deeper_f (by omega) F4.1, bd_some, ti_f fx.ne] at eT
      exact ⟨_, _, eC, fs.1, by omega, Or.inl ⟨3, b, _, (FG_add fg3 _ _ _ _).mono (by decide), eT, fx⟩⟩
    · have eat : up GS 150 3 (GS 150 3 + 1) 150 2 = b := by rw [up_k _ (by decide)]; exact aS
      rw [Rd_enter_e (by omega) (by omega) (by omega), bd_some, eat, ckI_p (by omega) (by omega), tk_e] at eC
      have sGa := (sS.ndeep (by omega) (GS 150 3 + 1)).nat (by omega) (b + 1)
      have kGa : ∀ o k, o ≠ 150 → up (up GS 150 3 (GS 150 3 + 1)) 150 2 (b + 1) o k = GA o k := fun o k q => by rw [up_o _ q, up_o _ q]; exact kS o k q
      generalize up (up GS 150 3 (GS 150 3 + 1)) 150 2 (b + 1) = Ga at sGa kGa eC
      rw [dS] at sGa
      rw [Tw_deeper_e (by omega) (by omega) (by omega), bd_some] at eT
      have sTa := t4.ndeep (by omega) (Int.le_refl _) (T4 100 19 + 1)
      have kTa : ∀ o k, o ≠ 100 → up T4 100 19 (T4 100 19 + 1) o k = TA o k := fun o k q => by rw [up_o _ q]; exact k4 o k q
      generalize up T4 100 19 (T4 100 19 + 1) = Ta at sTa kTa eT
      rw [d4] at sTa
      have pa : PR n f Ga Ta := hP.mv sGa sTa (by omega) (by omega) (by omega) (by omega) rfl (by omega) (by omega) (by omega) (by omega) (by omega) (by omega) (by omega) (by omega) (by omega)
      have Na := pa.nums
      have vra : Ta 100 30 = T 100 30 := sTa.1 _ _ (by simp [fS])
      have via : Ta 100 29 = T 100 29 := sTa.1 _ _ (by simp [fS])
      have gra : Ga 150 5 = G 150 5 := sGa.1 _ _ (by simp [fS])
      have gia : Ga 150 4 = G 150 4 := sGa.1 _ _ (by simp [fS])
      obtain ⟨u1, u2, u3, u4, u5⟩ := sGa
      obtain ⟨w1, w2, w3, w4, w5, w6, w7⟩ := sTa
      unfold Tw_ifStatement_b47 at eT
      rw [if_pos Na.2.2.2.2.2.2] at eT
      obtain ⟨G5, e5, R⟩ := ex_okd (P := P) (W := W) 599 (by decide) (by decide) pa
      rw [e5, bd_some] at eC
      rcases R with ⟨w, p, T', fg, lx, fx⟩ | ⟨T5, lx, L3⟩
      · rw [FG_sign fg (by decide) (by decide), bd_some, fl_up (FG_sk fg) (by decide), bd_some] at eC
        have fg3 := FG_deep (FG_sk fg) (x := skC n f G5 150 3 - 1) (by omega) (by omega)
        have fs := fg3.2.2.2
        rw [FG_add_e fg3 (by decide) 0 a 0 (by decide) (by decide), bd_some] at eC
        unfold Tw_ifStatement_b58 Tw_ifStatement_b81 at eT
        rw [lx, bd_some, if_neg fx.ne, if_neg fx.ne] at eT
        exact ⟨_, _, eC, fs.1, by omega, Or.inl ⟨w, p, T', (FG_add fg3 _ _ _ _).mono (by decide), eT, fx⟩⟩
      · have fr := fr_Tw_expression P W Ta (0, T5) lx
        have vr5 : T5 100 30 = T 100 30 := by rw [show T5 100 30 = Ta 100 30 from fr _ _ (by simp [fS])]; exact vra
        have vi5 : T5 100 29 = T 100 29 := by rw [show T5 100 29 = Ta 100 29 from fr _ _ (by simp [fS])]; exact via
        have bk5 : ∀ o k, (o = 128 ∨ o = 129) → T5 o k = Ta o k := fun o k h => fr o k (by rcases h with h | h <;> subst h <;> simp [fS])
        have fr8 := fr_RE 599 0 [] Ga (0, G5) e5
        have gr5 : G5 150 5 = G 150 5 := by rw [show G5 150 5 = Ga 150 5 from fr8 _ _ (by simp [fS])]; exact gra
        have gi5 : G5 150 4 = G 150 4 := by rw [show G5 150 4 = Ga 150 4 from fr8 _ _ (by simp [fS])]; exact gia
        clear fr fr8
        obtain ⟨q1, q2, q3, q4, q5, q6, q7, q8, q9, q10, q11, q12⟩ := L3
        have N5 := q1.nums
        have lw := wf_le q7
        have g5 := sk_ge n f (G5 150 2)
        have g5' := sk_ge n f (T5 100 6)
        obtain ⟨G6, T6, e6, e7, R⟩ := P_sign (c := 41) (by decide) q1
        unfold Tw_ifStatement_b58 Tw_ifStatement_b81 at eT
        rw [lx, bd_some, if_pos N5.2.2.2.2.2.2, e7, bd_some] at eT
        have fr := fr_Tw_sign 41 T5 (0, T6) e7
        have td6 : T6 100 19 = T5 100 19 := fr _ _ (by simp [fS])
        clear fr
        rw [ckI_p (by omega) (by omega), tk_e] at eT
        rw [e6, bd_some] at eC
        rcases R with ⟨r1, p6, r3, r4⟩ | ⟨w, p, fg, fx⟩
        · have lt := lkF_lt (sg_1 r1).1 (by decide)
          obtain ⟨c, hcc⟩ : ∃ c, c = sk n f (G5 150 2) + 1 := ⟨_, rfl⟩
          rw [← hcc] at r3 r4
          have dG6 : G6 150 3 = G5 150 3 := by rw [r3, up_k _ (by decide)]
          have s7 := (CS_at G5 c).ndeep (Int.le_refl _) (G6 150 3 - 1)
          rw [← r3] at s7
          rw [ckI_p (by omega) (by omega), tk_e, bd_some] at eC
          generalize up G6 150 3 (G6 150 3 - 1) = G6' at s7 eC
          rw [dG6] at s7
          have t7 := (TS_at T5 c).ndeep (Int.le_refl _) (Int.le_refl _) (T6 100 19 - 1)
          rw [← r4] at t7
          have F7 := ts_F q1 t7
          have k7 : ∀ o k, o ≠ 100 → up T6 100 19 (T6 100 19 - 1) o k = T5 o k := fun o k q => by rw [up_o _ q, r4, up_o _ q]
          generalize up T6 100 19 (T6 100 19 - 1) = T6' at t7 F7 k7 eT
          rw [td6] at t7
          have m7 := t7.2.2.1
          have z7 := s7.2.2.1
          rw [if_pos F7.1, Tw_put_e (by omega) (by omega), bd_some] at eT
          rw [Cd_add_e (by omega) (by omega) (by decide) (by decide), bd_some, z7] at eC
          have s8 := s7.nad (Int.le_refl _) 13 0 a 0
          have cv8 := adC_v G6' 13 0 a 0
          rw [z7] at cv8
          generalize adC G6' 13 0 a 0 = G7 at s8 cv8 eC
          have t8 := t7.nad (Int.le_refl _) (Int.le_refl _) 35 0 0 a
          have tv8 := adT_v T6' 35 0 0 a
          rw [m7] at tv8 eT
          have k8 : ∀ o k, 115 ≤ o → k < T5 100 13 ∨ 119 < o → adT T6' 35 0 0 a o k = T5 o k := fun o k h1 h2 => by rw [adT_o (by omega) (by omega)]; exact k7 o k (by omega)
          generalize adT T6' 35 0 0 a = T7 at t8 tv8 k8 eT
          have p8 : PR n f G7 T7 := q1.mv s8 t8 (by omega) (by omega) (by omega) (by omega) rfl (by omega) (by omega) (by omega) (by omega) (by omega) (by omega) (by omega) (by omega) (by omega)
          have gr7 : G7 150 5 = G 150 5 := by rw [s8.1 _ _ (by simp [fS])]; exact gr5
          have gi7 : G7 150 4 = G 150 4 := by rw [s8.1 _ _ (by simp [fS])]; exact gi5
          have vr7 : T7 100 30 = T 100 30 := by rw [t8.1 _ _ (by simp [fS])]; exact vr5
          have vi7 : T7 100 29 = T 100 29 := by rw [t8.1 _ _ (by simp [fS])]; exact vi5
          obtain ⟨x1, x2, x3, x4, x5⟩ := s8
          obtain ⟨y1, y2, y3, y4, y5, y6, y7⟩ := t8
          have mm : T7 100 13 - 1 = T5 100 13 := by omega
          refine ⟨G5 110 4, G7, eC, by omega, by omega, Or.inr ⟨T7, by rw [mm]; exact eT, p8, ⟨by omega, by omega⟩, hV.tr gr7 gi7 vr7 vi7, by omega, by omega, by omega, (w7.tr q5 (by omega) (by omega)).tr y7 (by omega) (by omega), ?_, vr7, (u5.tr q6 (by omega) (by omega)).tr x5 (by omega) (by omega), ⟨?_, ?_⟩, ⟨?_, ?_⟩, ?_, ⟨cv8.1, cv8.2.2.1, x3⟩, ⟨?_, ?_, ?_⟩, by omega, by omega, by omega, by omega⟩⟩
          · intro o k h
            rw [k8 o k (by omega) (by omega), bk5 o k h, kTa o k (by omega), kA o k (by omega)]
          · rw [x5 _ _ (by decide) (by decide) (by omega) (by omega), q6 _ _ (by decide) (by decide) (by omega) (by omega), kGa _ _ (by decide)]; exact cv.1
          · rw [x5 _ _ (by decide) (by decide) (by omega) (by omega), q6 _ _ (by decide) (by decide) (by omega) (by omega), kGa _ _ (by decide)]; exact cv.2.2.1
          · rw [k8 _ _ (by decide) (by omega), q5.1 _ _ (by decide) (by omega) (by omega), kTa _ _ (by decide)]; exact v1.1
          · rw [k8 _ _ (by decide) (by omega), q5.1 _ _ (by decide) (by omega) (by omega), kTa _ _ (by decide)]; exact v1.2.2.2
          · have wr := (q7.cg (G1 := G7) (T1 := T7)).2.2 (x5.mono (by omega) (by omega)) (y7.1.mono (by omega) (by omega))
            rw [u3, w3] at wr
            rw [mm]
            exact wr.mono (by omega)
          · rw [mm]; exact tv8.1
          · rw [mm]; exact tv8.2.2.2
          · rw [mm]; exact tv8.2.2.1
        · rw [fl_up fg (by decide), bd_some] at eC
          have fg3 := FG_deep fg (x := G6 150 3 - 1) (by omega) (by omega)
          have fs := fg3.2.2.2
          rw [FG_add_e fg3 (by decide) 0 a 0 (by decide) (by decide), bd_some] at eC
          rw [if_neg (fx.d _).ne] at eT
          exact ⟨_, _, eC, fs.1, by omega, Or.inl ⟨w, p, _, (FG_add fg3 _ _ _ _).mono (by decide), eT, fx.d _⟩⟩
  · rw [if_neg c40, bd_some] at eC
    rw [if_neg c40, if_neg (show ¬ (0 : Int) = 1 by decide)] at eT
    have fg := FG_cs (w := 1) (p := b) hP sS (by omega) (by omega) (by omega) (by omega) (by omega) (by omega) (by decide)
    have fs := fg.2.2.2
    rw [FG_add_e fg (by decide) 0 a 0 (by decide) (by decide), bd_some] at eC
    have fx : FX 1 b (fT 1 b (skT n f T0)) := FX_fT _ (by decide)
    rw [if_neg fx.ne, ti_f fx.ne] at eT
    exact ⟨_, _, eC, fs.1, by omega, Or.inl ⟨1, b, _, (FG_add fg _ _ _ _).mono (by decide), eT, fx⟩⟩
