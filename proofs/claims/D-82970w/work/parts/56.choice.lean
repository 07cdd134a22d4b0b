/-! PLAIN: a choice in an expression -/
theorem top_of {T T1 : St} (h : tb T T1) (hw : 0 < T 100 20) (e : T1 100 20 = T 100 20) {o : Int} (ho : o = 122 ∨ o = 123 ∨ o = 124 ∨ o = 125) : T1 o (T1 100 20 - 1) = T o (T 100 20 - 1) := by
  rw [e]; exact h.2 o _ ho (by omega) (by omega)
theorem ch_ok {n : Int} {f : Int → Int} {P W : Int} {d : Nat} (hd : (d : Int) ≤ 600) (hE : ExprOK n f P W d) {G T G4 T1 T2 : St} {base a : Int} (hP : PR n f G T) (h0 : 0 ≤ base) (hb : base ≤ T 100 20) (htop : T 100 20 = base ∨ (T 122 (T 100 20 - 1) ≠ 2 ∧ T 122 (T 100 20 - 1) ≠ 1)) (hA : AD (G 150 3) + 12 ≤ d) (R1 : Lx P W base 1 T = Lx P W base 0 T1) (R2 : ∀ x y, Tw_reduce base 0 (md T1 x y) = Tw_reduce base 0 (md T2 x y)) (R3 : OKX n f P W G T G4 T2) (R4 : SY n f base T1 T2) (R5 : G4 150 2 = sk n f (G4 150 2)) (ha : G4 150 2 = a) (o0 : opn n f a = 0) (q : lkF n f a = 63) :
    ∃ G', (bd (Rd_enter a G4) fun _ G10 => ckI ((G10 150 2) + 1) <| tk (up G10 150 2 ((G10 150 2) + 1)) fun G11 => bd (RE d 0 [] G11) fun _ G13 => bd (Rd_sign 58 G13) fun _ G15 => bd (RE d 0 [] G15) fun _ G17 => ckI ((G17 150 3) - 1) <| tk (up G17 150 3 ((G17 150 3) - 1)) fun G18 => bd (Cd_add 59 0 a 0 G18) fun _ G20 => some ((0 : Int), G20)) = some (0, G') ∧ (FLX n f (4 * ((d + 1 : Nat) : Int)) P W base G' T ∨ ∃ T1 T2, Lx P W base 1 T = Lx P W base 0 T1 ∧ (∀ x y, Tw_reduceAll base (md T1 x y) = Tw_reduceAll base (md T2 x y)) ∧ OKX n f P W G T G' T2 ∧ SY n f base T1 T2 ∧ opn n f (sk n f (G' 150 2)) = 0 ∧ sg n f (sk n f (G' 150 2)) 63 = 0) := by
  have R3' := R3
  obtain ⟨p1, p2, p3, p4, p5, p6, p7, p8, p9, p10, p11, p12⟩ := R3'
  have N := p1.nums
  have N0 := hP.nums
  unfold AD at hA
  obtain ⟨e, rfl⟩ : ∃ e, d = e + 1 := ⟨d - 1, by omega⟩
  obtain ⟨s1, s2, s3, s4, s5, s6, s7⟩ := R4
  have ea : sk n f (T2 100 6) = a := by rw [← N.1.2.2.2.2, ← R5]; exact ha
  have g3 := sk_ge n f (T2 100 6)
  have sg1 : sg n f a 63 = 1 := by rw [sg_c (by decide) (by decide), if_pos q]
  have lt1 := lkF_lt q (by decide)
  have hr : Tw_reduce base 0 (md T1 a (T1 100 25)) = some (0, md T2 a (T1 100 25)) := by
    rw [R2]
    refine rd_stop (TB_md (TB_of p1) _ _) ?_ h0
    rw [show md T2 a (T1 100 25) 100 20 = T2 100 20 from md_o (by omega), show md T2 a (T1 100 25) 122 (T2 100 20 - 1) = T2 122 (T2 100 20 - 1) from md_o (by omega), p2]
    by_cases z : T 100 20 = base
    · left; omega
    · rcases htop with h | ⟨h, h'⟩
      · exact absurd h z
      · rw [p5.2 122 _ (by decide) (by omega) (by omega)]
        exact Or.inr (Or.inl h')
  have sT3 := TS_md T2 a (T1 100 25)
  have b3 := TB_md (TB_of p1) a (T1 100 25)
  have f3 : md T2 a (T1 100 25) 100 7 = 0 := by rw [md_o (by omega)]; exact N.2.2.2.2.2.2
  generalize md T2 a (T1 100 25) = T3 at hr sT3 b3 f3
  have lx := Lx_q1 (P := P) (W := W) s1 (by omega) (by omega) s3 (by rw [s2]; exact ea) o0 sg1 hr sT3.2.1 b3
  by_cases dp : G4 150 3 = 30
  · obtain ⟨T', lq, fx⟩ := Lx_q3 (P := P) (W := W) (base := base) sT3.2.1 (by omega) (by omega) b3 f3 (by rw [sT3.2.2.2.1]; omega)
    have fg0 : FG n f 0 3 a (fC 3 a G4) := FG_of p1 (by decide) (by simp [fC, up_ap]) (by funext k; simp [fC, up_ap]) (by simp [fC, up_ap]; omega) (by simp [fC, up_ap]; omega) (by simp [fC, up_ap]) (by simp [fC, up_ap]) (by simp [fC, up_ap]) (by simp [fC, up_ap]) (by simp [fC, up_ap]) (by simp [fC, up_ap])
    have e1 : fC 3 a G4 150 3 = 30 := by simp [fC, up_ap, dp]
    have fg1 := FG_deep fg0 (x := 31) (by omega) (by omega)
    have eat : up (fC 3 a G4) 150 3 31 150 2 = a := by simp [fC, up_ap, ha]
    rw [Rd_enter_f dp N.2.2.2.2.2.1, bd_some]
    generalize up (fC 3 a G4) 150 3 31 = G10 at fg1 eat ⊢
    have fg2 := FG_at fg1 (x := a + 1) (by omega) (by omega)
    rw [eat, ckI_p (by omega) (by omega), tk_e, f_expr fg2, bd_some]
    obtain ⟨G', e', fg'⟩ := ch_t1 (d := e) (a := a) fg2 (by omega)
    exact ⟨G', e', Or.inl ⟨3, a, T', fg'.mono (by omega), by rw [R1, lx, lq], fx⟩⟩
  · have lq := Lx_q2 (P := P) (W := W) (base := base) sT3.2.1 (by omega) (by omega) b3 (by rw [sT3.2.2.2.1]; omega)
    have eat : up G4 150 3 (G4 150 3 + 1) 150 2 = a := by rw [up_k _ (by decide)]; exact ha
    have sGa := (CS_deep G4 (G4 150 3 + 1)).nat (Int.le_refl _) (a + 1)
    rw [Rd_enter_e dp (by omega) (by omega), bd_some, eat, ckI_p (by omega) (by omega), tk_e]
    generalize up (up G4 150 3 (G4 150 3 + 1)) 150 2 (a + 1) = Ga at sGa ⊢
    have xw : up T3 100 19 (T3 100 19 + 1) 100 20 = T2 100 20 := by rw [up_k _ (by decide)]; exact sT3.2.2.2.2.1
    have sTa := ((sT3.ndeep (Int.le_refl _) (Int.le_refl _) (T3 100 19 + 1)).nps (Int.le_refl _) (Int.le_refl _) 3 0 a).nat (Int.le_refl _) (by omega) (a + 1)
    have w1 : up (psT (up T3 100 19 (T3 100 19 + 1)) 3 0 a) 100 6 (a + 1) 122 (T2 100 20) = 3 := by rw [up_o _ (by decide), ← xw]; exact (psT_v _ _ _ _).1
    have w3 : up (psT (up T3 100 19 (T3 100 19 + 1)) 3 0 a) 100 6 (a + 1) 124 (T2 100 20) = a := by rw [up_o _ (by decide), ← xw]; exact (psT_v _ _ _ _).2.2.1
    generalize up (psT (up T3 100 19 (T3 100 19 + 1)) 3 0 a) 100 6 (a + 1) = Ta at sTa w1 w3 lq
    rw [sT3.2.2.2.1] at sTa
    have pa : PR n f Ga Ta := p1.mv sGa sTa (by omega) (by omega) (by omega) (by omega) rfl (by omega) (by omega) (by omega) (by omega) (by omega) (by omega) (by omega) (by omega) (by omega)
    have wTa := sTa.2.2.2.2.1
    have wT1 : Ta 100 20 - 1 = T2 100 20 := by omega
    have dGa := sGa.2.2.2.1
    obtain ⟨G5, e5, R⟩ := hE Ga Ta base pa h0 (by omega) (Or.inr ⟨by rw [wT1, w1]; decide, by rw [wT1, w1]; decide⟩) (by unfold AD; omega)
    rw [e5, bd_some]
    rcases R with ⟨w, p, T', fg, lx', fx⟩ | ⟨T1', T5, L1, L2, L3, L4, L5, L6⟩
    · obtain ⟨G', e', fg'⟩ := ch_t1 (d := e) (a := a) fg (by omega)
      exact ⟨G', e', Or.inl ⟨w, p, T', fg'.mono (by omega), by rw [R1, lx, lq, lx'], fx⟩⟩
    · have L3' := L3
      obtain ⟨q1, q2, q3, q4, q5, q6, q7, q8, q9, q10, q11, q12⟩ := L3'
      have N5 := q1.nums
      have tp := top_of q5 (by omega) q2 (o := 122) (by decide)
      have tp3 := top_of q5 (by omega) q2 (o := 124) (by decide)
      rw [wT1, w1] at tp
      rw [wT1, w3] at tp3
      obtain ⟨b, hbb⟩ : ∃ b, b = sk n f (G5 150 2) := ⟨_, rfl⟩
      rw [← hbb] at L5 L6
      have e6 : sk n f (T5 100 6) = b := by rw [hbb, N5.1.2.2.2.2]
      have g5 := sk_ge n f (T5 100 6)
      have g6 := sk_ge n f (G5 150 2)
      have g7 := sk_le (f := f) N5.1.2.1
      have lc := Lx_cl (P := P) (W := W) L4 (by omega) (by omega) e6 L5 L6 L2 (TB_of q1) (Or.inr ⟨by rw [tp]; decide, by rw [tp]; decide⟩) h0
      have mw : md T5 b 0 100 20 = T5 100 20 := md_o (by omega)
      have bb := b51_3 (n := n) (f := f) (base := base) (a := b) (T := md T5 b 0) ((q1.1.2.1.at _ _ (by decide)).at _ _ (by decide)) (by unfold md; rw [up_k _ (by decide), up_s]) (by omega) (by omega) (TB_md (TB_of q1) _ _) (by rw [md_o (by omega)]; exact N5.2.2.2.2.2.2) (by omega) h0 (by rw [mw, md_o (by omega)]; exact tp)
      rw [bb] at lc
      rw [Rd_sign_e (c := 58) (by decide) q1.1.1 (by omega) (by omega), bd_some, if_pos N5.2.2.2.2.2.1, ← hbb]
      by_cases sgc : sg n f b 58 = 1
      · rw [if_pos sgc] at lc
        rw [if_pos sgc]
        have sGb := CS_at G5 (b + 1)
        have lt2 := lkF_lt (sg_1 sgc).1 (by decide)
        generalize up G5 150 2 (b + 1) = Gb at sGb ⊢
        rw [mw] at lc
        have kb : kT T5 (up (up (up (md T5 b 0) 122 (T5 100 20 - 1) 4) 100 6 (b + 1)) 100 25 1) := (((TS_md T5 b 0).1.tr (kT_up (Or.inl (by decide)) _ _)).tr (kT_up (Or.inr (by decide)) _ _)).tr (kT_up (Or.inr (by decide)) _ _)
        have x1 : up (up (up (md T5 b 0) 122 (T5 100 20 - 1) 4) 100 6 (b + 1)) 100 25 1 100 6 = b + 1 := by rw [up_k _ (by decide), up_s]
        have xk : ∀ k, k ≠ 6 → k ≠ 25 → up (up (up (md T5 b 0) 122 (T5 100 20 - 1) 4) 100 6 (b + 1)) 100 25 1 100 k = T5 100 k := fun k k1 k2 => by rw [up_k _ k2, up_k _ k1, up_o _ (by decide), md_o (by omega)]
        have xa : ∀ o k, o ≠ 100 → ¬ (o = 122 ∧ k = T5 100 20 - 1) → up (up (up (md T5 b 0) 122 (T5 100 20 - 1) 4) 100 6 (b + 1)) 100 25 1 o k = T5 o k := fun o k k1 k2 => by rw [up_o _ k1, up_o _ k1, up_ap, if_neg k2, md_o (by omega)]
        have x4 : up (up (up (md T5 b 0) 122 (T5 100 20 - 1) 4) 100 6 (b + 1)) 100 25 1 122 (T5 100 20 - 1) = 4 := by rw [up_o _ (by decide), up_o _ (by decide), up_s]
        have xw' : up (up (up (md T5 b 0) 122 (T5 100 20 - 1) 4) 100 6 (b + 1)) 100 25 1 100 25 = 1 := up_s _ _ _ _
        generalize up (up (up (md T5 b 0) 122 (T5 100 20 - 1) 4) 100 6 (b + 1)) 100 25 1 = Tb at kb x1 xk xa x4 xw' lc
        have lc2 : Lx P W base 0 T1' = Lx P W base 1 Tb := by rw [lc, bd_some, xw']; rfl
        have xm := xk 13 (by decide) (by decide)
        have xd := xk 19 (by decide) (by decide)
        have xww := xk 20 (by decide) (by decide)
        have xb := xk 26 (by decide) (by decide)
        have pb : PR n f Gb Tb := q1.kv sGb kb x1 xm xd xww xb (by omega) (by omega) (by omega) (by omega) rfl (by omega) (by omega) (by omega) (by omega) (by omega) (by omega) (by omega) (by omega) (by omega)
        have dGb := sGb.2.2.2.1
        obtain ⟨G7, e7, R⟩ := hE Gb Tb base pb h0 (by omega) (Or.inr ⟨by rw [xww, x4]; decide, by rw [xww, x4]; decide⟩) (by unfold AD; omega)
        rw [e7, bd_some]
        rcases R with ⟨w, p, T', fg, lx', fx⟩ | ⟨T1'', T7, M1, M2, M3, M4, M5, M6⟩
        · obtain ⟨G', e', fg'⟩ := ch_t3 (a := a) fg (by omega)
          exact ⟨G', e', Or.inl ⟨w, p, T', fg'.mono (by omega), by rw [R1, lx, lq, L1, lc2, lx'], fx⟩⟩
        · have M3' := M3
          obtain ⟨r1, r2, r3, r4, r5, r6, r7, r8, r9, r10, r11, r12⟩ := M3'
          have N7 := r1.nums
          have tq := top_of r5 (by omega) r2 (o := 122) (by decide)
          have tq3 := top_of r5 (by omega) r2 (o := 124) (by decide)
          rw [xww, x4] at tq
          rw [xww, xa _ _ (by decide) (by omega), tp3] at tq3
          have s6 := (CS_deep G7 (G7 150 3 - 1)).nad (Int.le_refl _) 59 0 a 0
          have sz : up G7 150 3 (G7 150 3 - 1) 110 4 = G7 110 4 := up_o _ (by decide)
          have cv := adC_v (up G7 150 3 (G7 150 3 - 1)) 59 0 a 0
          rw [sz] at cv
          rw [ckI_p (by omega) (by omega), tk_e, Cd_add_e (by omega) (by omega) (by decide) (by decide), bd_some]
          generalize adC (up G7 150 3 (G7 150 3 - 1)) 59 0 a 0 = G6 at s6 cv ⊢
          have pv := popS_v T7
          rw [tq3] at pv
          have ok := sel_ok R3 sGa sTa L3 sGb x1 xm xww xb (fun o k k1 k2 k3 => xa o k (by omega) (by omega)) (fun o k k1 k2 k3 => xa o k (by omega) (by omega)) M3 s6 (TS_popS T7) (by omega) (by omega) (by omega) (by omega) (by omega) (by omega) (by omega) cv.1 cv.2.2.1 pv.1 pv.2
          have a6 := s6.2.1
          refine ⟨G6, rfl, Or.inr ⟨T1'', popS T7, by rw [R1, lx, lq, L1, lc2, M1], ?_, ok, M4.pop (TS_popS T7).2.1 (by rw [(TS_popS T7).2.2.2.2.1]; omega), by rw [a6]; exact M5, by rw [a6]; exact M6⟩⟩
          intro x y
          rw [M2 x y, ← popS_md]
          exact ra_pop (TB_md (TB_of r1) _ _) (by rw [md_o (by omega)]; omega) (by rw [show md T7 x y 100 20 = T7 100 20 from md_o (by omega), md_o (by omega)]; exact tq) h0
      · rw [if_neg sgc] at lc
        rw [if_neg sgc]
        have fg0 : FG n f 0 1 b (fC 1 b (skC n f G5)) := FG_of q1 (by decide) (by simp [fC, skC, up_ap]) (by funext k; simp [fC, skC, up_ap]) (by simp [fC, skC, up_ap]; omega) (by simp [fC, skC, up_ap]; omega) (by simp [fC, skC, up_ap]) (by simp [fC, skC, up_ap]) (by simp [fC, skC, up_ap]) (by simp [fC, skC, up_ap]) (by simp [fC, skC, up_ap]) (by simp [fC, skC, up_ap])
        obtain ⟨G', e', fg'⟩ := ch_t2 (d := e) (a := a) fg0 (by omega)
        obtain ⟨T', lf, fx⟩ := Lx_fx (P := P) (W := W) (base := base) (w := fT 1 b (md T5 b 0) 100 25) (x := 1) (FX_fT (p := b) (md T5 b 0) (show (0 : Int) < 1 by decide))
        exact ⟨G', e', Or.inl ⟨1, b, T', fg'.mono (by omega), by rw [R1, lx, lq, L1, lc, bd_some]; exact lf, fx⟩⟩
theorem ExprOK_s {n : Int} {f : Int → Int} {P W : Int} {d : Nat} (hd : (d : Int) ≤ 600) (hR : RowOK n f P W d) (hE : ExprOK n f P W d) : ExprOK n f P W (d + 1) := by
  intro G T base hP h0 hb htop hA
  have N := hP.nums
  show ∃ G', Rd_expr (RE d) G = some (0, G') ∧ _
  unfold Rd_expr
  rw [Ft_is_0 N.2.2.2.2.2.1, bd_some, if_pos rfl]
  obtain ⟨G4, e, R⟩ := hR G T base 0 hP h0 hb (by omega) (by omega) (by rcases htop with h | ⟨h, h'⟩; exact Or.inl h; exact Or.inr ⟨h, Or.inl h'⟩) (by omega)
  rw [e, bd_some]
  rcases R with ⟨w, p, T', fg, lx', fx⟩ | ⟨T1, T2, R1, R2, R3, R4, R5, R6⟩
  · exact ⟨G4, by rw [Ft_is_1 (FG_F fg), bd_some, if_neg (by decide)], Or.inl ⟨w, p, T', fg.mono (by omega), lx', fx⟩⟩
  · have N4 := R3.1.nums
    have o0 : opn n f (G4 150 2) = 0 := by
      have r := opn_r n f (G4 150 2)
      have r2 := rkF_r r.1 r.2.1
      omega
    rw [Ft_is_0 N4.2.2.2.2.2.1, bd_some, if_pos rfl, Rd_isSign_e R3.1.1.1 (by omega) (by omega) 63, bd_some, skC_fix R5.symm, ← R5]
    by_cases q : lkF n f (G4 150 2) = 63
    · rw [if_pos q, if_neg (by decide)]
      exact ch_ok hd hE hP h0 hb htop (by omega) R1 (fun x y => R2 x y 0 (by omega)) R3 R4 R5 rfl o0 q
    · rw [if_neg q, if_pos rfl]
      exact ⟨G4, rfl, Or.inr ⟨T1, T2, R1, fun x y => ra_red (R2 x y 0 (by omega)), R3, R4, by rw [← R5]; exact o0, by rw [← R5, sg_c (by decide) (by decide), if_neg q]⟩⟩
