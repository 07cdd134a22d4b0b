/-! PLAIN: operands in round brackets -/
theorem ar_e {n : Int} {f : Int → Int} {b : Int} {G0 : St} (Rf : Nat → List Int → St → Option (Int × St)) (hC : CT n f G0) (a0 : 0 ≤ G0 150 2) (hb : sk n f (G0 150 2) = b) (b1 : b ≤ n) (hF : G0 130 0 = 0) : Rd_around Rf G0 = if lkF n f b = 40 then (bd (Rd_enter b (skC n f G0)) fun _ G8 => ckI ((G8 150 2) + 1) <| tk (up G8 150 2 ((G8 150 2) + 1)) fun G9 => bd (Rf 0 [] G9) fun _ G11 => bd (Rd_sign 41 G11) fun _ G13 => ckI ((G13 150 3) - 1) <| tk (up G13 150 3 ((G13 150 3) - 1)) fun G14 => some (0, G14)) else some (0, fC 1 b (skC n f G0)) := by
  have hn := hC.2.2.1
  have g := sk_ge n f (G0 150 2)
  have eF : skC n f G0 130 0 = 0 := by rw [skC_o _ _ _ _ (by decide)]; exact hF
  have eA : skC n f G0 150 2 = b := by rw [skC_at]; exact hb
  unfold Rd_around
  rw [Rd_skip_e hC a0, bd_some, show up G0 150 2 (sk n f (G0 150 2)) = skC n f G0 from rfl, Ft_is_0 eF, bd_some, if_pos rfl, Rd_look_e (skC_CT hC) (by rw [eA]; omega) (by rw [eA]; omega) (Int.le_refl 0) (by decide), bd_some, eA, Int.add_zero, Rd_bad_e eF, bd_some, eA]
theorem op_ar {n : Int} {f : Int → Int} {P W base a b y K o1 o2 : Int} {e : Nat} (hd : (e : Int) ≤ 600) (hE : ExprOK n f P W e) {G T G0 : St} (hP : PR n f G T) (h0 : 0 ≤ base) (hb : base ≤ T 100 20) (hA : AD (G 150 3) ≤ e + 3) (eb : sk n f (G0 150 2) = b) (a0 : 0 ≤ G0 150 2) (gb : G 150 2 ≤ b) (tb' : T 100 6 ≤ b) (bn : b < n) (l40 : lkF n f b = 40) (sG : CS G (skC n f G0) b (G 110 4 + 1) (G 150 3)) (v0 : skC n f G0 111 (G 110 4) = o1) (hK : (y = 5 ∧ o1 = 36 ∧ o2 = 37 ∧ K = 15) ∨ (y = 8 ∧ o1 = 31 ∧ o2 = 32 ∧ K = 10))
    (hop1 : G 150 3 = 30 → ∃ T', Lx P W base 1 T = some (0, T') ∧ FX 3 b T') (hop2 : G 150 3 ≠ 30 → ∃ Ta, Lx P W base 1 T = Lx P W base 1 Ta ∧ TS T Ta (b + 1) (T 100 13 + 1) (T 100 19 + 1) (T 100 20 + 1) ∧ Ta 122 (T 100 20) = y ∧ Ta 124 (T 100 20) = a ∧ Ta 115 (T 100 13) = 1) :
    OpOK n f P W base (4 * e + 8) G T (bd (Rd_around (RE e) G0) fun _ G51 => bd (Cd_add o2 0 a 0 G51) fun _ G53 => some (0, G53)) := by
  have N := hP.nums
  have F := cs_F hP sG
  have o2b : 0 ≤ o2 ∧ o2 < 61 := by clear hop1 hop2; omega
  unfold AD at hA
  obtain ⟨e', rfl⟩ : ∃ e', e = e' + 1 := ⟨e - 1, by omega⟩
  have hF0 : G0 130 0 = 0 := by rw [← skC_o n f G0 _ (by decide)]; exact F.1
  have hC0 : CT n f G0 := F.2.cg (by rw [skC_k _ _ _ _ (by decide)]) (by funext k; rw [skC_o _ _ _ _ (by decide)])
  rw [ar_e _ hC0 a0 eb (by omega) hF0, if_pos l40]
  generalize skC n f G0 = GA at sG v0 F ⊢
  by_cases dp : G 150 3 = 30
  · obtain ⟨T', lf, fx'⟩ := hop1 dp
    rw [dp] at sG
    obtain ⟨GB, e1, fg1, eat⟩ := en_f (p := b) hP sG (by omega) (by omega) (by omega) (by omega)
    have fg2 := FG_at fg1 (x := GB 150 2 + 1) (by omega) (by omega)
    rw [e1, bd_some, ckI_p (by omega) (by omega), tk_e, f_expr fg2, bd_some, FG_sign fg2 (by omega) (by decide), bd_some]
    have fg3 := FG_deep (FG_sk fg2) (x := skC n f (up GB 150 2 (GB 150 2 + 1)) 150 3 - 1) (by omega) (by omega)
    rw [fl_up (FG_sk fg2) (by omega), bd_some, FG_add_e fg3 (by omega) 0 a 0 o2b.1 o2b.2, bd_some]
    exact ⟨_, rfl, Or.inl ⟨3, b, T', (FG_add fg3 _ _ _ _).mono (by omega), lf, fx'⟩⟩
  · obtain ⟨Ta, lx, sTa, w1, w3, k1⟩ := hop2 dp
    have dA := sG.2.2.2.1
    have sGa := (sG.ndeep (by omega) (GA 150 3 + 1)).nat (by omega) (b + 1)
    have eat : up GA 150 3 (GA 150 3 + 1) 150 2 = b := by rw [up_k _ (by decide)]; exact sG.2.1
    have v0' : up (up GA 150 3 (GA 150 3 + 1)) 150 2 (b + 1) 111 (G 110 4) = o1 := by rw [up_o _ (by decide), up_o _ (by decide)]; exact v0
    rw [Rd_enter_e (by omega) (by omega) (by omega), bd_some, eat, ckI_p (by omega) (by omega), tk_e]
    generalize up (up GA 150 3 (GA 150 3 + 1)) 150 2 (b + 1) = Ga at sGa v0' ⊢
    rw [dA] at sGa
    have pa : PR n f Ga Ta := hP.mv sGa sTa (by omega) (by omega) (by omega) (by omega) rfl (by omega) (by omega) (by omega) (by omega) (by omega) (by omega) (by omega) (by omega) (by omega)
    have wTa := sTa.2.2.2.2.1
    have wT1 : Ta 100 20 - 1 = T 100 20 := by omega
    have dGa := sGa.2.2.2.1
    obtain ⟨G5, G6, e5, e6, R⟩ := br_ok hd hE (base := base) (y := y) (c := 41) (K := K) pa h0 (by omega) (by rw [wT1]; exact w1) (by clear hop1 hop2; omega) (by unfold AD; omega)
    rw [e5, bd_some, e6, bd_some]
    rcases R with ⟨w, p, T', fg, lx', fx⟩ | ⟨T5, bb, hbb, bbn, eG6, L3, L1⟩
    · have fg3 := FG_deep fg (x := G6 150 3 - 1) (by omega) (by omega)
      rw [fl_up fg (by omega), bd_some, FG_add_e fg3 (by omega) 0 a 0 o2b.1 o2b.2, bd_some]
      exact ⟨_, rfl, Or.inl ⟨w, p, T', (FG_add fg3 _ _ _ _).mono (by omega), by rw [lx, lx'], fx⟩⟩
    · have q1 := L3.1
      have q2 := L3.2.1
      have q5 := L3.2.2.2.2.1
      have N5 := q1.nums
      have g5 := sk_ge n f (G5 150 2)
      have g6 := sk_ge n f (T5 100 6)
      have q4 := L3.2.2.2.1
      have tp3 := top_of q5 (by omega) q2 (o := 124) (by decide)
      rw [wT1, w3] at tp3
      have s6 := (CS_at G5 (bb + 1)).ndeep (Int.le_refl _) (G6 150 3 - 1)
      rw [← eG6] at s6
      have d6 : G6 150 3 = G5 150 3 := by rw [eG6, up_k _ (by decide)]
      rw [d6] at s6
      have s7 := s6.nad (Int.le_refl _) o2 0 a 0
      have z6 := s6.2.2.1
      have cv := adC_v (up G6 150 3 (G5 150 3 - 1)) o2 0 a 0
      rw [z6] at cv
      rw [ckI_p (by omega) (by omega), tk_e, bd_some, d6, Cd_add_e (by omega) (by omega) o2b.1 o2b.2, bd_some]
      generalize adC (up G6 150 3 (G5 150 3 - 1)) o2 0 a 0 = G7 at s7 cv ⊢
      have t6 := clT_TS (n := n) (f := f) (T := T5) bb K (if y = 6 then T5 123 (T5 100 20 - 1) else 0)
      have tv := clT_v T5 bb K (if y = 6 then T5 123 (T5 100 20 - 1) else 0)
      rw [tp3] at tv
      generalize clT (md T5 bb 0) K (if y = 6 then T5 123 (T5 100 20 - 1) else 0) = T6 at t6 tv L1
      obtain ⟨ok, aC, aT, wf, z1, z2, z3, z4⟩ := br_asm hP sGa sTa L3 s7 t6 (by omega) (by omega) (by omega) (by rw [hbb, N5.1.2.2.2.2]; omega) (by omega) (by omega) (by omega) (by omega) (by omega)
      refine ⟨G7, rfl, Or.inr ⟨T6, by rw [lx, L1], ok.ok ?_ ?_⟩⟩
      · rw [z1, z2]
        have r1 : G7 111 (G 110 4) = o1 := by rw [aC 111 _ (by decide) (by decide) (by omega) (by omega)]; exact v0'
        have r2 : T6 115 (T 100 13) = 1 := by rw [aT _ _ (by decide) (by omega) (by omega)]; exact k1
        rcases hK with ⟨h1, h2, h3, h4⟩ | ⟨h1, h2, h3, h4⟩
        · exact wf_par P W _ _ _ _ _ _ _ _ (by rw [r1, h2]) r2 wf (by omega) (by rw [cv.1, h3]) (by rw [tv.1, h4]) (by rw [tv.2.2, cv.2.2.1])
        · exact wf_int P W _ _ _ _ _ _ _ _ (by rw [r1, h2]) r2 wf (by omega) (by rw [cv.1, h3]) (by rw [tv.1, h4]) (by rw [tv.2.2, cv.2.2.1])
      · rw [z2, show T5 100 13 + 1 - 1 = T5 100 13 by omega, tv.1]; clear hop1 hop2; omega
theorem op_par {n : Int} {f : Int → Int} {P W base a : Int} {e : Nat} (hd : (e : Int) ≤ 600) (hE : ExprOK n f P W e) {G T : St} (hP : PR n f G T) (h0 : 0 ≤ base) (hb : base ≤ T 100 20) (hA : AD (G 150 3) ≤ e + 2) (ea : G 150 2 = a) (et : T 100 6 = a) (hsk : sk n f a = a) (an : a < n) (l40 : lkF n f a = 40)
    (hto : Tw_takeOperand P W T = (bd (Tw_put 1 0 0 a T) fun _ G88 => bd (Tw_deeper a G88) fun _ G90 => bd (Tw_push 5 0 a G90) fun _ G92 => ckI ((G92 100 6) + 1) <| tk (up G92 100 6 ((G92 100 6) + 1)) fun G93 => ckB 0 2 (some (0, G93)))) :
    OpOK n f P W base (4 * e + 8) G T (bd (Cd_add 36 0 a 0 G) fun _ G49 => bd (RE (e + 1) 3 [] G49) fun _ G51 => bd (Cd_add 37 0 a 0 G51) fun _ G53 => some (0, G53)) := by
  have N := hP.nums
  rw [Cd_add_e (by omega) (by omega) (by decide) (by decide), bd_some]
  have cv := adC_v G 36 0 a 0
  have sA := CS_ad G 36 0 a 0
  have sG := sA.nsk (by omega) n f
  rw [ea, hsk] at sG
  have tv := adT_v T 1 0 0 a
  have sT := TS_ad T 1 0 0 a
  rw [Tw_put_e (by omega) (by omega), bd_some] at hto
  have e1 : adC G 36 0 a 0 150 2 = a := by rw [sA.2.1]; exact ea
  have v0 : skC n f (adC G 36 0 a 0) 111 (G 110 4) = 36 := by rw [skC_o _ _ _ _ (by decide)]; exact cv.1
  generalize adC G 36 0 a 0 = G0 at sG e1 v0 ⊢
  generalize adT T 1 0 0 a = X at sT tv hto
  obtain ⟨x1, x2, x3, x4, x5, x6, x7⟩ := sT
  have FT := ts_F hP ⟨x1, x2, x3, x4, x5, x6, x7⟩
  have bX : TB X := ⟨by omega, by omega, by omega, by omega, by omega, by omega⟩
  simp only [ckB_p (show (0 : Int) ≤ 0 by decide) (show (0 : Int) < 2 by decide)] at hto
  refine op_ar hd hE hP h0 hb (by omega) (by rw [e1]; exact hsk) (by omega) (by omega) (by omega) an l40 sG v0 (Or.inl ⟨rfl, rfl, rfl, rfl⟩) ?_ ?_
  · intro dp
    obtain ⟨Y, e2, fx⟩ := tw_of (p := a) (k := 5) (u := 0) (q := a) (fun G3 => some ((0 : Int), G3)) bX (by omega) (by omega) FT.1 (by omega)
    obtain ⟨T', lf, fx'⟩ := Lx_fx (P := P) (W := W) (base := base) (w := 1) (x := 0) fx
    exact ⟨T', by rw [Lx_t0 N.2.2.2.2.2.2 (hto.trans e2)]; exact lf, fx'⟩
  · intro dp
    have e2 := tw_op (p := a) (k := 5) (u := 0) (q := a) (fun G3 => some ((0 : Int), G3)) bX (by omega) (by omega) (show X 100 19 ≠ 30 by omega)
    have lx := Lx_t0 (base := base) N.2.2.2.2.2.2 (hto.trans e2)
    have xw : up X 100 19 (X 100 19 + 1) 100 20 = T 100 20 := by rw [up_k _ (by decide)]; exact x5
    have sTa := (((show TS T X _ _ _ _ from ⟨x1, x2, x3, x4, x5, x6, x7⟩).ndeep (by omega) (Int.le_refl _) (X 100 19 + 1)).nps (by omega) (Int.le_refl _) 5 0 a).nat (by omega) (by omega) (X 100 6 + 1)
    rw [x4, x2, et] at sTa
    rw [x4, x2, et] at lx
    rw [x4] at xw
    refine ⟨_, lx, sTa, ?_, ?_, ?_⟩
    · rw [up_o _ (by decide), ← xw]; exact (psT_v _ _ _ _).1
    · rw [up_o _ (by decide), ← xw]; exact (psT_v _ _ _ _).2.2.1
    · rw [up_o _ (by decide), psT_o (by omega) (by omega), up_o _ (by decide)]; exact tv.1
