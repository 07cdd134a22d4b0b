/-! PLAIN: operands: names with brackets -/
theorem tw_op2 {n : Int} {f : Int → Int} {b K z a kk m d w : Int} {u : Int → Int} {T X : St} {α : Type} (R : St → Option α) (sX : TS T X b m d w) (hm : T 100 13 ≤ m) (hw : T 100 20 ≤ w) (bX : TB X) (b0 : 0 ≤ b) (b1 : b ≤ 3000) (hT : TT n f X) :
    (X 100 19 ≠ 30 → ∃ Y, (bd (Tw_deeper b X) fun _ G74 => ckI ((G74 100 6) + 1) <| tk (up G74 100 6 ((G74 100 6) + 1)) fun G75 => bd (Tw_put K z 0 a G75) fun z76 G77 => bd (Tw_push kk (u z76) a G77) fun _ G79 => R G79) = R Y ∧ TS T Y (b + 1) (m + 1) (d + 1) (w + 1) ∧ (Y 122 w = kk ∧ Y 123 w = u m ∧ Y 124 w = a ∧ Y 125 w = 0) ∧ (Y 115 m = K ∧ Y 116 m = z ∧ Y 118 m = a) ∧ (∀ o k, 115 ≤ o → o ≤ 119 → k < m → Y o k = X o k)) ∧
    (X 100 19 = 30 → X 100 7 = 0 → ∃ Y, (bd (Tw_deeper b X) fun _ G74 => ckI ((G74 100 6) + 1) <| tk (up G74 100 6 ((G74 100 6) + 1)) fun G75 => bd (Tw_put K z 0 a G75) fun z76 G77 => bd (Tw_push kk (u z76) a G77) fun _ G79 => R G79) = R Y ∧ FX 3 b Y ∧ Y 100 20 = w + 1 ∧ Y 122 w = kk ∧ Y 100 6 = b + 1 ∧ TT n f Y) := by
  have sX' := sX
  obtain ⟨x1, x2, x3, x4, x5, x6, x7⟩ := sX'
  obtain ⟨b1', b2, b3, b4, b5, b6⟩ := bX
  refine ⟨?_, ?_⟩
  · intro dp
    have s1 := sX.ndeep hm hw (X 100 19 + 1)
    rw [Tw_deeper_e dp (by omega) (by omega), bd_some]
    have k1 : ∀ o k, 115 ≤ o → up X 100 19 (X 100 19 + 1) o k = X o k := fun o k q => up_o _ (by omega)
    generalize up X 100 19 (X 100 19 + 1) = X1 at s1 k1 ⊢
    rw [x4] at s1
    have a1 := s1.2.1
    rw [a1, ckI_p (by omega) (by omega), tk_e]
    have s2 := s1.nat hm hw (b + 1)
    have k2 : ∀ o k, 115 ≤ o → up X1 100 6 (b + 1) o k = X o k := fun o k q => by rw [up_o _ (by omega)]; exact k1 o k q
    generalize up X1 100 6 (b + 1) = X2 at s2 k2 ⊢
    have m2 := s2.2.2.1
    rw [Tw_put_e (by omega) (by omega), bd_some]
    have s3 := s2.nad hm hw K z 0 a
    have v3 := adT_v X2 K z 0 a
    have k3 : ∀ o k, 115 ≤ o → o ≤ 119 → k < m → adT X2 K z 0 a o k = X o k := fun o k q q2 q3 => by rw [adT_o (by omega) (by omega)]; exact k2 o k q
    rw [m2] at v3 ⊢
    generalize adT X2 K z 0 a = X3 at s3 v3 k3 ⊢
    have w3 := s3.2.2.2.2.1
    rw [Tw_push_e (by omega) (by omega), bd_some]
    have s4 := s3.nps (by omega) hw kk (u m) a
    have pv := psT_v X3 kk (u m) a
    rw [w3] at pv
    exact ⟨_, rfl, s4, pv, ⟨by rw [psT_o (by omega) (by omega)]; exact v3.1, by rw [psT_o (by omega) (by omega)]; exact v3.2.1, by rw [psT_o (by omega) (by omega)]; exact v3.2.2.2⟩, fun o k q1 q2 q3 => by rw [psT_o (by omega) (by omega)]; exact k3 o k q1 q2 q3⟩
  · intro dp hF
    rw [Tw_deeper_f dp hF, bd_some]
    have e1 : up (fT 3 b X) 100 19 31 100 7 = 3 := by simp [fT, up_ap]
    have e2 : up (fT 3 b X) 100 19 31 100 8 = b := by simp [fT, up_ap]
    have e3 : up (fT 3 b X) 100 19 31 100 20 = w := by simp [fT, up_ap]; exact x5
    have e4 : up (fT 3 b X) 100 19 31 100 13 = m := by simp [fT, up_ap]; exact x3
    have e5 : up (fT 3 b X) 100 19 31 100 6 = b := by simp [fT, up_ap]; exact x2
    have e6 : TT n f (up (fT 3 b X) 100 19 31) := hT.cg (by simp [fT, up_ap]) (by funext k; simp [fT, up_ap])
    generalize up (fT 3 b X) 100 19 31 = X1 at e1 e2 e3 e4 e5 e6 ⊢
    rw [e5, ckI_p (by omega) (by omega), tk_e]
    have f1 : up X1 100 6 (b + 1) 100 7 = 3 := by rw [up_k _ (by decide)]; exact e1
    have f2 : up X1 100 6 (b + 1) 100 8 = b := by rw [up_k _ (by decide)]; exact e2
    have f3 : up X1 100 6 (b + 1) 100 20 = w := by rw [up_k _ (by decide)]; exact e3
    have f4 : up X1 100 6 (b + 1) 100 13 = m := by rw [up_k _ (by decide)]; exact e4
    have f5 : up X1 100 6 (b + 1) 100 6 = b + 1 := up_s _ _ _ _
    have f6 : TT n f (up X1 100 6 (b + 1)) := e6.at _ _ (by decide)
    generalize up X1 100 6 (b + 1) = X2 at f1 f2 f3 f4 f5 f6 ⊢
    rw [Tw_put_e (by omega) (by omega), bd_some]
    have g3 : adT X2 K z 0 a 100 20 = w := by rw [adT_o (by omega) (by omega)]; exact f3
    have pv := psT_v (adT X2 K z 0 a) kk (u (X2 100 13)) a
    rw [g3] at pv
    rw [Tw_push_e (by omega) (by omega), bd_some]
    refine ⟨_, rfl, ⟨?_, ?_, by decide⟩, ?_, pv.1, ?_, ?_⟩
    · rw [psT_o (by omega) (by omega), adT_o (by omega) (by omega)]; exact f1
    · rw [psT_o (by omega) (by omega), adT_o (by omega) (by omega)]; exact f2
    · rw [psT_s, g3]
    · rw [psT_o (by omega) (by omega), adT_o (by omega) (by omega)]; exact f5
    · exact f6.cg (by rw [psT_o (by omega) (by omega), adT_o (by omega) (by omega)]) (by funext k; rw [psT_o (by omega) (by omega), adT_o (by omega) (by omega)])
theorem op_elem {n : Int} {f : Int → Int} {P W base a b z : Int} {e : Nat} (hd : (e : Int) ≤ 600) (hE : ExprOK n f P W e) {G1 T1 T X2 : St} (hP : PR n f G1 T1) (h0 : 0 ≤ base) (hb : base ≤ T1 100 20) (hA : AD (G1 150 3) ≤ e + 2) (eb : sk n f (G1 150 2) = b) (bn : b < n) (hF : T 100 7 = 0) (sX : TS T1 X2 b (T1 100 13 + 1) (T1 100 19) (T1 100 20)) (kX : X2 115 (T1 100 13) = 1)
    (hto : Tw_takeOperand P W T = (bd (Tw_deeper b X2) fun _ G74 => ckI ((G74 100 6) + 1) <| tk (up G74 100 6 ((G74 100 6) + 1)) fun G75 => bd (Tw_put 6 z 0 a G75) fun _ G77 => bd (Tw_push 6 z a G77) fun _ G79 => some (0, G79))) :
    ∃ G', (bd (Cd_add 26 z a 0 (skC n f G1)) fun _ G14 => bd (Rd_enter (G14 150 2) G14) fun _ G16 => ckI ((G16 150 2) + 1) <| tk (up G16 150 2 ((G16 150 2) + 1)) fun G17 => bd (RE e 0 [] G17) fun _ G19 => bd (Rd_sign 93 G19) fun _ G21 => ckI ((G21 150 3) - 1) <| tk (up G21 150 3 ((G21 150 3) - 1)) fun G22 => bd (Cd_add 27 z a 0 G22) fun _ G24 => some ((0 : Int), G24)) = some (0, G') ∧ (FLX n f (4 * e + 8) P W base G' T ∨ ∃ T6, Lx P W base 1 T = KS P W base T6 ∧ OKX n f P W G1 T1 G' T6) := by
  have N := hP.nums
  unfold AD at hA
  obtain ⟨e', rfl⟩ : ∃ e', e = e' + 1 := ⟨e - 1, by omega⟩
  have g := sk_ge n f (G1 150 2)
  have g' := sk_ge n f (T1 100 6)
  have sS := CS_sk n f G1
  rw [eb] at sS
  have zS := sS.2.2.1
  rw [Cd_add_e (by omega) (by omega) (by decide) (by decide), bd_some]
  have sA := sS.nad (Int.le_refl _) 26 z a 0
  have cv := adC_v (skC n f G1) 26 z a 0
  rw [zS] at cv
  generalize adC (skC n f G1) 26 z a 0 = GA at sA cv ⊢
  have aA := sA.2.1
  have dA := sA.2.2.2.1
  rw [aA]
  have x2 := sX.2.1
  have x3 := sX.2.2.1
  have x4 := sX.2.2.2.1
  have x5 := sX.2.2.2.2.1
  have FX2 := ts_F hP sX
  have bX : TB X2 := ⟨by omega, by omega, by omega, by omega, by omega, by omega⟩
  obtain ⟨o1, o2⟩ := tw_op2 (K := 6) (z := z) (a := a) (kk := 6) (u := fun _ => z) (fun G79 => some ((0 : Int), G79)) sX (by omega) (Int.le_refl _) bX (by omega) (by omega) FX2.2
  by_cases dp : G1 150 3 = 30
  · obtain ⟨Y, e2, fx, y1, y2, y3, y4⟩ := o2 (by omega) FX2.1
    obtain ⟨T', lf, fx'⟩ := Lx_fx (P := P) (W := W) (base := base) (w := 1) (x := 0) fx
    rw [dp] at sA
    obtain ⟨GB, e1, fg1, eat⟩ := en_f (p := b) hP sA (by omega) (by omega) (by omega) (by omega)
    have fg2 := FG_at fg1 (x := GB 150 2 + 1) (by omega) (by omega)
    rw [e1, bd_some, ckI_p (by omega) (by omega), tk_e, f_expr fg2, bd_some, FG_sign fg2 (by omega) (by decide), bd_some]
    obtain ⟨G', e3, fg3⟩ := fl_da (op := 27) (x := z) (a := a) (m := 0) (FG_sk fg2) (by omega) (by decide) (by decide)
    exact ⟨G', e3, Or.inl ⟨3, b, T', fg3.mono (by omega), by rw [Lx_t0 hF (hto.trans e2)]; exact lf, fx'⟩⟩
  · obtain ⟨Ta, e2, sTa, ⟨w1, w2, w3, w4⟩, ⟨k1, k2, k3⟩, kB⟩ := o1 (by omega)
    rw [show T1 100 13 + 1 + 1 = T1 100 13 + 2 by omega] at sTa
    have lx := Lx_t0 (base := base) hF (hto.trans e2)
    have k0 : Ta 115 (T1 100 13) = 1 := by rw [kB _ _ (by decide) (by decide) (by omega)]; exact kX
    have sGa := (sA.ndeep (by omega) (GA 150 3 + 1)).nat (by omega) (b + 1)
    have eat : up GA 150 3 (GA 150 3 + 1) 150 2 = b := by rw [up_k _ (by decide)]; exact aA
    have cw : ∀ o k, o ≠ 150 → up (up GA 150 3 (GA 150 3 + 1)) 150 2 (b + 1) o k = GA o k := fun o k q => by rw [up_o _ q, up_o _ q]
    rw [Rd_enter_e (by omega) (by omega) (by omega), bd_some, eat, ckI_p (by omega) (by omega), tk_e]
    generalize up (up GA 150 3 (GA 150 3 + 1)) 150 2 (b + 1) = Ga at sGa cw ⊢
    rw [dA] at sGa
    have pa : PR n f Ga Ta := hP.mv sGa sTa (by omega) (by omega) (by omega) (by omega) rfl (by omega) (by omega) (by omega) (by omega) (by omega) (by omega) (by omega) (by omega) (by omega)
    have wTa := sTa.2.2.2.2.1
    have wT1 : Ta 100 20 - 1 = T1 100 20 := by omega
    have dGa := sGa.2.2.2.1
    obtain ⟨G5, G6, e5, e6, R⟩ := br_ok hd hE (base := base) (y := 6) (c := 93) (K := 7) pa h0 (by omega) (by rw [wT1]; exact w1) (by omega) (by unfold AD; omega)
    rw [e5, bd_some, e6, bd_some]
    rcases R with ⟨w, p, T', fg, lx', fx⟩ | ⟨T5, bb, hbb, bbn, eG6, L3, L1⟩
    · obtain ⟨G', e3, fg3⟩ := fl_da (op := 27) (x := z) (a := a) (m := 0) fg (by omega) (by decide) (by decide)
      exact ⟨G', e3, Or.inl ⟨w, p, T', fg3.mono (by omega), by rw [lx, lx'], fx⟩⟩
    · have q1 := L3.1
      have q2 := L3.2.1
      have q5 := L3.2.2.2.2.1
      have q4 := L3.2.2.2.1
      have N5 := q1.nums
      have g5 := sk_ge n f (G5 150 2)
      have g6 := sk_ge n f (T5 100 6)
      have tp2 := top_of q5 (by omega) q2 (o := 123) (by decide)
      have tp3 := top_of q5 (by omega) q2 (o := 124) (by decide)
      rw [wT1, w2] at tp2
      rw [wT1, w3] at tp3
      have s5 := CS_at G5 (bb + 1)
      rw [← eG6] at s5
      have y2 := s5.2.1
      have y3 := s5.2.2.1
      have y4 := s5.2.2.2.1
      obtain ⟨G7, e3, s7, v1, v2, v3, v4⟩ := ok_da (op := 27) (x := z) (a := a) (m := 0) (G := G6) (by omega) (by omega) (by omega) (by omega) (by decide) (by decide)
      have s8 := s5.tr s7 (Int.le_refl _)
      rw [y2, y3, y4] at s8
      rw [y3] at v1 v2 v3
      rw [if_pos rfl, tp2] at L1
      have t6 := clT_TS (n := n) (f := f) (T := T5) bb 7 z
      have tv := clT_v T5 bb 7 z
      rw [tp3] at tv
      generalize clT (md T5 bb 0) 7 z = T6 at t6 tv L1
      obtain ⟨ok, aC, aT, wf, z1, z2, z3, z4⟩ := br_asm hP sGa sTa L3 s8 t6 (by omega) (by omega) (by omega) (by rw [hbb, N5.1.2.2.2.2]; omega) (by omega) (by omega) (by omega) (by omega) (by omega)
      refine ⟨G7, e3, Or.inr ⟨T6, by rw [lx, L1], ok.ok ?_ ?_⟩⟩
      · rw [z1, z2]
        have r : ∀ o, 111 ≤ o → o ≤ 114 → G7 o (G1 110 4) = GA o (G1 110 4) := fun o q q2 => by rw [aC o _ q q2 (by omega) (by omega)]; exact cw o _ (by omega)
        have r2 : ∀ o k, 115 ≤ o → o ≤ 119 → 0 ≤ k → k < T1 100 13 + 2 → T6 o k = Ta o k := fun o k q q2 q3 q4 => aT o k (by omega) q3 q4
        refine wf_elem P W _ _ _ _ _ _ _ _ (by rw [r _ (by decide) (by decide)]; exact cv.1) (by rw [r2 _ _ (by decide) (by decide) (by omega) (by omega)]; exact k0) (by rw [r2 _ _ (by decide) (by decide) (by omega) (by omega)]; exact k1) (by rw [r2 _ _ (by decide) (by decide) (by omega) (by omega), r _ (by decide) (by decide), k2, cv.2.1]) (by rw [r2 _ _ (by decide) (by decide) (by omega) (by omega), r _ (by decide) (by decide), k3, cv.2.2.1]) wf (by omega) v1 ?_ ?_ tv.1 ?_ ?_
        · rw [v2, r _ (by decide) (by decide), cv.2.1]
        · rw [v3, r _ (by decide) (by decide), cv.2.2.1]
        · rw [tv.2.1, r _ (by decide) (by decide), cv.2.1]
        · rw [tv.2.2, r _ (by decide) (by decide), cv.2.2.1]
      · rw [z2, show T5 100 13 + 1 - 1 = T5 100 13 by omega, tv.1]; decide
