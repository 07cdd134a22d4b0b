/-! PLAIN: operands: signs and brackets -/
theorem br_asm {n : Int} {f : Int → Int} {P W x x' y s m : Int} {G T Ga Ta G5 T5 G6 T6 : St} (hP : PR n f G T) (sGa : CS G Ga x s (G 150 3 + 1)) (sTa : TS T Ta x' m (T 100 19 + 1) (T 100 20 + 1)) (h2 : OKX n f P W Ga Ta G5 T5) (s6 : CS G5 G6 y (G5 110 4 + 1) (G5 150 3 - 1)) (t6 : TS T5 T6 y (T5 100 13 + 1) (T5 100 19 - 1) (T5 100 20 - 1)) (hx : G 150 2 + 1 ≤ x) (hx' : T 100 6 + 1 ≤ x') (hy : G5 150 2 + 1 ≤ y) (hy' : T5 100 6 + 1 ≤ y) (hyn : y ≤ n) (s0 : G 110 4 ≤ s) (s1 : s ≤ G 110 4 + 2) (m0 : T 100 13 ≤ m) (m1 : m ≤ T 100 13 + 4) :
    OK0 n f G T G6 T6 ∧ agC Ga G6 0 s ∧ agT Ta T6 0 m ∧ WF P W G6 T6 0 s (G5 110 4) m (T5 100 13) 0 0 (31 - (G 150 3 + 1)) ∧ G6 110 4 = G5 110 4 + 1 ∧ T6 100 13 = T5 100 13 + 1 ∧ s ≤ G5 110 4 ∧ m ≤ T5 100 13 := by
  obtain ⟨q1, q2, q3, q4, q5, q6, q7, q8, q9, q10, q11, q12⟩ := h2
  have N := hP.nums
  have N5 := q1.nums
  have l2 := wf_le q7
  obtain ⟨a1, a2, a3, a4, a5⟩ := sGa
  obtain ⟨b1, b2, b3, b4, b5, b6, b7⟩ := sTa
  have pr : PR n f G6 T6 := q1.mv s6 t6 (by omega) (by omega) (by omega) (by omega) rfl (by omega) (by omega) (by omega) (by omega) (by omega) (by omega) (by omega) (by omega) (by omega)
  obtain ⟨c1, c2, c3, c4, c5⟩ := s6
  obtain ⟨d1, d2, d3, d4, d5, d6, d7⟩ := t6
  rw [a3, b3, a4] at q7
  rw [a3] at q6
  have e2 : agC Ga G6 0 s := q6.tr c5 (by omega) (by omega)
  have e4 : tb Ta T6 := q5.tr d7 (by omega) (by omega)
  have wr := (q7.cg (G1 := G6) (T1 := T6)).2.2 (c5.mono (by omega) (by omega)) (d7.1.mono (by omega) (by omega))
  refine ⟨⟨pr, by omega, by omega, by omega, b7.tr e4 (by omega) (by omega), a5.tr e2 (by omega) (by omega), by omega, by omega, by omega, by omega⟩, e2, e4.1.mono (by omega) (by omega), wr, c3, d3, by omega, by omega⟩
/-- a fault behind a move -/
theorem FG_cs {n : Int} {f : Int → Int} {G T GA : St} {x s dd w p : Int} (h : PR n f G T) (hC : CS G GA x s dd) (x0 : 0 ≤ x) (x1 : x ≤ 2000) (s0 : 0 ≤ s) (s1 : s ≤ 4010) (d0 : -10 ≤ dd) (d1 : dd ≤ 50) (hw : w ≠ 0) : FG n f 0 w p (fC w p GA) := by
  obtain ⟨a1, a2, a3, a4, a5⟩ := hC
  have k : ∀ o k, o ≠ 130 → fC w p GA o k = GA o k := fun o k q => by unfold fC; rw [up_o _ q, up_o _ q]
  have i1 : GA 150 1 = G 150 1 := a1 _ _ (by simp [fS])
  have i2 : GA 151 = G 151 := funext fun k => a1 _ _ (by simp [fS])
  have i3 : GA 150 4 = G 150 4 := a1 _ _ (by simp [fS])
  have i4 : GA 150 5 = G 150 5 := a1 _ _ (by simp [fS])
  have N := h.2.2.2.2.2
  refine ⟨h.1.1.cg (by rw [k _ _ (by decide), i1]) (by funext j; rw [k _ _ (by decide), i2]), ?_, ?_, ?_, ?_, ?_, ?_, ?_, ?_, ?_, ?_, ?_, ?_, hw, by decide⟩
  · rw [k _ _ (by decide), a2]; exact x0
  · rw [k _ _ (by decide), a2]; omega
  · rw [k _ _ (by decide), a3]; exact s0
  · rw [k _ _ (by decide), a3]; omega
  · rw [k _ _ (by decide), a4]; omega
  · rw [k _ _ (by decide), a4]; omega
  · rw [k _ _ (by decide), i3]; omega
  · rw [k _ _ (by decide), i3]; omega
  · rw [k _ _ (by decide), i4]; omega
  · rw [k _ _ (by decide), i4]; omega
  · unfold fC; rw [up_k _ (by decide), up_s]
  · unfold fC; rw [up_s]
theorem cs_F {n : Int} {f : Int → Int} {G T GA : St} {x s dd : Int} (h : PR n f G T) (hC : CS G GA x s dd) : GA 130 0 = 0 ∧ CT n f GA := by
  obtain ⟨a1, a2, a3, a4, a5⟩ := hC
  refine ⟨?_, h.1.1.cg (a1 _ _ (by simp [fS])) (funext fun k => a1 _ _ (by simp [fS]))⟩
  rw [a1 _ _ (by simp [fS])]; exact h.1.2.2.2.1
theorem ts_F {n : Int} {f : Int → Int} {G T TA : St} {x m dd w : Int} (h : PR n f G T) (hT : TS T TA x m dd w) : TA 100 7 = 0 ∧ TT n f TA := by
  obtain ⟨a1, a2⟩ := hT
  refine ⟨?_, h.1.2.1.cg (a1 _ _ (by simp [fS])) (funext fun k => a1 _ _ (by simp [fS]))⟩
  rw [a1 _ _ (by simp [fS])]; exact h.1.2.2.2.2
/-- a new depth in the component: fault -/
theorem en_f {n : Int} {f : Int → Int} {G T GA : St} {x s p : Int} (h : PR n f G T) (hC : CS G GA x s 30) (x0 : 0 ≤ x) (x1 : x ≤ 1999) (s0 : 0 ≤ s) (s1 : s ≤ 4010) : ∃ GB, Rd_enter p GA = some (0, GB) ∧ FG n f 1 3 p GB ∧ GB 150 2 = x := by
  have F := cs_F h hC
  have e1 : fC 3 p GA 150 3 = 30 := by unfold fC; rw [up_o _ (by decide), up_o _ (by decide)]; exact hC.2.2.2.1
  refine ⟨_, Rd_enter_f hC.2.2.2.1 F.1, FG_deep (FG_cs h hC x0 (by omega) s0 s1 (by decide) (by decide) (by decide)) (by omega) (by omega), ?_⟩
  unfold fC
  rw [up_k _ (by decide), up_o _ (by decide), up_o _ (by decide)]; exact hC.2.1
theorem FG.num {n : Int} {f : Int → Int} {k w p : Int} {G : St} (h : FG n f k w p G) : 0 ≤ G 150 2 ∧ G 150 2 ≤ 2000 + k ∧ -10 - k ≤ G 150 3 ∧ G 150 3 ≤ 50 + k ∧ 0 ≤ k := by
  obtain ⟨a, b, c, d, e, g, hh, i1, i2, i3, i4, i, j, l, m⟩ := h
  exact ⟨b, c, g, hh, m⟩
/-- the twin opens: deeper, and a wait -/
theorem tw_op {p k u q : Int} {X : St} {α : Type} (R : St → Option α) (hb : TB X) (a0 : 0 ≤ X 100 6) (a1 : X 100 6 ≤ 3000) (hd : X 100 19 ≠ 30) : (bd (Tw_deeper p X) fun _ G1 => bd (Tw_push k u q G1) fun _ G2 => ckI ((G2 100 6) + 1) <| tk (up G2 100 6 ((G2 100 6) + 1)) fun G3 => R G3) = R (up (psT (up X 100 19 (X 100 19 + 1)) k u q) 100 6 (X 100 6 + 1)) := by
  obtain ⟨b1, b2, b3, b4, b5, b6⟩ := hb
  have e1 : up X 100 19 (X 100 19 + 1) 100 20 = X 100 20 := up_k _ (by decide)
  have e2 : psT (up X 100 19 (X 100 19 + 1)) k u q 100 6 = X 100 6 := by rw [psT_o (by omega) (by omega), up_k _ (by decide)]
  rw [Tw_deeper_e hd (by omega) (by omega), bd_some, Tw_push_e (by omega) (by omega), bd_some, e2, ckI_p (by omega) (by omega), tk_e]
theorem tw_of {p k u q : Int} {X : St} {α : Type} (R : St → Option α) (hb : TB X) (a0 : 0 ≤ X 100 6) (a1 : X 100 6 ≤ 3000) (hF : X 100 7 = 0) (hd : X 100 19 = 30) : ∃ Y, (bd (Tw_deeper p X) fun _ G1 => bd (Tw_push k u q G1) fun _ G2 => ckI ((G2 100 6) + 1) <| tk (up G2 100 6 ((G2 100 6) + 1)) fun G3 => R G3) = R Y ∧ FX 3 p Y := by
  obtain ⟨b1, b2, b3, b4, b5, b6⟩ := hb
  have e1 : up (fT 3 p X) 100 19 31 100 20 = X 100 20 := by simp [fT, up_ap]
  have e2 : up (fT 3 p X) 100 19 31 100 6 = X 100 6 := by simp [fT, up_ap]
  have e3 : up (fT 3 p X) 100 19 31 100 7 = 3 := by simp [fT, up_ap]
  have e4 : up (fT 3 p X) 100 19 31 100 8 = p := by simp [fT, up_ap]
  rw [Tw_deeper_f hd hF, bd_some]
  generalize up (fT 3 p X) 100 19 31 = Y at e1 e2 e3 e4 ⊢
  have e5 : psT Y k u q 100 6 = X 100 6 := by rw [psT_o (by omega) (by omega)]; exact e2
  rw [Tw_push_e (by omega) (by omega), bd_some, e5, ckI_p (by omega) (by omega), tk_e]
  refine ⟨_, rfl, ?_, ?_, by decide⟩
  · rw [up_k _ (by decide), psT_o (by omega) (by omega)]; exact e3
  · rw [up_k _ (by decide), psT_o (by omega) (by omega)]; exact e4
/-- what is said of one operand: the component ends with r -/
def OpOK (n : Int) (f : Int → Int) (P W base k : Int) (G T : St) (r : Option (Int × St)) : Prop := ∃ G', r = some (0, G') ∧ (FLX n f k P W base G' T ∨ ∃ T1, Lx P W base 1 T = KS P W base T1 ∧ OKX n f P W G T G' T1)
theorem popU_v (T : St) : popU T 115 (T 100 13) = 12 ∧ popU T 116 (T 100 13) = T 123 (T 100 20 - 1) ∧ popU T 118 (T 100 13) = T 124 (T 100 20 - 1) := by
  unfold popU adT
  simp [up_ap]
/-- the depth given back and a step, behind a fault -/
theorem fl_da {n : Int} {f : Int → Int} {k w p op x a m : Int} {G : St} (h : FG n f k w p G) (hk : k ≤ 6000) (o0 : 0 ≤ op) (o1 : op < 61) : ∃ G', (ckI ((G 150 3) - 1) <| tk (up G 150 3 ((G 150 3) - 1)) fun G18 => bd (Cd_add op x a m G18) fun _ G20 => some ((0 : Int), G20)) = some (0, G') ∧ FG n f (k + 2) w p G' := by
  have h1 := FG_deep h (x := G 150 3 - 1) (by omega) (by omega)
  refine ⟨_, ?_, (FG_add h1 op x a m).mono (by omega)⟩
  rw [fl_up h hk, FG_add_e h1 (by omega) x a m o0 o1, bd_some]
/-- the depth given back and a step -/
theorem ok_da {op x a m : Int} {G : St} (d0 : -1000 ≤ G 150 3) (d1 : G 150 3 ≤ 1000) (s0 : 0 ≤ G 110 4) (s1 : G 110 4 < 12000) (o0 : 0 ≤ op) (o1 : op < 61) : ∃ G', (ckI ((G 150 3) - 1) <| tk (up G 150 3 ((G 150 3) - 1)) fun G18 => bd (Cd_add op x a m G18) fun _ G20 => some ((0 : Int), G20)) = some (0, G') ∧ CS G G' (G 150 2) (G 110 4 + 1) (G 150 3 - 1) ∧ G' 111 (G 110 4) = op ∧ G' 112 (G 110 4) = x ∧ G' 113 (G 110 4) = a ∧ G' 114 (G 110 4) = m := by
  have sz : up G 150 3 (G 150 3 - 1) 110 4 = G 110 4 := up_o _ (by decide)
  have cv := adC_v (up G 150 3 (G 150 3 - 1)) op x a m
  rw [sz] at cv
  refine ⟨_, ?_, (CS_deep G (G 150 3 - 1)).nad (Int.le_refl _) op x a m, cv⟩
  rw [ckI_p (by omega) (by omega), tk_e, Cd_add_e (by omega) (by omega) o0 o1, bd_some]
theorem op_un {n : Int} {f : Int → Int} {P W base a c op : Int} {d : Nat} (hd : (d : Int) ≤ 600) (hF : FactorOK n f P W d) {G T : St} (hP : PR n f G T) (h0 : 0 ≤ base) (hb : base ≤ T 100 20) (hA : AD (G 150 3) ≤ d + 1) (ea : G 150 2 = a) (et : T 100 6 = a) (an : a < n) (hc : (c = 45 ∧ op = 56) ∨ (c = 126 ∧ op = 57) ∨ (c = 33 ∧ op = 58)) (hto : Tw_takeOperand P W T = Tw_takeOperand_b84 P W a c T) : OpOK n f P W base (4 * ((d + 1 : Nat) : Int)) G T (Rd_factor_b54 (RE d) a c G) := by
  have N := hP.nums
  have hop : (if c = 45 then (56 : Int) else (if c = 126 then 57 else 58)) = op := by
    rcases hc with ⟨h1, h2⟩ | ⟨h1, h2⟩ | ⟨h1, h2⟩ <;> rw [h1, h2] <;> decide
  unfold AD at hA
  obtain ⟨e, rfl⟩ : ∃ e, d = e + 1 := ⟨d - 1, by omega⟩
  unfold Rd_factor_b54 Rd_factor_b114
  rw [hop]
  unfold Tw_takeOperand_b84 at hto
  simp only [ckB_p (show (0 : Int) ≤ 0 by decide) (show (0 : Int) < 2 by decide)] at hto
  by_cases dp : G 150 3 = 30
  · have sG := CS.rf G
    rw [dp] at sG
    obtain ⟨GB, e1, fg1, eat⟩ := en_f (p := a) hP sG (by omega) (by omega) (by omega) (by omega)
    obtain ⟨Y, e2, fx⟩ := tw_of (p := a) (k := 2) (u := c) (q := a) (fun G3 => some ((0 : Int), G3)) (TB_of hP) (by omega) (by omega) N.2.2.2.2.2.2 (by omega)
    obtain ⟨T', lf, fx'⟩ := Lx_fx (P := P) (W := W) (base := base) (w := 1) (x := 0) fx
    have fg2 := FG_at fg1 (x := GB 150 2 + 1) (by omega) (by omega)
    rw [e1, bd_some, ckI_p (by omega) (by omega), tk_e, f_factor fg2, bd_some]
    obtain ⟨G', e3, fg3⟩ := fl_da (op := op) (x := 0) (a := a) (m := 0) (FG_sk fg2) (by omega) (by omega) (by omega)
    exact ⟨G', e3, Or.inl ⟨3, a, T', fg3.mono (by omega), by rw [Lx_t0 N.2.2.2.2.2.2 (hto.trans e2)]; exact lf, fx'⟩⟩
  · have e2 := tw_op (p := a) (k := 2) (u := c) (q := a) (fun G3 => some ((0 : Int), G3)) (TB_of hP) (by omega) (by omega) (show T 100 19 ≠ 30 by omega)
    have lx := Lx_t0 (base := base) N.2.2.2.2.2.2 (hto.trans e2)
    have eat : up G 150 3 (G 150 3 + 1) 150 2 = a := by rw [up_k _ (by decide)]; exact ea
    have sGa := (CS_deep G (G 150 3 + 1)).nat (Int.le_refl _) (a + 1)
    rw [Rd_enter_e dp (by omega) (by omega), bd_some, eat, ckI_p (by omega) (by omega), tk_e]
    generalize up (up G 150 3 (G 150 3 + 1)) 150 2 (a + 1) = Ga at sGa ⊢
    have xw : up T 100 19 (T 100 19 + 1) 100 20 = T 100 20 := up_k _ (by decide)
    have sTa := ((TS_deep T (T 100 19 + 1)).nps (Int.le_refl _) (Int.le_refl _) 2 c a).nat (Int.le_refl _) (by omega) (T 100 6 + 1)
    have w1 : up (psT (up T 100 19 (T 100 19 + 1)) 2 c a) 100 6 (T 100 6 + 1) 122 (T 100 20) = 2 := by rw [up_o _ (by decide), ← xw]; exact (psT_v _ _ _ _).1
    have w2 : up (psT (up T 100 19 (T 100 19 + 1)) 2 c a) 100 6 (T 100 6 + 1) 123 (T 100 20) = c := by rw [up_o _ (by decide), ← xw]; exact (psT_v _ _ _ _).2.1
    have w3 : up (psT (up T 100 19 (T 100 19 + 1)) 2 c a) 100 6 (T 100 6 + 1) 124 (T 100 20) = a := by rw [up_o _ (by decide), ← xw]; exact (psT_v _ _ _ _).2.2.1
    generalize up (psT (up T 100 19 (T 100 19 + 1)) 2 c a) 100 6 (T 100 6 + 1) = Ta at sTa w1 w2 w3 lx
    have pa : PR n f Ga Ta := hP.mv sGa sTa (by omega) (by omega) (by omega) (by omega) (by rw [et]) (by omega) (by omega) (by omega) (by omega) (by omega) (by omega) (by omega) (by omega) (by omega)
    have wTa := sTa.2.2.2.2.1
    have wT1 : Ta 100 20 - 1 = T 100 20 := by omega
    have dGa := sGa.2.2.2.1
    obtain ⟨G5, e5, R⟩ := hF Ga Ta base pa h0 (by omega) (by unfold AD; omega)
    rw [e5, bd_some]
    rcases R with ⟨w, p, T', fg, lx', fx⟩ | ⟨T5, L1, L3⟩
    · obtain ⟨G', e3, fg3⟩ := fl_da (op := op) (x := 0) (a := a) (m := 0) fg (by omega) (by omega) (by omega)
      exact ⟨G', e3, Or.inl ⟨w, p, T', fg3.mono (by omega), by rw [lx, lx'], fx⟩⟩
    · have L3' := L3
      obtain ⟨q1, q2, q3, q4, q5, q6, q7, q8, q9, q10, q11, q12⟩ := L3'
      have N5 := q1.nums
      have tp := top_of q5 (by omega) q2 (o := 122) (by decide)
      have tp2 := top_of q5 (by omega) q2 (o := 123) (by decide)
      have tp3 := top_of q5 (by omega) q2 (o := 124) (by decide)
      rw [wT1, w1] at tp
      rw [wT1, w2] at tp2
      rw [wT1, w3] at tp3
      obtain ⟨G', e3, s6, v1, v2, v3, v4⟩ := ok_da (op := op) (x := 0) (a := a) (m := 0) (G := G5) (by omega) (by omega) (by omega) (by omega) (by omega) (by omega)
      have pv := popU_v T5
      rw [tp2, tp3] at pv
      refine ⟨G', e3, Or.inr ⟨popU T5, by rw [lx, L1, KS_pop (TB_of q1) (by omega) tp h0], ?_⟩⟩
      have t6 := TS_popU T5
      generalize popU T5 = T6 at pv t6
      have l2 := wf_le q7
      obtain ⟨a1, a2, a3, a4, a5⟩ := sGa
      obtain ⟨b1, b2, b3, b4, b5, b6, b7⟩ := sTa
      have pr : PR n f G' T6 := q1.mv s6 t6 (by omega) (by omega) (by omega) (by omega) N5.1.2.2.2.2 (by omega) (by omega) (by omega) (by omega) (by omega) (by omega) (by omega) (by omega) (by omega)
      obtain ⟨c1, c2, c3, c4, c5⟩ := s6
      obtain ⟨d1, d2, d3, d4, d5, d6, d7⟩ := t6
      rw [a3, b3, a4] at q7
      rw [a3] at q6
      have e2 : agC Ga G' 0 (G 110 4) := q6.tr c5 (by omega) (by omega)
      have e4 : tb Ta T6 := q5.tr d7 (by omega) (by omega)
      have wr := (q7.cg (G1 := G') (T1 := T6)).2.2 (c5.mono (by omega) (by omega)) (d7.1.mono (by omega) (by omega))
      refine ⟨pr, by omega, by omega, by omega, b7.tr e4 (by omega) (by omega), a5.tr e2 (by omega) (by omega), ?_, ?_, by omega, by omega, by omega, by omega⟩
      · rw [c3, d3]
        rcases hc with ⟨h1, h2⟩ | ⟨h1, h2⟩ | ⟨h1, h2⟩
        · exact wf_neg P W _ _ _ _ _ _ _ _ wr (by omega) (by rw [v1, h2]) pv.1 (by rw [pv.2.1, h1]) (by rw [pv.2.2, v3])
        · exact wf_trn P W _ _ _ _ _ _ _ _ wr (by omega) (by rw [v1, h2]) pv.1 (by rw [pv.2.1, h1]) (by rw [pv.2.2, v3])
        · exact wf_not P W _ _ _ _ _ _ _ _ wr (by omega) (by rw [v1, h2]) pv.1 (by rw [pv.2.1, h1]) (by rw [pv.2.2, v3])
      · rw [d3, show T5 100 13 + 1 - 1 = T5 100 13 by omega, pv.1]; decide
