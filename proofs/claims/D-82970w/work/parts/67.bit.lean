/-! PLAIN: operands: bit -/
theorem b51_9 {n : Int} {f : Int → Int} {base a mm : Int} {T : St} (hT : TT n f T) (ha : T 100 6 = a) (a0 : 0 ≤ a) (a1 : a ≤ n) (hb : TB T) (hF : T 100 7 = 0) (hw : base < T 100 20) (h0 : 0 ≤ base) (hk : T 122 (T 100 20 - 1) = 9) (hm : T 125 (T 100 20 - 1) = mm) (hmm : mm = 0 ∨ mm = 1) : Tw_closes_b51 base 0 T = if lkF n f a = 44 ∧ mm = 0 then some (1, cmT T (-1)) else if lkF n f a = 41 ∧ mm = 1 then bd (Tw_signsOver base (clT T 11 0)) (fun _ T' => some (1, T')) else some (0, fT 1 a T) := by
  have hn := hT.2.2.1
  have hb' := hb
  obtain ⟨b1, b2, b3, b4, b5, b6⟩ := hb'
  have b268 : Tw_closes_b268 base 0 9 T = some (0, fT 1 a T) := by
    rw [b268_e hT (by omega) (by omega), if_neg (show ¬ (9 : Int) = 6 by decide), ite_self, b288_0 hF, ha]
  have b221 : Tw_closes_b221 base 0 9 T = if lkF n f a = 41 ∧ mm = 1 then bd (Tw_signsOver base (clT T 11 0)) (fun _ T' => some (1, T')) else some (0, fT 1 a T) := by
    unfold Tw_closes_b221
    rw [Tw_isSign_e hT (by omega) (by omega) 41, bd_some, ha, sg_c (by decide) (by decide), if_neg (show ¬ (9 : Int) = 5 by decide), if_neg (show ¬ (9 : Int) = 7 by decide), if_neg (show ¬ (9 : Int) = 8 by decide), if_pos rfl, b268, ckI_p (by omega) (by omega), ckB_p (by omega) (by omega), hm]
    by_cases c : lkF n f a = 41
    · rw [if_pos c, if_neg (by decide)]
      by_cases c2 : mm = 1
      · rw [if_pos c2, if_pos ⟨c, c2⟩, b288_1 hb (by omega) (by omega) (by omega) (by omega)]
        rfl
      · rw [if_neg c2, if_neg (fun q => c2 q.2)]
    · rw [if_neg c, if_pos rfl, if_neg (fun q => c q.1)]
  rw [b51_e hT (by omega) (by omega) hb hw h0 hk (by decide)]
  unfold Tw_closes_b116
  rw [Tw_isSign_e hT (by omega) (by omega) 44, bd_some, ha, sg_c (by decide) (by decide), if_neg (show ¬ (9 : Int) = 7 by decide), b221]
  by_cases c : lkF n f a = 44
  · rw [if_pos c, if_neg (by decide)]
    unfold Tw_closes_b135 Tw_closes_b155
    rw [if_pos rfl, ckI_p (by omega) (by omega), ckB_p (by omega) (by omega), hm, if_neg (show ¬ (9 : Int) = 7 by decide), b221]
    by_cases c2 : mm = 0
    · rw [if_pos c2, if_pos ⟨c, c2⟩, b179_e hb (by omega) (by omega) (by omega) (by omega) (by omega)]
    · rw [if_neg c2, if_neg (show ¬ (lkF n f a = 44 ∧ mm = 0) from fun q => c2 q.2)]
  · rw [if_neg c, if_pos rfl, if_neg (show ¬ (lkF n f a = 44 ∧ mm = 0) from fun q => c q.1)]
theorem bit_ok {n : Int} {f : Int → Int} {P W a x x' y y' v : Int} {G T Ga Ta G5 T5 GN TN G7 T7 G6 T6 : St} (hP : PR n f G T) (sGa : CS G Ga x (G 110 4 + 1) (G 150 3 + 1)) (sTa : TS T Ta x' (T 100 13 + 1) (T 100 19 + 1) (T 100 20 + 1)) (h2 : OKX n f P W Ga Ta G5 T5) (sGN : CS G5 GN y (G5 110 4 + 1) (G5 150 3)) (b2 : TN 100 6 = y') (b3 : TN 100 13 = T5 100 13 + 1) (b5 : TN 100 20 = T5 100 20) (b6 : TN 100 26 = T5 100 26) (b7 : agT T5 TN 0 (T5 100 13)) (b8 : ∀ o k, (o = 122 ∨ o = 123 ∨ o = 124 ∨ o = 125) → 0 ≤ k → k < T 100 20 → TN o k = T5 o k) (h3 : OKX n f P W GN TN G7 T7) (hC6 : CS G7 G6 v (G7 110 4 + 1) (G7 150 3 - 1)) (hT6 : TS T7 T6 v (T7 100 13 + 1) (T7 100 19 - 1) (T7 100 20 - 1)) (hx : G 150 2 + 1 ≤ x) (hx' : T 100 6 + 1 ≤ x') (hy : G5 150 2 < y) (hy' : T5 100 6 < y') (hv : G7 150 2 < v) (hv' : T7 100 6 < v) (hvn : v ≤ n)
    (u1 : Ga 111 (G 110 4) = 33) (u2 : Ta 115 (T 100 13) = 1) (u3 : GN 111 (G5 110 4) = 34) (u4 : TN 115 (T5 100 13) = 16) (u5 : TN 116 (T5 100 13) = -1) (u6 : G6 111 (G7 110 4) = 35) (u7 : G6 113 (G7 110 4) = a) (u8 : T6 115 (T7 100 13) = 11) (u9 : T6 118 (T7 100 13) = a) : OKX n f P W G T G6 T6 := by
  obtain ⟨q1, q2, q3, q4, q5, q6, q7, q8, q9, q10, q11, q12⟩ := h2
  obtain ⟨r1, r2, r3, r4, r5, r6, r7, r8, r9, r10, r11, r12⟩ := h3
  have N := hP.nums
  have N5 := q1.nums
  have N7 := r1.nums
  have l2 := wf_le q7
  have l3 := wf_le r7
  obtain ⟨a1, a2, a3, a4, a5⟩ := sGa
  obtain ⟨e1, e2, e3, e4, e5, e6, e7⟩ := sTa
  obtain ⟨f1, f2, f3, f4, f5⟩ := sGN
  have pr : PR n f G6 T6 := r1.mv hC6 hT6 (by omega) (by omega) (by omega) (by omega) rfl (by omega) (by omega) (by omega) (by omega) (by omega) (by omega) (by omega) (by omega) (by omega)
  obtain ⟨c1, c2, c3, c4, c5⟩ := hC6
  obtain ⟨d1, d2, d3, d4, d5, d6, d7⟩ := hT6
  rw [a3, e3, a4] at q7
  rw [a3] at q6
  rw [f3, b3, f4, q4, a4] at r7
  rw [f3] at r6
  have t5 : agT TN T6 0 (T5 100 13 + 1) := by
    have h := r5.1
    rw [b3] at h
    exact h.tr d7.1 (by omega) (by omega)
  have c7 : agC GN G6 0 (G5 110 4 + 1) := r6.tr c5 (by omega) (by omega)
  have u3' : agC G5 G6 0 (G5 110 4) := f5.tr c7 (by omega) (by omega)
  have u4' : agC Ga G6 0 (G 110 4 + 1) := q6.tr u3' (by omega) (by omega)
  have t2 : agT T5 T6 0 (T5 100 13) := b7.tr t5 (by omega) (by omega)
  have t3 : agT Ta T6 0 (T 100 13 + 1) := by
    have h := q5.1
    rw [e3] at h
    exact h.tr t2 (by omega) (by omega)
  have tt : tb T T6 := ⟨e7.1.tr t3 (by omega) (by omega), fun o k g1 g2 g3 => by rw [d7.2 o k g1 g2 (by omega), r5.2 o k g1 g2 (by omega), b8 o k g1 g2 g3, q5.2 o k g1 g2 (by omega), e7.2 o k g1 g2 g3]⟩
  have wm := (q7.cg (G1 := G6) (T1 := T6)).2.2 (u3'.mono (by omega) (by omega)) (t2.mono (by omega) (by omega))
  have wr := (r7.cg (G1 := G6) (T1 := T6)).2.2 (c5.mono (by omega) (by omega)) (d7.1.mono (by omega) (by omega))
  refine ⟨pr, by omega, by omega, by omega, tt, a5.tr u4' (by omega) (by omega), ?_, ?_, by omega, by omega, by omega, by omega⟩
  · rw [c3, d3]
    refine wf_bit P W _ _ _ _ _ _ _ _ _ _ ?_ ?_ wm (by omega) ?_ ?_ ?_ wr u6 u8 (by rw [u9, u7])
    · rw [u4' 111 _ (by decide) (by decide) (by omega) (by omega)]; exact u1
    · rw [t3 _ _ (by decide) (by omega) (by omega)]; exact u2
    · rw [c7 111 _ (by decide) (by decide) (by omega) (by omega)]; exact u3
    · rw [t5 _ _ (by decide) (by omega) (by omega)]; exact u4
    · rw [t5 _ _ (by decide) (by omega) (by omega)]; exact u5
  · rw [d3, show T7 100 13 + 1 - 1 = T7 100 13 by omega, u8]; decide
theorem bit_t3 {n : Int} {f : Int → Int} {k w p a : Int} {G : St} (h : FG n f k w p G) (hk : k ≤ 6000) : ∃ G', (bd (Rd_sign 41 G) fun _ G19 => ckI ((G19 150 3) - 1) <| tk (up G19 150 3 ((G19 150 3) - 1)) fun G20 => bd (Cd_add 35 0 a 0 G20) fun _ G22 => some ((0 : Int), G22)) = some (0, G') ∧ FG n f (k + 2) w p G' := by
  rw [FG_sign h (by omega) (by decide), bd_some]
  exact fl_da (FG_sk h) hk (by decide) (by decide)
theorem bit_t2 {n : Int} {f : Int → Int} {k w p a : Int} {e : Nat} {G : St} (h : FG n f k w p G) (hk : k ≤ 6000) : ∃ G', (bd (RE (e + 1) 0 [] G) fun _ G17 => bd (Rd_sign 41 G17) fun _ G19 => ckI ((G19 150 3) - 1) <| tk (up G19 150 3 ((G19 150 3) - 1)) fun G20 => bd (Cd_add 35 0 a 0 G20) fun _ G22 => some ((0 : Int), G22)) = some (0, G') ∧ FG n f (k + 2) w p G' := by
  rw [f_expr h, bd_some]
  exact bit_t3 h hk
theorem bit_t1 {n : Int} {f : Int → Int} {k w p a : Int} {e : Nat} {G : St} (h : FG n f k w p G) (hk : k ≤ 5000) : ∃ G', (bd (Cd_add 34 0 a 0 G) fun _ G13 => bd (Rd_sign 44 G13) fun _ G15 => bd (RE (e + 1) 0 [] G15) fun _ G17 => bd (Rd_sign 41 G17) fun _ G19 => ckI ((G19 150 3) - 1) <| tk (up G19 150 3 ((G19 150 3) - 1)) fun G20 => bd (Cd_add 35 0 a 0 G20) fun _ G22 => some ((0 : Int), G22)) = some (0, G') ∧ FG n f (k + 3) w p G' := by
  have h1 := FG_add h 34 0 a 0
  rw [FG_add_e h (by omega) 0 a 0 (by decide) (by decide), bd_some, FG_sign h1 (by omega) (by decide), bd_some]
  obtain ⟨G', e1, e2⟩ := bit_t2 (k := k + 1) (e := e) (a := a) (FG_sk h1) (by omega)
  exact ⟨G', e1, e2.mono (by omega)⟩
theorem op_bit {n : Int} {f : Int → Int} {P W base a : Int} {e : Nat} (hd : (e : Int) ≤ 600) (hE : ExprOK n f P W e) {G T : St} (hP : PR n f G T) (h0 : 0 ≤ base) (hb : base ≤ T 100 20) (hA : AD (G 150 3) ≤ e + 2) (ea : G 150 2 = a) (et : T 100 6 = a) (hw : iw n f a 9 = 0) (an : a + 3 ≤ n) (hto : Tw_takeOperand P W T = Tw_takeOperand_b240 P W a T) :
    OpOK n f P W base (4 * e + 8) G T (ckI ((G 150 2) + 3) <| tk (up G 150 2 ((G 150 2) + 3)) fun G34 => bd (RE (e + 1) 4 [a] G34) fun _ G36 => some (0, G36)) := by
  have N := hP.nums
  unfold AD at hA
  obtain ⟨e', rfl⟩ : ∃ e', e = e' + 1 := ⟨e - 1, by omega⟩
  obtain ⟨b, hbb⟩ : ∃ b, sk n f (a + 3) = b := ⟨_, rfl⟩
  have g := sk_ge n f (a + 3)
  have g2 := sk_le (f := f) an
  rw [hbb] at g g2
  have z1 : up G 150 2 (a + 3) 110 4 = G 110 4 := up_o _ (by decide)
  rw [ea, ckI_p (by omega) (by omega), tk_e]
  show OpOK n f P W base (4 * ((e' + 1 : Nat) : Int) + 8) G T (bd (Rd_bitOf (RE (e' + 1)) a (up G 150 2 (a + 3))) fun _ G36 => some (0, G36))
  unfold Rd_bitOf
  rw [Cd_add_e (by omega) (by omega) (by decide) (by decide), bd_some]
  have cv := adC_v (up G 150 2 (a + 3)) 33 0 a 0
  rw [z1] at cv
  have sA := (CS_at G (a + 3)).nad (Int.le_refl _) 33 0 a 0
  have sG := sA.nsk (by omega) n f
  rw [hbb] at sG
  have e1 := sA.2.1
  have v0 : skC n f (adC (up G 150 2 (a + 3)) 33 0 a 0) 111 (G 110 4) = 33 := by rw [skC_o _ _ _ _ (by decide)]; exact cv.1
  have F0 := cs_F hP sA
  generalize adC (up G 150 2 (a + 3)) 33 0 a 0 = G0 at sG e1 v0 F0 ⊢
  rw [Rd_skip_e F0.2 (by omega), bd_some, show up G0 150 2 (sk n f (G0 150 2)) = skC n f G0 from rfl]
  have FS := cs_F hP sG
  generalize skC n f G0 = GS at sG v0 FS ⊢
  have aS := sG.2.1
  have dS := sG.2.2.2.1
  rw [Rd_look_e FS.2 (by omega) (by omega) (Int.le_refl 0) (by decide), bd_some, aS, Int.add_zero]
  obtain ⟨t1, t2, t3⟩ := to_240 (P := P) (W := W) (k := 9) hP et an hbb (by rw [hw]; rfl)
  by_cases l40 : lkF n f b = 40
  · have bn := (lkF_lt l40 (by decide)).1
    rw [if_pos l40]
    by_cases dp : G 150 3 = 30
    · obtain ⟨Y, e2, fx⟩ := t2 l40 (by omega)
      obtain ⟨T', lf, fx'⟩ := Lx_fx (P := P) (W := W) (base := base) (w := 1) (x := 0) fx
      rw [dp] at sG
      obtain ⟨GB, e1, fg1, eat⟩ := en_f (p := b) hP sG (by omega) (by omega) (by omega) (by omega)
      have fg2 := FG_at fg1 (x := GB 150 2 + 1) (by omega) (by omega)
      rw [e1, bd_some, ckI_p (by omega) (by omega), tk_e, f_expr fg2, bd_some]
      obtain ⟨G', e3, fg3⟩ := bit_t1 (e := e') (a := a) fg2 (by omega)
      rw [e3, bd_some]
      exact ⟨G', rfl, Or.inl ⟨3, b, T', fg3.mono (by omega), by rw [Lx_t0 N.2.2.2.2.2.2 (hto.trans e2)]; exact lf, fx'⟩⟩
    · obtain ⟨Ta, e2, sTa, w1, w3, w4, k1⟩ := t3 l40 (by omega)
      have lx := Lx_t0 (base := base) N.2.2.2.2.2.2 (hto.trans e2)
      have sGa := (sG.ndeep (by omega) (GS 150 3 + 1)).nat (by omega) (b + 1)
      have eat : up GS 150 3 (GS 150 3 + 1) 150 2 = b := by rw [up_k _ (by decide)]; exact aS
      have v0' : up (up GS 150 3 (GS 150 3 + 1)) 150 2 (b + 1) 111 (G 110 4) = 33 := by rw [up_o _ (by decide), up_o _ (by decide)]; exact v0
      rw [Rd_enter_e (by omega) (by omega) (by omega), bd_some, eat, ckI_p (by omega) (by omega), tk_e]
      generalize up (up GS 150 3 (GS 150 3 + 1)) 150 2 (b + 1) = Ga at sGa v0' ⊢
      rw [dS] at sGa
      have pa : PR n f Ga Ta := hP.mv sGa sTa (by omega) (by omega) (by omega) (by omega) rfl (by omega) (by omega) (by omega) (by omega) (by omega) (by omega) (by omega) (by omega) (by omega)
      have wTa := sTa.2.2.2.2.1
      have wT1 : Ta 100 20 - 1 = T 100 20 := by omega
      have dGa := sGa.2.2.2.1
      obtain ⟨G5, e5, R⟩ := hE Ga Ta base pa h0 (by omega) (Or.inr ⟨by rw [wT1, w1]; decide, by rw [wT1, w1]; decide⟩) (by unfold AD; omega)
      rw [e5, bd_some]
      rcases R with ⟨w, p, T', fg, lx', fx⟩ | ⟨T1', T5, L1, L2, L3, L4, L5, L6⟩
      · obtain ⟨G', e3, fg3⟩ := bit_t1 (e := e') (a := a) fg (by omega)
        rw [e3, bd_some]
        exact ⟨G', rfl, Or.inl ⟨w, p, T', fg3.mono (by omega), by rw [lx, lx'], fx⟩⟩
      · have L3' := L3
        obtain ⟨q1, q2, q3, q4, q5, q6, q7, q8, q9, q10, q11, q12⟩ := L3'
        have N5 := q1.nums
        have l5 := wf_le q7
        have tw : ∀ o, (o = 122 ∨ o = 123 ∨ o = 124 ∨ o = 125) → T5 o (T 100 20) = Ta o (T 100 20) := fun o ho => q5.2 o _ ho (by omega) (by omega)
        have tp1 := (tw 122 (by decide)).trans w1
        have tp3 := (tw 124 (by decide)).trans w3
        have tp4 := (tw 125 (by decide)).trans w4
        have w5 : T5 100 20 - 1 = T 100 20 := by omega
        obtain ⟨c, hcc⟩ : ∃ c, c = sk n f (G5 150 2) := ⟨_, rfl⟩
        rw [← hcc] at L5 L6
        have e6 : sk n f (T5 100 6) = c := by rw [hcc, N5.1.2.2.2.2]
        have g5 := sk_ge n f (T5 100 6)
        have g6 := sk_ge n f (G5 150 2)
        have g7 := sk_le (f := f) N5.1.2.1
        have lc := Lx_cl (P := P) (W := W) L4 (by omega) (by omega) e6 L5 L6 L2 (TB_of q1) (Or.inr ⟨by rw [w5, tp1]; decide, by rw [w5, tp1]; decide⟩) h0
        have sM := TS_md T5 c 0
        have FM := ts_F q1 sM
        have bM := TB_md (TB_of q1) c 0
        have mo : ∀ o k, 115 ≤ o → md T5 c 0 o k = T5 o k := fun o k q => md_o (by omega)
        generalize md T5 c 0 = M at lc sM FM bM mo
        obtain ⟨m1, m2, m3, m4, m5, m6, m7⟩ := sM
        have wM : M 100 20 - 1 = T 100 20 := by omega
        have k4 : M 125 (T 100 20) = 0 := (mo _ _ (by decide)).trans tp4
        have bb := b51_9 (base := base) (mm := 0) FM.2 m2 (by omega) (by omega) bM FM.1 (by omega) h0 (by rw [wM]; exact (mo _ _ (by decide)).trans tp1) (by rw [wM]; exact k4) (Or.inl rfl)
        rw [bb] at lc
        rw [Cd_add_e (by omega) (by omega) (by decide) (by decide), bd_some]
        have sB := CS_ad G5 34 0 a 0
        have cw := adC_v G5 34 0 a 0
        have FB := cs_F q1 sB
        generalize adC G5 34 0 a 0 = GB at sB cw FB ⊢
        have aB := sB.2.1
        rw [Rd_sign_e (c := 44) (by decide) FB.2 (by omega) (by omega), bd_some, if_pos FB.1, aB, ← hcc, sg_c (by decide) (by decide)]
        by_cases c44 : lkF n f c = 44
        · rw [if_pos ⟨c44, rfl⟩] at lc
          rw [if_pos c44, if_pos rfl]
          have lt := lkF_lt c44 (by decide)
          have sN := sB.nat (by omega) (c + 1)
          have cN : ∀ o k, o ≠ 150 → up GB 150 2 (c + 1) o k = GB o k := fun o k q => up_o _ q
          generalize up GB 150 2 (c + 1) = GN at sN cN ⊢
          obtain ⟨c1, c2, c3, c4, c5, c6, c7, c8, c9, c10, c11⟩ := cmT_s (T := M) (-1)
          generalize cmT M (-1) = TN at c1 c2 c3 c4 c5 c6 c7 c8 c9 c10 c11 lc
          have lc2 : Lx P W base 0 T1' = Lx P W base 1 TN := by rw [lc, bd_some, c11]; rfl
          rw [wM] at c7 c8
          rw [k4] at c8
          rw [m3] at c9 c10
          have pN : PR n f GN TN := q1.kv sN (m1.tr c1) (by rw [c2, m2]) (by rw [c3, m3]) (by rw [c4, m4]) (by rw [c5, m5]) (by rw [c6, m6]) (by omega) (by omega) (by omega) (by omega) rfl (by omega) (by omega) (by omega) (by omega) (by omega) (by omega) (by omega) (by omega) (by omega)
          have tN : ∀ o k, 115 ≤ o → ¬ (o = 125 ∧ k = T 100 20) → k < T5 100 13 ∨ 119 < o → TN o k = T5 o k := fun o k r1 r2 r3 => by rw [c7 o k r1 r2 (by omega)]; exact mo o k r1
          have y4 := sN.2.2.2.1
          have wN : TN 100 20 - 1 = T 100 20 := by omega
          have tq1 : TN 122 (T 100 20) = 9 := by rw [tN _ _ (by decide) (by omega) (by omega)]; exact tp1
          have tq3 : TN 124 (T 100 20) = a := by rw [tN _ _ (by decide) (by omega) (by omega)]; exact tp3
          obtain ⟨G7, e7, R⟩ := hE GN TN base pN h0 (by omega) (Or.inr ⟨by rw [wN, tq1]; decide, by rw [wN, tq1]; decide⟩) (by unfold AD; omega)
          rw [e7, bd_some]
          rcases R with ⟨w, p, T', fg, lx', fx⟩ | ⟨T1'', T7, M1, M2, M3, M4, M5, M6⟩
          · obtain ⟨G', e3, fg3⟩ := bit_t3 (a := a) fg (by omega)
            rw [e3, bd_some]
            exact ⟨G', rfl, Or.inl ⟨w, p, T', fg3.mono (by omega), by rw [lx, L1, lc2, lx'], fx⟩⟩
          · have M3' := M3
            obtain ⟨r1, r2, r3, r4, r5, r6, r7, r8, r9, r10, r11, r12⟩ := M3'
            have N7 := r1.nums
            have tw7 : ∀ o, (o = 122 ∨ o = 123 ∨ o = 124 ∨ o = 125) → T7 o (T 100 20) = TN o (T 100 20) := fun o ho => r5.2 o _ ho (by omega) (by omega)
            have ts1 := (tw7 122 (by decide)).trans tq1
            have ts3 := (tw7 124 (by decide)).trans tq3
            have ts4 := (tw7 125 (by decide)).trans c8
            have w7 : T7 100 20 - 1 = T 100 20 := by omega
            obtain ⟨v, hvv⟩ : ∃ v, v = sk n f (G7 150 2) := ⟨_, rfl⟩
            rw [← hvv] at M5 M6
            have e8 : sk n f (T7 100 6) = v := by rw [hvv, N7.1.2.2.2.2]
            have h5 := sk_ge n f (T7 100 6)
            have h6 := sk_ge n f (G7 150 2)
            have h7 := sk_le (f := f) N7.1.2.1
            have ld := Lx_cl (P := P) (W := W) M4 (by omega) (by omega) e8 M5 M6 M2 (TB_of r1) (Or.inr ⟨by rw [w7, ts1]; decide, by rw [w7, ts1]; decide⟩) h0
            have mw7 : md T7 v 0 100 20 = T7 100 20 := md_o (by omega)
            have mo7 : ∀ o k, 115 ≤ o → md T7 v 0 o k = T7 o k := fun o k q => md_o (by omega)
            have bb7 := b51_9 (base := base) (mm := 1) (ts_F r1 (TS_md T7 v 0)).2 (TS_md T7 v 0).2.1 (by omega) (by omega) (TB_md (TB_of r1) v 0) (ts_F r1 (TS_md T7 v 0)).1 (by omega) h0 (by rw [mw7, w7, mo7 _ _ (by decide)]; exact ts1) (by rw [mw7, w7, mo7 _ _ (by decide), ts4]; rfl) (Or.inr rfl)
            rw [bb7] at ld
            rw [Rd_sign_e (c := 41) (by decide) r1.1.1 (by omega) (by omega), bd_some, if_pos N7.2.2.2.2.2.1, ← hvv, sg_c (by decide) (by decide)]
            rw [if_neg (show ¬ (lkF n f v = 44 ∧ (1 : Int) = 0) from fun q => absurd q.2 (by decide))] at ld
            by_cases c41 : lkF n f v = 41
            · rw [if_pos ⟨c41, rfl⟩] at ld
              rw [if_pos c41, if_pos rfl]
              have lt' := lkF_lt c41 (by decide)
              have s5 := CS_at G7 (v + 1)
              generalize up G7 150 2 (v + 1) = G8 at s5 ⊢
              have z2 := s5.2.1
              have z3 := s5.2.2.1
              have z4 := s5.2.2.2.1
              obtain ⟨G6, e3, s7, v1, v2, v3, v4⟩ := ok_da (op := 35) (x := 0) (a := a) (m := 0) (G := G8) (by omega) (by omega) (by omega) (by omega) (by decide) (by decide)
              have s8 := s5.tr s7 (Int.le_refl _)
              rw [z2, z3, z4] at s8
              rw [z3] at v1 v3
              have t6 := clT_TS (n := n) (f := f) (T := T7) v 11 0
              have tv := clT_v T7 v 11 0
              have xw : clT (md T7 v 0) 11 0 100 25 = 0 := by
                unfold clT
                rw [adT_o (by omega) (by omega), up_k _ (by decide), up_k _ (by decide), up_k _ (by decide)]
                exact up_s _ _ _ _
              rw [w7, ts3] at tv
              generalize clT (md T7 v 0) 11 0 = T6 at t6 tv ld xw
              rw [e3, bd_some]
              refine ⟨G6, rfl, Or.inr ⟨T6, ?_, ?_⟩⟩
              · rw [lx, L1, lc2, M1, ld]
                unfold KS
                exact so_go xw
              · exact bit_ok hP sGa sTa L3 sN (by rw [c2, m2]) (by rw [c3, m3]) (by rw [c5, m5]) (by rw [c6, m6]) (fun o k r1 r2 r3 => tN o k (by omega) (by omega) (Or.inl r3)) (fun o k r1 r2 r3 => tN o k (by omega) (by omega) (by omega)) M3 s8 t6 (by omega) (by omega) (by omega) (by omega) (by omega) (by omega) (by omega) v0' k1 (by rw [cN _ _ (by decide)]; exact cw.1) c9 c10 v1 v3 tv.1 tv.2.2
            · rw [if_neg (show ¬ (lkF n f v = 41 ∧ (1 : Int) = 1) from fun q => c41 q.1)] at ld
              rw [if_neg c41, if_neg (by decide)]
              have fg0 : FG n f 0 1 v (fC 1 v (skC n f G7)) := by
                have sZ := CS_sk n f G7
                exact FG_cs r1 sZ (by omega) (by omega) (by omega) (by omega) (by omega) (by omega) (by decide)
              obtain ⟨G', e3, fg3⟩ := fl_da (op := 35) (x := 0) (a := a) (m := 0) fg0 (by omega) (by decide) (by decide)
              obtain ⟨T', lf, fx⟩ := Lx_fx (P := P) (W := W) (base := base) (w := fT 1 v (md T7 v 0) 100 25) (x := 1) (FX_fT (p := v) (md T7 v 0) (show (0 : Int) < 1 by decide))
              rw [e3, bd_some]
              exact ⟨G', rfl, Or.inl ⟨1, v, T', fg3.mono (by omega), by rw [lx, L1, lc2, M1, ld, bd_some]; exact lf, fx⟩⟩
        · rw [if_neg (show ¬ (lkF n f c = 44 ∧ (0 : Int) = 0) from fun q => c44 q.1), if_neg (show ¬ (lkF n f c = 41 ∧ (0 : Int) = 1) from fun q => absurd q.2 (by decide))] at lc
          rw [if_neg c44, if_neg (by decide)]
          have fg0 : FG n f 0 1 c (fC 1 c (skC n f GB)) := by
            have sZ := sB.nsk (by omega) n f
            rw [← hcc] at sZ
            exact FG_cs q1 sZ (by omega) (by omega) (by omega) (by omega) (by omega) (by omega) (by decide)
          obtain ⟨G', e3, fg3⟩ := bit_t2 (e := e') (a := a) fg0 (by omega)
          obtain ⟨T', lf, fx⟩ := Lx_fx (P := P) (W := W) (base := base) (w := fT 1 c M 100 25) (x := 1) (FX_fT (p := c) M (show (0 : Int) < 1 by decide))
          rw [e3, bd_some]
          exact ⟨G', rfl, Or.inl ⟨1, c, T', fg3.mono (by omega), by rw [lx, L1, lc, bd_some]; exact lf, fx⟩⟩
  · obtain ⟨Y, e2, fx⟩ := t1 l40
    obtain ⟨T', lf, fx'⟩ := Lx_fx (P := P) (W := W) (base := base) (w := 1) (x := 0) fx
    have fg := FG_cs (w := 1) (p := b) hP sG (by omega) (by omega) (by omega) (by omega) (by omega) (by omega) (by decide)
    rw [if_neg l40, Rd_bad_e FS.1, bd_some, aS, bd_some]
    exact ⟨_, rfl, Or.inl ⟨1, b, T', fg.mono (by omega), by rw [Lx_t0 N.2.2.2.2.2.2 (hto.trans e2)]; exact lf, fx'⟩⟩
