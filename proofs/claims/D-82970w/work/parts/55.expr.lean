/-! PLAIN: an expression, with its choice -/
theorem PR.kk {n : Int} {f : Int → Int} {G T G' T' : St} {a s d a' m d' w : Int} (h : PR n f G T) (x1 : kC G G') (x2 : G' 150 2 = a) (x3 : G' 110 4 = s) (x4 : G' 150 3 = d) (y1 : kT T T') (y2 : T' 100 6 = a') (y3 : T' 100 13 = m) (y4 : T' 100 19 = d') (y5 : T' 100 20 = w) (y6 : T' 100 26 = T 100 26)
    (q1 : G 150 2 ≤ a) (q2 : a ≤ n) (q3 : T 100 6 ≤ a') (q4 : a' ≤ n) (q5 : sk n f a = sk n f a') (q6 : d = d') (q7 : 0 ≤ d) (q8 : d ≤ 30) (q9 : 0 ≤ s) (q10 : s ≤ 2 * a + 2) (q11 : 0 ≤ m) (q12 : 0 ≤ w) (q13 : T 100 26 ≤ d') (q14 : m + 2 * w + 4 * T 100 26 ≤ 4 * a' + 4) : PR n f G' T' := by
  have hb := h.2.2.2.2.1
  refine h.st x1 y1 ?_ ?_ ?_ ?_ ?_ ?_ ?_ ?_ <;> simp only [x2, x3, x4, y2, y3, y4, y5, y6]
  · exact q1
  · exact q2
  · exact q3
  · exact q4
  · exact q5
  · exact ⟨q6, q7, q8⟩
  · exact ⟨q9, q10⟩
  · exact ⟨q11, q12, hb.2.2.1, q13, q14⟩
theorem PR.kv {n : Int} {f : Int → Int} {G T G' T' : St} {a s d a' m d' w : Int} (h : PR n f G T) (hC : CS G G' a s d) (y1 : kT T T') (y2 : T' 100 6 = a') (y3 : T' 100 13 = m) (y4 : T' 100 19 = d') (y5 : T' 100 20 = w) (y6 : T' 100 26 = T 100 26)
    (q1 : G 150 2 ≤ a) (q2 : a ≤ n) (q3 : T 100 6 ≤ a') (q4 : a' ≤ n) (q5 : sk n f a = sk n f a') (q6 : d = d') (q7 : 0 ≤ d) (q8 : d ≤ 30) (q9 : 0 ≤ s) (q10 : s ≤ 2 * a + 2) (q11 : 0 ≤ m) (q12 : 0 ≤ w) (q13 : T 100 26 ≤ d') (q14 : m + 2 * w + 4 * T 100 26 ≤ 4 * a' + 4) : PR n f G' T' :=
  h.kk hC.1 hC.2.1 hC.2.2.1 hC.2.2.2.1 y1 y2 y3 y4 y5 y6 q1 q2 q3 q4 q5 q6 q7 q8 q9 q10 q11 q12 q13 q14
/-- a choice begins -/
theorem Lx_q1 {n : Int} {f : Int → Int} {P W base a : Int} {T1 T3 : St} (hT : TT n f T1) (a0 : 0 ≤ T1 100 6) (a1 : T1 100 6 ≤ n) (hF : T1 100 7 = 0) (ha : sk n f (T1 100 6) = a) (h1 : opn n f a = 0) (h2 : sg n f a 63 = 1) (hr : Tw_reduce base 0 (md T1 a (T1 100 25)) = some (0, T3)) (ha3 : T3 100 6 = a) (hb3 : TB T3) : Lx P W base 0 T1 = bd (Tw_deeper a T3) fun _ T4 => bd (Tw_push 3 0 (T4 100 6) T4) fun _ T5 => ckI (T5 100 6 + 1) (Lx P W base 1 (up T5 100 6 (T5 100 6 + 1))) := by
  have hn := hT.2.2.1
  have s1 := sk_ge n f (T1 100 6)
  have s2 := sk_le (f := f) a1
  conv => lhs; unfold Lx
  rw [Tw_expression_l9_eq]
  unfold Tw_expression_s9
  rw [if_pos hF, if_pos rfl, if_pos rfl, Tw_gap_e hT a0 a1, bd_some, show up T1 100 6 (sk n f (T1 100 6)) = skT n f T1 from rfl, Tw_operator_e (skT_TT hT) (by rw [skT_at]; omega) (by rw [skT_at]; omega), bd_some, skT_at, ha, h1, if_neg (by decide)]
  unfold Tw_expression_b189
  rw [Tw_isSign_e (skT_TT hT) (by rw [skT_at]; omega) (by rw [skT_at]; omega) 63, bd_some, skT_at, ha, h2, if_neg (by decide), skT_md ha, hr, bd_some, ha3, bd_bind]
  simp only [bd_bind, ckI_bind, tk_bind, lb_inl]
  rfl
theorem Lx_q2 {P W base a : Int} {T3 : St} (ha3 : T3 100 6 = a) (a0 : 0 ≤ a) (a1 : a ≤ 3000) (hb3 : TB T3) (hd : T3 100 19 ≠ 30) : (bd (Tw_deeper a T3) fun _ T4 => bd (Tw_push 3 0 (T4 100 6) T4) fun _ T5 => ckI (T5 100 6 + 1) (Lx P W base 1 (up T5 100 6 (T5 100 6 + 1)))) = Lx P W base 1 (up (psT (up T3 100 19 (T3 100 19 + 1)) 3 0 a) 100 6 (a + 1)) := by
  obtain ⟨b1, b2, b3, b4, b5, b6⟩ := hb3
  have e1 : up T3 100 19 (T3 100 19 + 1) 100 6 = a := by rw [up_k _ (by decide)]; exact ha3
  have e2 : up T3 100 19 (T3 100 19 + 1) 100 20 = T3 100 20 := up_k _ (by decide)
  have e3 : psT (up T3 100 19 (T3 100 19 + 1)) 3 0 a 100 6 = a := by rw [psT_o (by omega) (by omega)]; exact e1
  rw [Tw_deeper_e hd (by omega) (by omega), bd_some, e1, Tw_push_e (by omega) (by omega), bd_some, e3, ckI_p (by omega) (by omega)]
theorem Lx_q3 {P W base a : Int} {T3 : St} (ha3 : T3 100 6 = a) (a0 : 0 ≤ a) (a1 : a ≤ 3000) (hb3 : TB T3) (hF : T3 100 7 = 0) (hd : T3 100 19 = 30) : ∃ T', (bd (Tw_deeper a T3) fun _ T4 => bd (Tw_push 3 0 (T4 100 6) T4) fun _ T5 => ckI (T5 100 6 + 1) (Lx P W base 1 (up T5 100 6 (T5 100 6 + 1)))) = some (0, T') ∧ FX 3 a T' := by
  obtain ⟨b1, b2, b3, b4, b5, b6⟩ := hb3
  have e1 : up (fT 3 a T3) 100 19 31 100 6 = a := by simp [fT, up_ap, ha3]
  have e2 : up (fT 3 a T3) 100 19 31 100 20 = T3 100 20 := by simp [fT, up_ap]
  have e4 : up (fT 3 a T3) 100 19 31 100 7 = 3 := by simp [fT, up_ap]
  have e5 : up (fT 3 a T3) 100 19 31 100 8 = a := by simp [fT, up_ap]
  rw [Tw_deeper_f hd hF, bd_some, e1]
  generalize up (fT 3 a T3) 100 19 31 = T4 at e1 e2 e4 e5 ⊢
  have e3 : psT T4 3 0 a 100 6 = a := by rw [psT_o (by omega) (by omega)]; exact e1
  rw [Tw_push_e (by omega) (by omega), bd_some, e3, ckI_p (by omega) (by omega)]
  refine Lx_fx ⟨?_, ?_, by decide⟩
  · rw [up_k _ (by decide), psT_o (by omega) (by omega)]; exact e4
  · rw [up_k _ (by decide), psT_o (by omega) (by omega)]; exact e5
/-- the depth is given back and a step is added, behind a fault -/
theorem fl_up {n : Int} {f : Int → Int} {k w p : Int} {G : St} (h : FG n f k w p G) (hk : k ≤ 6000) {α : Type} (K : St → Option α) : (ckI (G 150 3 - 1) (tk (up G 150 3 (G 150 3 - 1)) K)) = K (up G 150 3 (G 150 3 - 1)) := by
  obtain ⟨a, b, c, d, e, g, hh, i1, i2, i3, i4, i, j, l, m⟩ := h
  rw [ckI_p (by omega) (by omega)]
  rfl
theorem ch_t3 {n : Int} {f : Int → Int} {k w p a : Int} {G : St} (h : FG n f k w p G) (hk : k ≤ 6000) : ∃ G', (ckI ((G 150 3) - 1) <| tk (up G 150 3 ((G 150 3) - 1)) fun G18 => bd (Cd_add 59 0 a 0 G18) fun _ G20 => some ((0 : Int), G20)) = some (0, G') ∧ FG n f (k + 2) w p G' := by
  have h1 := FG_deep h (x := G 150 3 - 1) (by omega) (by omega)
  refine ⟨_, ?_, (FG_add h1 59 0 a 0).mono (by omega)⟩
  rw [fl_up h hk, FG_add_e h1 (by omega) 0 a 0 (by decide) (by decide), bd_some]
theorem ch_t2 {n : Int} {f : Int → Int} {k w p a : Int} {d : Nat} {G : St} (h : FG n f k w p G) (hk : k ≤ 6000) : ∃ G', (bd (RE (d + 1) 0 [] G) fun _ G17 => ckI ((G17 150 3) - 1) <| tk (up G17 150 3 ((G17 150 3) - 1)) fun G18 => bd (Cd_add 59 0 a 0 G18) fun _ G20 => some ((0 : Int), G20)) = some (0, G') ∧ FG n f (k + 2) w p G' := by
  rw [f_expr h, bd_some]
  exact ch_t3 h hk
theorem ch_t1 {n : Int} {f : Int → Int} {k w p a : Int} {d : Nat} {G : St} (h : FG n f k w p G) (hk : k ≤ 6000) : ∃ G', (bd (Rd_sign 58 G) fun _ G15 => bd (RE (d + 1) 0 [] G15) fun _ G17 => ckI ((G17 150 3) - 1) <| tk (up G17 150 3 ((G17 150 3) - 1)) fun G18 => bd (Cd_add 59 0 a 0 G18) fun _ G20 => some ((0 : Int), G20)) = some (0, G') ∧ FG n f (k + 2) w p G' := by
  rw [FG_sign h (by omega) (by decide), bd_some]
  exact ch_t2 (FG_sk h) hk
/-- all three parts of a choice are read: both put it -/
theorem sel_ok {n : Int} {f : Int → Int} {P W a x x' y y' : Int} {G T Gh T2 Ga Ta G5 T5 Gb Tb G7 T7 G6 T6 : St} (h1 : OKX n f P W G T Gh T2) (hCa : CS Gh Ga x (Gh 110 4) (Gh 150 3 + 1)) (hTa : TS T2 Ta x' (T2 100 13) (T2 100 19 + 1) (T2 100 20 + 1)) (h2 : OKX n f P W Ga Ta G5 T5) (hCb : CS G5 Gb y (G5 110 4) (G5 150 3)) (b2 : Tb 100 6 = y') (b3 : Tb 100 13 = T5 100 13) (b5 : Tb 100 20 = T5 100 20) (b6 : Tb 100 26 = T5 100 26) (b7 : agT T5 Tb 0 (T5 100 13)) (b8 : ∀ o k, (o = 122 ∨ o = 123 ∨ o = 124 ∨ o = 125) → 0 ≤ k → k < T2 100 20 → Tb o k = T5 o k) (h3 : OKX n f P W Gb Tb G7 T7) (hC6 : CS G7 G6 (G7 150 2) (G7 110 4 + 1) (G7 150 3 - 1)) (hT6 : TS T7 T6 (T7 100 6) (T7 100 13 + 1) (T7 100 19 - 1) (T7 100 20 - 1)) (hx : Gh 150 2 < x) (hx' : T2 100 6 < x') (hy : G5 150 2 < y) (hy' : T5 100 6 < y') (g0 : 0 ≤ G 110 4) (t0 : 0 ≤ T 100 13) (td : T2 100 26 ≤ T2 100 19) (v1 : G6 111 (G7 110 4) = 59) (v2 : G6 113 (G7 110 4) = a) (v3 : T6 115 (T7 100 13) = 14) (v5 : T6 118 (T7 100 13) = a) : OKX n f P W G T G6 T6 := by
  obtain ⟨p1, p2, p3, p4, p5, p6, p7, p8, p9, p10, p11, p12⟩ := h1
  obtain ⟨q1, q2, q3, q4, q5, q6, q7, q8, q9, q10, q11, q12⟩ := h2
  obtain ⟨r1, r2, r3, r4, r5, r6, r7, r8, r9, r10, r11, r12⟩ := h3
  have N := p1.nums
  have N5 := q1.nums
  have N7 := r1.nums
  have l1 := wf_le p7
  have l2 := wf_le q7
  have l3 := wf_le r7
  obtain ⟨a1, a2, a3, a4, a5⟩ := hCa
  obtain ⟨e1, e2, e3, e4, e5, e6, e7⟩ := hTa
  obtain ⟨f1, f2, f3, f4, f5⟩ := hCb
  have pr : PR n f G6 T6 := r1.mv hC6 hT6 (by omega) (by omega) (by omega) (by omega) N7.1.2.2.2.2 (by omega) (by omega) (by omega) (by omega) (by omega) (by omega) (by omega) (by omega) (by omega)
  obtain ⟨c1, c2, c3, c4, c5⟩ := hC6
  obtain ⟨d1, d2, d3, d4, d5, d6, d7⟩ := hT6
  rw [a3, e3, a4] at q7
  rw [a3] at q6
  rw [f3, b3, f4] at r7
  rw [f3] at r6
  have u1 : agC Gh G5 0 (Gh 110 4) := a5.tr q6 (by omega) (by omega)
  have u2 : agC G5 G7 0 (G5 110 4) := f5.tr r6 (by omega) (by omega)
  have u3 : agC G5 G6 0 (G5 110 4) := u2.tr c5 (by omega) (by omega)
  have u4 : agC Gh G6 0 (Gh 110 4) := u1.tr u3 (by omega) (by omega)
  have t1 : tb T2 T5 := e7.tr q5 (by omega) (by omega)
  have t2 : agT T5 T6 0 (T5 100 13) := (b7.tr r5.1 (by omega) (by omega)).tr d7.1 (by omega) (by omega)
  have t3 : tb T2 T6 := ⟨t1.1.tr t2 (by omega) (by omega), fun o k g1 g2 g3 => by rw [d7.2 o k g1 g2 (by omega), r5.2 o k g1 g2 (by omega), b8 o k g1 g2 g3, t1.2 o k g1 g2 g3]⟩
  have wl := (p7.cg (G1 := G6) (T1 := T6)).2.2 (u4.mono (by omega) (by omega)) (t3.1.mono (by omega) (by omega))
  have wm := (q7.cg (G1 := G6) (T1 := T6)).2.2 (u3.mono (by omega) (by omega)) (t2.mono (by omega) (by omega))
  have wr := (r7.cg (G1 := G6) (T1 := T6)).2.2 (c5.mono (by omega) (by omega)) (d7.1.mono (by omega) (by omega))
  refine ⟨pr, by omega, by omega, by omega, p5.tr t3 (by omega) (by omega), p6.tr u4 (by omega) (by omega), ?_, ?_, by omega, by omega, by omega, by omega⟩
  · rw [c3, d3]
    exact wf_sel P W _ _ _ _ _ _ _ _ _ _ _ _ wl (Int.le_refl _) (wm.mono (by omega)) (wr.mono (by omega)) v1 v3 (by rw [v5, v2])
  · rw [d3, show T7 100 13 + 1 - 1 = T7 100 13 by omega, v3]; decide
theorem popS_v (T : St) : popS T 115 (T 100 13) = 14 ∧ popS T 118 (T 100 13) = T 124 (T 100 20 - 1) := by
  unfold popS adT
  simp [up_ap]
theorem popS_md {T : St} (x y : Int) : popS (md T x y) = md (popS T) x y := by
  funext o k
  simp only [popS, md, adT, up_ap]
  by_cases h1 : o = 100
  · subst h1
    by_cases k1 : k = 6
    · subst k1; simp
    · by_cases k2 : k = 25
      · subst k2; simp
      · by_cases k3 : k = 13
        · subst k3; simp
        · by_cases k4 : k = 20
          · subst k4; simp
          · by_cases k5 : k = 19
            · subst k5; simp
            · simp [k1, k2, k3, k4, k5]
  · simp [h1]
