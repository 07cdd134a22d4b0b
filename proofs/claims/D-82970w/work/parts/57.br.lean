/-! PLAIN: operands: the twin's turn, brackets -/
/-- the signs over an operand are put, whatever comes -/
theorem so_def {base : Int} (h0 : 0 ≤ base) : ∀ (k : Nat) (T : St), (T 100 20).toNat ≤ k → 0 ≤ T 100 20 → T 100 20 ≤ 4000 → 0 ≤ T 100 13 → T 100 13 + T 100 20 ≤ 10990 → -90000 ≤ T 100 19 - T 100 20 → T 100 19 ≤ 100000 → ∃ T', Tw_signsOver base T = some (0, T') ∧ T' 100 7 = T 100 7 ∧ T' 100 8 = T 100 8 := by
  intro k
  induction k with
  | zero =>
    intro T hk w0 w1 m0 m1 d0 d1
    exact ⟨T, so_stop ⟨w0, w1, m0, by omega, by omega, d1⟩ (Or.inl (by omega)) h0, rfl, rfl⟩
  | succ k ih =>
    intro T hk w0 w1 m0 m1 d0 d1
    have hb : TB T := ⟨w0, w1, m0, by omega, by omega, d1⟩
    by_cases q : T 100 20 ≤ base
    · exact ⟨T, so_stop hb (Or.inl q) h0, rfl, rfl⟩
    · by_cases q2 : T 122 (T 100 20 - 1) = 2
      · have s := TS_popU T
        have f1 : popU T 100 7 = T 100 7 := by simp [popU, adT, up_ap]
        have f2 : popU T 100 8 = T 100 8 := by simp [popU, adT, up_ap]
        have e := so_pop hb (by omega) q2 h0
        generalize popU T = T1 at s f1 f2 e
        obtain ⟨s1, s2, s3, s4, s5, s6, s7⟩ := s
        obtain ⟨T', x1, x2, x3⟩ := ih T1 (by omega) (by omega) (by omega) (by omega) (by omega) (by omega) (by omega)
        exact ⟨T', by rw [e, x1], by rw [x2, f1], by rw [x3, f2]⟩
      · exact ⟨T, so_stop hb (Or.inr q2) h0, rfl, rfl⟩
theorem KS_fx {P W base w p : Int} {T : St} (h0 : 0 ≤ base) (h : FX w p T) (w0 : 0 ≤ T 100 20) (w1 : T 100 20 ≤ 4000) (m0 : 0 ≤ T 100 13) (m1 : T 100 13 + T 100 20 ≤ 10990) (d0 : -80000 ≤ T 100 19) (d1 : T 100 19 ≤ 100000) : ∃ T', KS P W base T = some (0, T') ∧ FX w p T' := by
  obtain ⟨T1, x1, x2, x3⟩ := so_def h0 _ T (Nat.le_refl _) w0 w1 m0 m1 (by omega) d1
  unfold KS
  rw [x1, bd_some]
  exact Lx_fx ⟨by rw [x2]; exact h.1, by rw [x3]; exact h.2.1, h.2.2⟩
theorem KS_pop {P W base : Int} {T : St} (hb : TB T) (h : base < T 100 20) (h2 : T 122 (T 100 20 - 1) = 2) (h0 : 0 ≤ base) : KS P W base T = KS P W base (popU T) := by
  unfold KS
  rw [so_pop hb h h2 h0]
theorem Lx_t0 {P W base : Int} {T T' : St} (hF : T 100 7 = 0) (h : Tw_takeOperand P W T = some (0, T')) : Lx P W base 1 T = Lx P W base 1 T' := by
  conv => lhs; unfold Lx
  rw [Tw_expression_l9_eq]
  unfold Tw_expression_s9
  rw [if_pos hF, if_pos rfl, if_neg (by decide), h, bd_some]
  rfl
theorem Lx_t1 {P W base : Int} {T T' : St} (hF : T 100 7 = 0) (h : Tw_takeOperand P W T = some (1, T')) (hw : T' 100 20 ≤ T 100 20) : Lx P W base 1 T = KS P W base T' := by
  conv => lhs; unfold Lx
  rw [Tw_expression_l9_eq]
  unfold Tw_expression_s9 Tw_expression_b42 Tw_expression_b77
  rw [if_pos hF, if_pos rfl, if_neg (by decide), h, bd_some, if_neg (show ¬ (1 : Int) = 0 by decide), if_pos rfl, if_neg (show ¬ T 100 20 < T' 100 20 by omega), if_pos rfl, if_pos rfl, bd_bind]
  rfl
theorem Lx_t7 {P W base : Int} {T T' : St} (hF : T 100 7 = 0) (h : Tw_takeOperand P W T = some (1, T')) (hw : T 100 20 < T' 100 20) (w0 : 0 ≤ T 100 20) (w1 : T' 100 20 ≤ 4000) (h7 : T' 122 (T' 100 20 - 1) = 7) : Lx P W base 1 T = Lx P W base 0 T' := by
  conv => lhs; unfold Lx
  rw [Tw_expression_l9_eq]
  unfold Tw_expression_s9 Tw_expression_b42 Tw_expression_b77
  rw [if_pos hF, if_pos rfl, if_neg (by decide), h, bd_some, if_neg (show ¬ (1 : Int) = 0 by decide), if_pos rfl, if_pos hw, ckI_p (by omega) (by omega), ckB_p (by omega) (by omega), if_pos h7, if_pos rfl, if_neg (by decide)]
  rfl
/-- what OKX says but for the steps' structure -/
def OK0 (n : Int) (f : Int → Int) (G T G' T1 : St) : Prop := PR n f G' T1 ∧ T1 100 20 = T 100 20 ∧ T1 100 26 = T 100 26 ∧ G' 150 3 = G 150 3 ∧ tb T T1 ∧ agC G G' 0 (G 110 4) ∧ T 100 13 < T1 100 13 ∧ G 150 2 < G' 150 2 ∧ G' 110 4 + 2 * G 150 2 ≤ G 110 4 + 2 * G' 150 2 ∧ T1 100 13 + 4 * T 100 6 ≤ T 100 13 + 4 * T1 100 6
theorem OK0.ok {n : Int} {f : Int → Int} {P W : Int} {G T G' T1 : St} (h : OK0 n f G T G' T1) (hw : WF P W G' T1 0 (G 110 4) (G' 110 4) (T 100 13) (T1 100 13) 0 0 (31 - G 150 3)) (hk : T1 115 (T1 100 13 - 1) ≠ 8) : OKX n f P W G T G' T1 := by
  obtain ⟨a1, a2, a3, a4, a5, a6, a7, a8, a9, a10⟩ := h
  exact ⟨a1, a2, a3, a4, a5, a6, hw, hk, a7, a8, a9, a10⟩
theorem clT_TS {n : Int} {f : Int → Int} {T : St} (b k u : Int) : TS T (clT (md T b 0) k u) (b + 1) (T 100 13 + 1) (T 100 19 - 1) (T 100 20 - 1) := by
  have h := (TS_md T b 0).ncl (Int.le_refl _) (Int.le_refl _) (md T b 0 100 6 + 1) (md T b 0 100 20 - 1) (md T b 0 100 19 - 1) k u 0 (md T b 0 124 (md T b 0 100 20 - 1))
  unfold clT
  generalize adT (up (up (up (md T b 0) 100 6 (md T b 0 100 6 + 1)) 100 20 (md T b 0 100 20 - 1)) 100 19 (md T b 0 100 19 - 1)) k u 0 (md T b 0 124 (md T b 0 100 20 - 1)) = X at h ⊢
  rw [show md T b 0 100 6 = b by unfold md; rw [up_k _ (by decide), up_s], show md T b 0 100 20 = T 100 20 from md_o (by omega), show md T b 0 100 19 = T 100 19 from md_o (by omega)] at h
  exact h
theorem clT_v (T : St) (b k u : Int) : clT (md T b 0) k u 115 (T 100 13) = k ∧ clT (md T b 0) k u 116 (T 100 13) = u ∧ clT (md T b 0) k u 118 (T 100 13) = T 124 (T 100 20 - 1) := by
  have e : md T b 0 100 20 = T 100 20 := md_o (by omega)
  have e2 : md T b 0 124 (T 100 20 - 1) = T 124 (T 100 20 - 1) := md_o (by omega)
  have v := adT_v (up (up (up (md T b 0) 100 6 (md T b 0 100 6 + 1)) 100 20 (md T b 0 100 20 - 1)) 100 19 (md T b 0 100 19 - 1)) k u 0 (md T b 0 124 (md T b 0 100 20 - 1))
  rw [show up (up (up (md T b 0) 100 6 (md T b 0 100 6 + 1)) 100 20 (md T b 0 100 20 - 1)) 100 19 (md T b 0 100 19 - 1) 100 13 = T 100 13 by rw [up_k _ (by decide), up_k _ (by decide), up_k _ (by decide), md_o (by omega)]] at v
  unfold clT
  refine ⟨v.1, v.2.1, ?_⟩
  rw [v.2.2.2, e, e2]
theorem so_go {P W base : Int} {X : St} (xw : X 100 25 = 0) : (bd (bd (Tw_signsOver base X) fun _ T' => some ((1 : Int), T')) fun z T' => Tw_expression_l9 P W base (T' 100 25) (if z = 0 then 1 else 0) T') = bd (Tw_signsOver base X) fun _ T' => Lx P W base 0 T' := by
  cases hso : Tw_signsOver base X with
  | none => rfl
  | some q =>
    obtain ⟨z, T'⟩ := q
    have kf : T' 100 25 = X 100 25 := fr_Tw_signsOver base X (z, T') hso _ _ (by simp [fS])
    show Tw_expression_l9 P W base (T' 100 25) (if (1 : Int) = 0 then 1 else 0) T' = Lx P W base 0 T'
    rw [kf, xw]
    rfl
/-- a bracket's inside, and its close -/
theorem br_ok {n : Int} {f : Int → Int} {P W : Int} {d : Nat} (hd : (d : Int) ≤ 600) (hE : ExprOK n f P W d) {Ga Ta : St} {base y c K : Int} (hP : PR n f Ga Ta) (h0 : 0 ≤ base) (hb : base < Ta 100 20) (tw : Ta 122 (Ta 100 20 - 1) = y) (hy : (y = 5 ∧ c = 41 ∧ K = 15) ∨ (y = 8 ∧ c = 41 ∧ K = 10) ∨ (y = 6 ∧ c = 93 ∧ K = 7)) (hA : AD (Ga 150 3) + 13 ≤ d) :
    ∃ G5 G6, RE d 0 [] Ga = some (0, G5) ∧ Rd_sign c G5 = some (0, G6) ∧ ((∃ w p T', FG n f (4 * d) w p G6 ∧ Lx P W base 1 Ta = some (0, T') ∧ FX w p T') ∨ ∃ T5 b, b = sk n f (G5 150 2) ∧ b < n ∧ G6 = up G5 150 2 (b + 1) ∧ OKX n f P W Ga Ta G5 T5 ∧ Lx P W base 1 Ta = KS P W base (clT (md T5 b 0) K (if y = 6 then T5 123 (T5 100 20 - 1) else 0))) := by
  have N := hP.nums
  have hc : c ∈ sgs := by rcases hy with ⟨_, h, _⟩ | ⟨_, h, _⟩ | ⟨_, h, _⟩ <;> rw [h] <;> decide
  obtain ⟨G5, e5, R⟩ := hE Ga Ta base hP h0 (by omega) (Or.inr ⟨by rw [tw]; omega, by rw [tw]; omega⟩) hA
  rcases R with ⟨w, p, T', fg, lx', fx⟩ | ⟨T1, T5, L1, L2, L3, L4, L5, L6⟩
  · exact ⟨G5, _, e5, FG_sign fg (by omega) hc, Or.inl ⟨w, p, T', FG_sk fg, lx', fx⟩⟩
  · have L3' := L3
    obtain ⟨q1, q2, q3, q4, q5, q6, q7, q8, q9, q10, q11, q12⟩ := L3'
    have N5 := q1.nums
    have tp := top_of q5 (by omega) q2 (o := 122) (by decide)
    rw [tw] at tp
    obtain ⟨b, hbb⟩ : ∃ b, b = sk n f (G5 150 2) := ⟨_, rfl⟩
    rw [← hbb] at L5 L6
    have e6 : sk n f (T5 100 6) = b := by rw [hbb, N5.1.2.2.2.2]
    have g5 := sk_ge n f (T5 100 6)
    have g6 := sk_ge n f (G5 150 2)
    have g7 := sk_le (f := f) N5.1.2.1
    have lc := Lx_cl (P := P) (W := W) L4 (by omega) (by omega) e6 L5 L6 L2 (TB_of q1) (Or.inr ⟨by rw [tp]; omega, by rw [tp]; omega⟩) h0
    have mw : md T5 b 0 100 20 = T5 100 20 := md_o (by omega)
    have mk : md T5 b 0 122 (T5 100 20 - 1) = y := by rw [md_o (by omega)]; exact tp
    have mo : md T5 b 0 123 (T5 100 20 - 1) = T5 123 (T5 100 20 - 1) := md_o (by omega)
    have ma : md T5 b 0 100 6 = b := by unfold md; rw [up_k _ (by decide), up_s]
    have mF : md T5 b 0 100 7 = 0 := by rw [md_o (by omega)]; exact N5.2.2.2.2.2.2
    have mT : TT n f (md T5 b 0) := (q1.1.2.1.at _ _ (by decide)).at _ _ (by decide)
    have mB := TB_md (TB_of q1) b 0
    have bb : Tw_closes_b51 base 0 (md T5 b 0) = if sg n f b c = 1 then bd (Tw_signsOver base (clT (md T5 b 0) K (if y = 6 then T5 123 (T5 100 20 - 1) else 0))) (fun _ T' => some (1, T')) else some (0, fT 1 b (md T5 b 0)) := by
      rcases hy with ⟨h1, h2, h3⟩ | ⟨h1, h2, h3⟩ | ⟨h1, h2, h3⟩
      · subst h1; subst h2; subst h3
        rw [b51_5 mT ma (by omega) (by omega) mB mF (by omega) h0 (by rw [mw]; exact mk) (Or.inl rfl)]
        rfl
      · subst h1; subst h2; subst h3
        rw [b51_5 mT ma (by omega) (by omega) mB mF (by omega) h0 (by rw [mw]; exact mk) (Or.inr rfl)]
        rfl
      · subst h1; subst h2; subst h3
        rw [b51_6 mT ma (by omega) (by omega) mB mF (by omega) h0 (by rw [mw]; exact mk), mw, mo]
        rfl
    rw [bb] at lc
    have es := Rd_sign_e hc q1.1.1 (by omega) (by omega)
    rw [if_pos N5.2.2.2.2.2.1, ← hbb] at es
    by_cases sgc : sg n f b c = 1
    · rw [if_pos sgc] at lc es
      have lt := lkF_lt (sg_1 sgc).1 (by rcases hy with ⟨_, h, _⟩ | ⟨_, h, _⟩ | ⟨_, h, _⟩ <;> rw [h] <;> decide)
      refine ⟨G5, _, e5, es, Or.inr ⟨T5, b, hbb, lt.1, rfl, L3, ?_⟩⟩
      rw [L1, lc]
      unfold KS
      have xw : clT (md T5 b 0) K (if y = 6 then T5 123 (T5 100 20 - 1) else 0) 100 25 = 0 := by
        unfold clT
        rw [adT_o (by omega) (by omega), up_k _ (by decide), up_k _ (by decide), up_k _ (by decide)]
        exact up_s _ _ _ _
      generalize clT (md T5 b 0) K (if y = 6 then T5 123 (T5 100 20 - 1) else 0) = X at xw ⊢
      exact so_go xw
    · rw [if_neg sgc] at lc es
      have fg0 : FG n f 0 1 b (fC 1 b (skC n f G5)) := FG_of q1 (by decide) (by simp [fC, skC, up_ap]) (by funext k; simp [fC, skC, up_ap]) (by simp [fC, skC, up_ap]; omega) (by simp [fC, skC, up_ap]; omega) (by simp [fC, skC, up_ap]) (by simp [fC, skC, up_ap]) (by simp [fC, skC, up_ap]) (by simp [fC, skC, up_ap]) (by simp [fC, skC, up_ap]) (by simp [fC, skC, up_ap])
      obtain ⟨T', lf, fx⟩ := Lx_fx (P := P) (W := W) (base := base) (w := fT 1 b (md T5 b 0) 100 25) (x := 1) (FX_fT (p := b) (md T5 b 0) (show (0 : Int) < 1 by decide))
      exact ⟨G5, _, e5, es, Or.inl ⟨1, b, T', fg0.mono (by omega), by rw [L1, lc, bd_some]; exact lf, fx⟩⟩
