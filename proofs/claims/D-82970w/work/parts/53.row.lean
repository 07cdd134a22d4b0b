/-! PLAIN: a row of operators -/
theorem tk_e {α : Type} (G : St) (k : St → Option α) : tk G k = k G := rfl
theorem okx_fop {n : Int} {f : Int → Int} {P W : Int} {G T G2 T2 : St} (h : OKX n f P W G T G2 T2) (g0 : 0 ≤ G 110 4) (t l : Int) : OKX n f P W G T (fop n f G2 t l) T2 := by
  obtain ⟨p1, p2, p3, p4, p5, p6, p7, p8, p9, p10, p11, p12⟩ := h
  have hc := CS_fop n f G2 t l
  generalize fop n f G2 t l = G6 at hc ⊢
  have N := p1.nums
  have l1 := wf_le p7
  have g := sk_ge n f (G2 150 2)
  have g2 := sk_le (f := f) N.1.2.1
  have pr : PR n f G6 T2 := p1.mv hc (TS.rf T2) (by omega) (by omega) (by omega) (by omega) (by rw [sk_sk]; exact N.1.2.2.2.2) (by omega) (by omega) (by omega) (by omega) (by omega) (by omega) (by omega) (by omega) (by omega)
  obtain ⟨c1, c2, c3, c4, c5⟩ := hc
  refine ⟨pr, p2, p3, by omega, p5, p6.tr c5 (by omega) (by omega), ?_, p8, p9, by omega, by omega, by omega⟩
  rw [c3]
  exact (p7.cg (G1 := G6) (T1 := T2)).2.2 (c5.mono (by omega) (by omega)) (fun _ _ _ _ _ => rfl)
theorem okx_SY {n : Int} {f : Int → Int} {P W base : Int} {G T G2 T2 : St} (h : OKX n f P W G T G2 T2) (h0 : 0 ≤ T 100 13) : SY n f base T2 T2 := by
  obtain ⟨p1, p2, p3, p4, p5, p6, p7, p8, p9, p10, p11, p12⟩ := h
  exact ⟨p1.1.2.1, rfl, p1.1.2.2.2.2, TB_of p1, Int.le_refl _, by omega, p8⟩
/-- the operator's sides are read: both put it -/
theorem bin_ok {n : Int} {f : Int → Int} {P W t a x x' : Int} {G T Gh T2 Ga Ta G5 T5 G6 T6 : St} (h1 : OKX n f P W G T Gh T2) (hCa : CS Gh Ga x (Gh 110 4) (Gh 150 3)) (hTa : TS T2 Ta x' (T2 100 13) (T2 100 19) (T2 100 20 + 1)) (h2 : OKX n f P W Ga Ta G5 T5) (hC6 : CS G5 G6 (sk n f (G5 150 2)) (G5 110 4 + 1) (G5 150 3)) (hT6 : TS T5 T6 (T5 100 6) (T5 100 13 + 1) (T5 100 19) (T5 100 20 - 1)) (hx : Gh 150 2 < x) (hx' : T2 100 6 < x') (g0 : 0 ≤ G 110 4) (t0 : 0 ≤ T 100 13) (v1 : G6 111 (G5 110 4) = t + 37) (v2 : G6 113 (G5 110 4) = a) (v3 : T6 115 (T5 100 13) = 13) (v4 : T6 116 (T5 100 13) = t) (v5 : T6 118 (T5 100 13) = a) (t1 : 1 ≤ t) (t18 : t ≤ 18) : OKX n f P W G T G6 T6 := by
  obtain ⟨p1, p2, p3, p4, p5, p6, p7, p8, p9, p10, p11, p12⟩ := h1
  obtain ⟨q1, q2, q3, q4, q5, q6, q7, q8, q9, q10, q11, q12⟩ := h2
  have N := p1.nums
  have N5 := q1.nums
  have g1 := sk_ge n f (G5 150 2)
  have g2 := sk_le (f := f) N5.1.2.1
  have l1 := wf_le p7
  have l2 := wf_le q7
  obtain ⟨a1, a2, a3, a4, a5⟩ := hCa
  obtain ⟨b1, b2, b3, b4, b5, b6, b7⟩ := hTa
  have pr : PR n f G6 T6 := q1.mv hC6 hT6 (by omega) (by omega) (by omega) (by omega) (by rw [sk_sk]; exact N5.1.2.2.2.2) (by omega) (by omega) (by omega) (by omega) (by omega) (by omega) (by omega) (by omega) (by omega)
  obtain ⟨c1, c2, c3, c4, c5⟩ := hC6
  obtain ⟨d1, d2, d3, d4, d5, d6, d7⟩ := hT6
  rw [a3, b3, a4] at q7
  rw [a3] at q6
  have e1 : agC Gh G5 0 (Gh 110 4) := a5.tr q6 (by omega) (by omega)
  have e2 : agC Gh G6 0 (Gh 110 4) := e1.tr c5 (by omega) (by omega)
  have e3 : tb T2 T5 := b7.tr q5 (by omega) (by omega)
  have e4 : tb T2 T6 := e3.tr d7 (by omega) (by omega)
  have wl := (p7.cg (G1 := G6) (T1 := T6)).2.2 (e2.mono (by omega) (by omega)) (e4.1.mono (by omega) (by omega))
  have wr := (q7.cg (G1 := G6) (T1 := T6)).2.2 (c5.mono (by omega) (by omega)) (d7.1.mono (by omega) (by omega))
  rw [p4] at wr
  refine ⟨pr, by omega, by omega, by omega, p5.tr e4 (by omega) (by omega), p6.tr e2 (by omega) (by omega), ?_, ?_, by omega, by omega, by omega, by omega⟩
  · rw [c3, d3]
    exact wf_bin P W _ _ _ _ _ _ _ _ t _ _ wl (Int.le_refl _) wr t1 t18 v1 v3 v4 (by rw [v5, v2])
  · rw [d3, show T5 100 13 + 1 - 1 = T5 100 13 by omega, v3]; decide
theorem row_stop {n : Int} {f : Int → Int} {k w p : Int} {G : St} (h : FG n f k w p G) (Rf : Nat → List Int → St → Option (Int × St)) (x : Int) : Rd_row_l19 Rf x G = some (0, G) := by
  rw [Rd_row_l19_eq]
  unfold Rd_row_s19
  rw [Ft_is_1 (FG_F h), bd_some, if_neg (by decide)]
  rfl
/-- the side behind an operator: a row of higher rank, or a factor -/
theorem row_in {n : Int} {f : Int → Int} {P W : Int} {d : Nat} (hF : FactorOK n f P W d) (hR : RowOK n f P W d) {Ga Ta : St} {base t : Int} (hP : PR n f Ga Ta) (h0 : 0 ≤ base) (hb : base < Ta 100 20) (t1 : 1 ≤ t) (t18 : t ≤ 18) (top : Ta 122 (Ta 100 20 - 1) = 1) (top2 : Ta 123 (Ta 100 20 - 1) = t) (hA : AD (Ga 150 3) + 11 - rkF t ≤ d) {α : Type} (K : St → Option α) :
    ∃ G5, (if rkF t < 10 then bd (RE d 1 [rkF t] Ga) (fun _ G => K G) else bd (RE d 2 [] Ga) (fun _ G => K G)) = K G5 ∧ (FLX n f (4 * d) P W base G5 Ta ∨ ∃ T1 T2, Lx P W base 1 Ta = Lx P W base 0 T1 ∧ (∀ x y r, r ≤ rkF t + 1 → Tw_reduce base r (md T1 x y) = Tw_reduce base r (md T2 x y)) ∧ OKX n f P W Ga Ta G5 T2 ∧ SY n f base T1 T2 ∧ rkF (opn n f (sk n f (G5 150 2))) ≤ rkF t) := by
  have rk := rkF_r (t := t) (by omega) t18
  have rp := rk.2.2 (by omega)
  by_cases c : rkF t < 10
  · rw [if_pos c]
    obtain ⟨G5, e, R⟩ := hR Ga Ta base (rkF t) hP h0 (by omega) (by omega) (by omega) (Or.inr ⟨by rw [top]; decide, Or.inr (by rw [top2]; exact Int.le_refl _)⟩) hA
    refine ⟨G5, by rw [e, bd_some], ?_⟩
    rcases R with R | ⟨T1, T2, R1, R2, R3, R4, R5, R6⟩
    · exact Or.inl R
    · exact Or.inr ⟨T1, T2, R1, R2, R3, R4, by rw [← R5]; exact R6⟩
  · rw [if_neg c]
    obtain ⟨G5, e, R⟩ := hF Ga Ta base hP h0 (by omega) (by omega)
    refine ⟨G5, by rw [e, bd_some], ?_⟩
    rcases R with R | ⟨T1, R1, R2⟩
    · exact Or.inl R
    · refine Or.inr ⟨T1, T1, ?_, fun _ _ _ _ => rfl, R2, okx_SY R2 hP.nums.2.2.2.1.1, ?_⟩
      · obtain ⟨q1, q2, q3, q4, q5, q6, q7, q8, q9, q10, q11, q12⟩ := R2
        have tp : T1 122 (Ta 100 20 - 1) = 1 := by rw [q5.2 _ _ (by decide) (by omega) (by omega)]; exact top
        rw [R1]
        unfold KS
        rw [so_stop (TB_of q1) (Or.inr (by rw [q2, tp]; decide)) h0, bd_some]
      · have r := oprF_r (lkF n f (sk n f (G5 150 2))) (lkF n f (sk n f (G5 150 2) + 1))
        have r2 := rkF_r r.1 r.2
        unfold opn
        omega
theorem skT_md {n : Int} {f : Int → Int} {T : St} {a : Int} (h : sk n f (T 100 6) = a) : skT n f T = md T a (T 100 25) := by
  unfold skT md
  rw [h, up_id' (show T 100 25 = up T 100 6 a 100 25 by rw [up_k _ (by decide)])]
theorem adC_CT {n : Int} {f : Int → Int} {G : St} (h : CT n f G) (op w p m : Int) : CT n f (adC G op w p m) := h.cg (adC_o (by omega) (by omega)) (funext fun _ => adC_o (by omega) (by omega))
theorem fop_r {n : Int} {f : Int → Int} {G : St} (t l : Int) : fop n f G t l 150 13 = (if t = 0 then 60 else t + 37) ∧ fop n f G t l 150 14 = (if t = 0 then 0 else l) ∧ fop n f G t l 150 15 = rkF t - 1 := by
  unfold fop
  refine ⟨?_, ?_, up_s _ _ _ _⟩
  · rw [up_k _ (by decide), up_k _ (by decide), up_s]
  · rw [up_k _ (by decide), up_s]
theorem opn_r (n : Int) (f : Int → Int) (a : Int) : 0 ≤ opn n f a ∧ opn n f a ≤ 18 ∧ 0 ≤ rkF (opn n f a) ∧ rkF (opn n f a) ≤ 10 := by
  have r := oprF_r (lkF n f a) (lkF n f (a + 1))
  have r2 := rkF_r r.1 r.2
  unfold opn
  omega
theorem SY.pop {n : Int} {f : Int → Int} {base : Int} {T1 T2 T3 : St} (h : SY n f base T1 T2) (ha : T3 100 6 = T2 100 6) (hw : T3 100 20 ≤ T2 100 20) : SY n f base T1 T3 := by
  obtain ⟨s1, s2, s3, s4, s5, s6, s7⟩ := h
  exact ⟨s1, by rw [s2, ha], s3, s4, by omega, s6, s7⟩
/-- the twin's way over an operator: what waits below is of lower rank -/
theorem row_tw {n : Int} {f : Int → Int} {P W base least t a ρ : Int} {T Gh T1 T2 : St} (h0 : 0 ≤ base) (hb : base ≤ T 100 20) (htop : T 100 20 = base ∨ (T 122 (T 100 20 - 1) ≠ 2 ∧ (T 122 (T 100 20 - 1) ≠ 1 ∨ rkF (T 123 (T 100 20 - 1)) ≤ least))) (p1 : PR n f Gh T2) (p2 : T2 100 20 = T 100 20) (p5 : tb T T2) (hS : SY n f base T1 T2) (hG : Gh 150 2 = a) (ha : a = sk n f a) (ht : t = opn n f a) (t1 : 0 < t) (c : ¬ rkF t ≤ least) (r1 : rkF t ≤ ρ) (hred : ∀ x y r, r ≤ ρ → Tw_reduce base r (md T1 x y) = Tw_reduce base r (md T2 x y)) :
    ∃ Ta, Lx P W base 0 T1 = Lx P W base 1 Ta ∧ TS T2 Ta (a + opl n f a) (T2 100 13) (T2 100 19) (T2 100 20 + 1) ∧ Ta 122 (T2 100 20) = 1 ∧ Ta 123 (T2 100 20) = t ∧ Ta 124 (T2 100 20) = a := by
  have N := p1.nums
  obtain ⟨s1, s2, s3, s4, s5, s6, s7⟩ := hS
  have ea : sk n f (T1 100 6) = a := by rw [s2, ← N.1.2.2.2.2, hG, ← ha]
  have mw : ∀ y, md T2 a y 100 20 = T2 100 20 := fun y => md_o (by omega)
  have m1 : ∀ y k, md T2 a y 122 k = T2 122 k := fun y k => md_o (by omega)
  have m2 : ∀ y k, md T2 a y 123 k = T2 123 k := fun y k => md_o (by omega)
  have st : ∀ y, Tw_reduce base (rkF t) (md T2 a y) = some (0, md T2 a y) := by
    intro y
    refine rd_stop (TB_md (TB_of p1) _ _) ?_ h0
    rw [mw, m1, m2, p2]
    by_cases z : T 100 20 = base
    · left; omega
    · rcases htop with h | ⟨h, h'⟩
      · exact absurd h z
      · rw [p5.2 122 _ (by decide) (by omega) (by omega), p5.2 123 _ (by decide) (by omega) (by omega)]
        rcases h' with h' | h'
        · exact Or.inr (Or.inl h')
        · exact Or.inr (Or.inr (by omega))
  have hr3 : Tw_reduce base (rkF t) (skT n f T1) = some (0, md T2 a (T1 100 25)) := by rw [skT_md ea, hred _ _ _ r1, st]
  have lx := Lx_op (P := P) (W := W) h0 s1 (by omega) (by omega) s3 s4 s6 s7 ea.symm ht t1 hr3 (TB_md (TB_of p1) _ _) ((p1.1.2.1.at _ _ (by decide)).at _ _ (by decide)) (by unfold md; rw [up_k _ (by decide), up_s])
  refine ⟨_, lx, ((TS_md T2 a (T1 100 25)).nps (Int.le_refl _) (Int.le_refl _) 1 t a).nat (Int.le_refl _) (by omega) _, ?_, ?_, ?_⟩
  · rw [up_o _ (by decide), ← mw (T1 100 25)]; exact (psT_v _ _ _ _).1
  · rw [up_o _ (by decide), ← mw (T1 100 25)]; exact (psT_v _ _ _ _).2.1
  · rw [up_o _ (by decide), ← mw (T1 100 25)]; exact (psT_v _ _ _ _).2.2.1
theorem row_loop {n : Int} {f : Int → Int} {P W : Int} {d : Nat} (hd : (d : Int) ≤ 600) (hF : FactorOK n f P W d) (hR : RowOK n f P W d) {G T : St} {base least : Int} (hP : PR n f G T) (h0 : 0 ≤ base) (hb : base ≤ T 100 20) (l0 : 0 ≤ least) (l9 : least ≤ 9) (htop : T 100 20 = base ∨ (T 122 (T 100 20 - 1) ≠ 2 ∧ (T 122 (T 100 20 - 1) ≠ 1 ∨ rkF (T 123 (T 100 20 - 1)) ≤ least))) (hA : AD (G 150 3) + 11 - least ≤ d + 1) :
    ∀ (k : Nat) (Gh T1 T2 : St) (t ρ : Int), OKX n f P W G T Gh T2 → Lx P W base 1 T = Lx P W base 0 T1 → SY n f base T1 T2 → Gh 150 2 = sk n f (Gh 150 2) → t = opn n f (Gh 150 2) → Gh 150 13 = (if t = 0 then 60 else t + 37) → Gh 150 14 = (if t = 0 then 0 else opl n f (Gh 150 2)) → Gh 150 15 = rkF t - 1 → rkF t ≤ ρ → least + 1 ≤ ρ → (∀ x y r, r ≤ ρ → Tw_reduce base r (md T1 x y) = Tw_reduce base r (md T2 x y)) → (n - Gh 150 2).toNat < k →
      ∃ G', Rd_row_l19 (RE d) least Gh = some (0, G') ∧ (FLX n f (4 * ((d + 1 : Nat) : Int)) P W base G' T ∨ ∃ T1 T2, Lx P W base 1 T = Lx P W base 0 T1 ∧ (∀ x y r, r ≤ least + 1 → Tw_reduce base r (md T1 x y) = Tw_reduce base r (md T2 x y)) ∧ OKX n f P W G T G' T2 ∧ SY n f base T1 T2 ∧ G' 150 2 = sk n f (G' 150 2) ∧ rkF (opn n f (G' 150 2)) ≤ least) := by
  intro k
  induction k with
  | zero => intro Gh T1 T2 t ρ _ _ _ _ _ _ _ _ _ _ _ hk; omega
  | succ k ih =>
    intro Gh T1 T2 t ρ hO hL hS ha ht ho hs hr r1 r2 hred hk
    have hO' := hO
    obtain ⟨p1, p2, p3, p4, p5, p6, p7, p8, p9, p10, p11, p12⟩ := hO'
    have N := p1.nums
    have N0 := hP.nums
    have onr := opn_r n f (Gh 150 2)
    rw [← ht] at onr
    rw [Rd_row_l19_eq]
    unfold Rd_row_s19
    rw [Ft_is_0 N.2.2.2.2.2.1, bd_some, if_pos rfl]
    by_cases c : rkF t ≤ least
    · rw [if_pos (by omega)]
      exact ⟨Gh, rfl, Or.inr ⟨T1, T2, hL, fun x y r hr' => hred x y r (by omega), hO, hS, ha, by rw [← ht]; exact c⟩⟩
    · have t1 : 0 < t := by
        by_cases q : t = 0
        · exfalso
          rw [q] at c
          have : rkF 0 = 0 := by decide
          omega
        · omega
      have pl := prF_lt (n := n) (f := f) (a := Gh 150 2) (by rw [← ht]; exact t1)
      rw [if_neg (show ¬ t = 0 by omega)] at ho hs
      obtain ⟨Ta, lx, sTa, w1, w2, w3⟩ := row_tw (P := P) (W := W) h0 hb htop p1 p2 p5 hS rfl ha ht t1 c r1 hred
      have sGa := CS_at Gh (Gh 150 2 + opl n f (Gh 150 2))
      rw [if_neg (by omega), hs, ho, hr, show rkF t - 1 + 1 = rkF t by omega, ckI_p (by omega) (by omega), ckI_p (by omega) (by omega), tk_e]
      generalize eGa : up Gh 150 2 (Gh 150 2 + opl n f (Gh 150 2)) = Ga at sGa ⊢
      have g3 := sk_ge n f (T2 100 6)
      have e3 : sk n f (T2 100 6) = Gh 150 2 := by rw [← N.1.2.2.2.2, ← ha]
      have pa : PR n f Ga Ta := p1.mv sGa sTa (by omega) (by omega) (by omega) (by omega) rfl (by omega) (by omega) (by omega) (by omega) (by omega) (by omega) (by omega) (by omega) (by omega)
      have dG : Ga 150 3 = G 150 3 := by rw [sGa.2.2.2.1, p4]
      have wTa : Ta 100 20 - 1 = T2 100 20 := by rw [sTa.2.2.2.2.1]; omega
      obtain ⟨G5, e5, R⟩ := row_in hF hR pa h0 (by have := sTa.2.2.2.2.1; omega) (by omega) onr.2.1 (by rw [wTa]; exact w1) (by rw [wTa]; exact w2) (by rw [dG]; omega) (fun G19 => Rd_row_b88 (RE d) least (t + 37) (Gh 150 2) G19)
      rw [e5]
      rcases R with ⟨w, p, T', fg, lx', fx⟩ | ⟨T1', T2', R1, R2, R3, R4, R5⟩
      · refine ⟨adC G5 (t + 37) 0 (Gh 150 2) 0, ?_, Or.inl ⟨w, p, T', (FG_add fg _ _ _ _).mono (by omega), by rw [hL, lx, lx'], fx⟩⟩
        unfold Rd_row_b88
        rw [FG_add_e fg (by omega) 0 _ 0 (by omega) (by omega), bd_some, Ft_is_1 (FG_F (FG_add fg _ _ _ _)), bd_some, if_neg (by decide)]
        exact row_stop (FG_add fg _ _ _ _) _ _
      · have R3' := R3
        obtain ⟨q1, q2, q3, q4, q5, q6, q7, q8, q9, q10, q11, q12⟩ := R3'
        have N5 := q1.nums
        have eA : adC G5 (t + 37) 0 (Gh 150 2) 0 150 2 = G5 150 2 := adC_o (by omega) (by omega)
        have eF : adC G5 (t + 37) 0 (Gh 150 2) 0 130 0 = 0 := by rw [adC_o (by omega) (by omega)]; exact N5.2.2.2.2.2.1
        unfold Rd_row_b88
        rw [Cd_add_e N5.2.2.1.1 (by omega) (by omega) (by omega), bd_some, Ft_is_0 eF, bd_some, if_pos rfl, Rd_findOperator_e (adC_CT q1.1.1 _ _ _ _) (by rw [eA]; omega) (by rw [eA]; omega), bd_some, eA]
        show ∃ G', Rd_row_l19 (RE d) least _ = some (0, G') ∧ _
        have cv := adC_v G5 (t + 37) 0 (Gh 150 2) 0
        have fr := fop_r (n := n) (f := f) (G := adC G5 (t + 37) 0 (Gh 150 2) 0) (opn n f (sk n f (G5 150 2))) (opl n f (sk n f (G5 150 2)))
        have s6 := (CS_ad G5 (t + 37) 0 (Gh 150 2) 0).nfop (by omega) n f (opn n f (sk n f (G5 150 2))) (opl n f (sk n f (G5 150 2)))
        have f1 : fop n f (adC G5 (t + 37) 0 (Gh 150 2) 0) (opn n f (sk n f (G5 150 2))) (opl n f (sk n f (G5 150 2))) 111 (G5 110 4) = t + 37 := by rw [fop_o (by omega)]; exact cv.1
        have f3 : fop n f (adC G5 (t + 37) 0 (Gh 150 2) 0) (opn n f (sk n f (G5 150 2))) (opl n f (sk n f (G5 150 2))) 113 (G5 110 4) = Gh 150 2 := by rw [fop_o (by omega)]; exact cv.2.2.1
        generalize fop n f (adC G5 (t + 37) 0 (Gh 150 2) 0) (opn n f (sk n f (G5 150 2))) (opl n f (sk n f (G5 150 2))) = G6 at fr s6 f1 f3 ⊢
        have wT2 : T2' 100 20 - 1 = T2 100 20 := by rw [q2]; exact wTa
        have top0 : T2' 122 (T2 100 20) = 1 := by rw [q5.2 _ _ (by decide) (by omega) (by omega)]; exact w1
        have top1 : T2' 123 (T2 100 20) = t := by rw [q5.2 _ _ (by decide) (by omega) (by omega)]; exact w2
        have top2 : T2' 124 (T2 100 20) = Gh 150 2 := by rw [q5.2 _ _ (by decide) (by omega) (by omega)]; exact w3
        obtain ⟨v1, v2, v3, v4, v5⟩ := popB_v T2'
        rw [wT2] at v2 v3
        rw [top1] at v2
        rw [top2] at v3
        have g1 := sk_ge n f (G5 150 2)
        have hO2 := bin_ok hO sGa sTa R3 s6 (TS_popB T2') (by omega) (by omega) (by omega) (by omega) f1 f3 v1 v2 v3 (by omega) onr.2.1
        have a6 := s6.2.1
        refine ih G6 T1' (popB T2') (opn n f (sk n f (G5 150 2))) (rkF t) hO2 (by rw [hL, lx, R1]) (R4.pop (TS_popB T2').2.1 (by omega)) (by rw [a6, sk_sk]) (by rw [a6]) fr.1 (by rw [a6]; exact fr.2.1) fr.2.2 R5 (by omega) ?_ (by have := sGa.2.1; omega)
        intro x y r hr'
        rw [R2 x y r (by omega), ← popB_md]
        have mt : ∀ o k, o ≠ 100 → md T2' x y o k = T2' o k := fun o k q => md_o (by omega)
        have mw : md T2' x y 100 20 = T2' 100 20 := md_o (by omega)
        exact rd_pop (TB_md (TB_of q1) _ _) (by omega) (by rw [mw, mt _ _ (by decide), wT2]; exact top0) (by rw [mw, mt _ _ (by decide), wT2, top1]; exact hr') h0
theorem RowOK_s {n : Int} {f : Int → Int} {P W : Int} {d : Nat} (hd : (d : Int) ≤ 600) (hF : FactorOK n f P W d) (hR : RowOK n f P W d) : RowOK n f P W (d + 1) := by
  intro G T base least hP h0 hb l0 l9 htop hA
  have N := hP.nums
  show ∃ G', Rd_row (RE d) least G = some (0, G') ∧ _
  unfold Rd_row
  obtain ⟨G2, e, R⟩ := hF G T base hP h0 hb (by omega)
  rw [e, bd_some]
  rcases R with ⟨w, p, T', fg, lx', fx⟩ | ⟨T1, R1, R2⟩
  · refine ⟨G2, by rw [Ft_is_1 (FG_F fg), bd_some, if_neg (by decide)], Or.inl ⟨w, p, T', fg.mono (by omega), lx', fx⟩⟩
  · have R2' := R2
    obtain ⟨q1, q2, q3, q4, q5, q6, q7, q8, q9, q10, q11, q12⟩ := R2'
    have N2 := q1.nums
    rw [Ft_is_0 N2.2.2.2.2.2.1, bd_some, if_pos rfl, Rd_findOperator_e q1.1.1 (by omega) (by omega), bd_some]
    have fr := fop_r (n := n) (f := f) (G := G2) (opn n f (sk n f (G2 150 2))) (opl n f (sk n f (G2 150 2)))
    have fa := fop_at (n := n) (f := f) (G := G2) (t := opn n f (sk n f (G2 150 2))) (l := opl n f (sk n f (G2 150 2)))
    have ok := okx_fop R2 (by omega) (opn n f (sk n f (G2 150 2))) (opl n f (sk n f (G2 150 2)))
    generalize fop n f G2 (opn n f (sk n f (G2 150 2))) (opl n f (sk n f (G2 150 2))) = G6 at fr fa ok ⊢
    have onr := opn_r n f (sk n f (G2 150 2))
    have l1 : Lx P W base 1 T = Lx P W base 0 T1 := by
      rw [R1]
      unfold KS
      rw [so_stop (TB_of q1) ?_ h0, bd_some]
      by_cases z : T 100 20 = base
      · left; omega
      · rcases htop with h | ⟨h, h'⟩
        · exact absurd h z
        · right
          rw [q2, q5.2 _ _ (by decide) (by omega) (by omega)]
          exact h
    exact row_loop hd hF hR hP h0 hb l0 l9 htop (by omega) ((n - G6 150 2).toNat + 1) G6 T1 T1 (opn n f (sk n f (G2 150 2))) 11 ok l1 (okx_SY R2 (by omega)) (by rw [fa, sk_sk]) (by rw [fa]) fr.1 (by rw [fa]; exact fr.2.1) fr.2.2 (by omega) (by omega) (fun _ _ _ _ => rfl) (by omega)
