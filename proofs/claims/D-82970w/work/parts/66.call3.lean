/-! PLAIN: operands: a call from its name on -/
theorem l51_f {n : Int} {f : Int → Int} {k w p z a hi g x : Int} {G : St} (h : FG n f k w p G) (Rf : Nat → List Int → St → Option (Int × St)) : Rd_call_l51 Rf z a hi g x G = Rd_call_b133 Rf z a hi g G := by
  by_cases q : x = 0
  · rw [q]; exact l51_0 Rf
  · rw [Rd_call_l51_eq]
    unfold Rd_call_s51
    rw [if_neg q, Ft_is_1 (FG_F h), bd_some, if_neg (by decide)]
    cases Rd_call_b133 Rf z a hi g G <;> rfl
theorem is_fresh {T : St} (hb : TB T) (hm : 0 < T 100 13) (hw : 1 ≤ T 100 20) (h : T 115 (T 100 13 - 1) = 8) (h1 : T 123 (T 100 20 - 1) = T 100 13 - 1) : Tw_isFresh T = some (1, T) := by
  obtain ⟨b1, b2, b3, b4, b5, b6⟩ := hb
  unfold Tw_isFresh
  rw [if_pos h, h1, if_pos rfl, if_pos rfl]
  simp (disch := omega) only [tk, vl, bd_some, up_ap, acp_ap, ckI_p, ckL_p, ckB_p, ckA_p, ckD_p, ckQ_p, ite_bind, ckI_bind, ckL_bind, ckB_bind, ckA_bind, ckD_bind, ckQ_bind, bd_bind, tk_bind, vl_bind, ex_bind, lb_inl, lb_some, lk_inl, lk_inr, Int.reduceEq, Int.reduceLT, Int.reduceLE, Int.reduceNe, Int.reduceAdd, Int.reduceSub, Int.reduceMul, Int.reduceNeg, ite_self, ex, Option.map_some, Option.bind_some, and_true, true_and, and_false, false_and, if_true, if_false, ite_true, ite_false, reduceIte, not_true, not_false_eq_true]
theorem cl_fresh {base a w : Int} {T : St} (hb : TB T) (hm : 0 < T 100 13) (h0 : 0 ≤ base) (hw : base < T 100 20) (h : T 115 (T 100 13 - 1) = 8) (h1 : T 123 (T 100 20 - 1) = T 100 13 - 1) (h7 : T 122 (T 100 20 - 1) = 7) : Tw_closes base (md T a w) = Tw_closes_b51 base 1 (md T a 0) := by
  have e : up (md T a w) 100 25 0 = md T a 0 := by unfold md; rw [up_up]
  have mw : md T a 0 100 20 = T 100 20 := md_o (by omega)
  have mm : md T a 0 100 13 = T 100 13 := md_o (by omega)
  have mo : ∀ o k, 115 ≤ o → md T a 0 o k = T o k := fun o k q => md_o (by omega)
  have hb' := TB_md hb a 0
  unfold Tw_closes
  rw [ckB_p (by decide) (by decide), tk_e, e]
  generalize md T a 0 = M at mw mm mo hb' ⊢
  have fr := is_fresh hb' (by omega) (by omega) (by rw [mm, mo _ _ (by decide)]; exact h) (by rw [mm, mw, mo _ _ (by decide)]; exact h1)
  obtain ⟨b1, b2, b3, b4, b5, b6⟩ := hb'
  rw [if_pos (by omega), ckI_p (by omega) (by omega), ckB_p (by omega) (by omega), if_pos (by rw [mw, mo _ _ (by decide)]; exact h7), fr, bd_some, if_neg (by decide)]
  unfold Tw_closes_b41
  rw [if_neg (by decide)]
theorem b51_8 {n : Int} {f : Int → Int} {base a : Int} {T : St} (hT : TT n f T) (ha : T 100 6 = a) (a0 : 0 ≤ a) (a1 : a ≤ n) (hb : TB T) (hw : base < T 100 20) (h0 : 0 ≤ base) (hk : T 122 (T 100 20 - 1) = 7) (h1 : 0 ≤ T 123 (T 100 20 - 1)) (h2 : T 123 (T 100 20 - 1) < T 100 13) (m0 : T 125 (T 100 20 - 1) = 0) (c41 : lkF n f a = 41) : Tw_closes_b51 base 1 T = bd (Tw_signsOver base (caT T 0 1)) (fun _ T' => some (1, T')) := by
  have hn := hT.2.2.1
  have hb' := hb
  obtain ⟨b1, b2, b3, b4, b5, b6⟩ := hb'
  unfold Tw_closes_b51
  rw [if_neg (by omega), ckI_p (by omega) (by omega), ckB_p (by omega) (by omega), Tw_isSign_e hT (by omega) (by omega) 58, bd_some, hk, if_neg (show ¬ (7 : Int) = 3 by decide), ite_self]
  unfold Tw_closes_b116
  rw [Tw_isSign_e hT (by omega) (by omega) 44, bd_some, ha, sg_c (by decide) (by decide), if_neg (show ¬ lkF n f a = 44 by rw [c41]; decide), if_pos rfl]
  unfold Tw_closes_b221
  rw [Tw_isSign_e hT (by omega) (by omega) 41, bd_some, ha, sg_c (by decide) (by decide), if_pos c41, if_neg (by decide), if_neg (by decide), if_pos rfl, b288_7 hb (by omega) (by omega) (by omega) h1 h2 (by omega) (by omega) (Or.inr rfl), if_neg (by decide)]
theorem op_call {n : Int} {f : Int → Int} {P W base a b z : Int} {e : Nat} (hd : (e : Int) ≤ 600) (hE : ExprOK n f P W e) {G1 T1 T X2 : St} (hP : PR n f G1 T1) (h0 : 0 ≤ base) (hb : base ≤ T1 100 20) (hA : AD (G1 150 3) ≤ e + 3) (eb : sk n f (G1 150 2) = b) (bn : b < n) (hF : T 100 7 = 0) (hTw : T 100 20 = T1 100 20) (sX : TS T1 X2 b (T1 100 13 + 1) (T1 100 19) (T1 100 20)) (kX : X2 115 (T1 100 13) = 1)
    (hto : Tw_takeOperand P W T = (bd (Tw_deeper b X2) fun _ G74 => ckI ((G74 100 6) + 1) <| tk (up G74 100 6 ((G74 100 6) + 1)) fun G75 => bd (Tw_put 8 z 0 a G75) fun z65 G77 => bd (Tw_push 7 z65 a G77) fun _ G79 => bd (Tw_gap G79) fun _ G70 => bd (Tw_isSign 41 G70) fun z71 G72 => ckB z71 2 (some (z71, G72)))) :
    ∃ G', Rd_call (RE e) z a (skC n f G1) = some (0, G') ∧ (FLX n f (4 * e + 8) P W base G' T ∨ ∃ T6, Lx P W base 1 T = KS P W base T6 ∧ OKX n f P W G1 T1 G' T6) := by
  have N := hP.nums
  have hA' := hA
  unfold AD at hA
  have g := sk_ge n f (G1 150 2)
  have g' := sk_ge n f (T1 100 6)
  have sS := CS_sk n f G1
  rw [eb] at sS
  have zS := sS.2.2.1
  unfold Rd_call Rd_call_b49
  rw [Cd_add_e (by omega) (by omega) (by decide) (by decide), bd_some, zS]
  have sA := sS.nad (Int.le_refl _) 28 z a 0
  have cv := adC_v (skC n f G1) 28 z a 0
  rw [zS] at cv
  generalize adC (skC n f G1) 28 z a 0 = GA at sA cv ⊢
  have aA := sA.2.1
  have dA := sA.2.2.2.1
  rw [aA]
  have x2 := sX.2.1
  have x3 := sX.2.2.1
  have x4 := sX.2.2.2.1
  have x5 := sX.2.2.2.2.1
  have FX2 := ts_F hP sX
  have bX : TB X2 := ⟨by omega, by omega, by omega, by omega, by omega, by omega⟩
  obtain ⟨b2, hb2⟩ : ∃ b2, b2 = sk n f (b + 1) := ⟨_, rfl⟩
  have gb2 := sk_ge n f (b + 1)
  have gb3 := sk_le (n := n) (f := f) (a := b + 1) (by omega)
  rw [← hb2] at gb2 gb3
  obtain ⟨o1, o2⟩ := tw_op2 (K := 8) (z := z) (a := a) (kk := 7) (u := fun i => i) (fun G79 => bd (Tw_gap G79) fun _ G70 => bd (Tw_isSign 41 G70) fun z71 G72 => ckB z71 2 (some (z71, G72))) sX (by omega) (Int.le_refl _) bX (by omega) (by omega) FX2.2
  have cz : ∀ Y, TT n f Y → Y 100 6 = b + 1 → (bd (Tw_gap Y) fun _ G70 => bd (Tw_isSign 41 G70) fun z71 G72 => ckB z71 2 (some (z71, G72))) = some (if lkF n f b2 = 41 then 1 else 0, skT n f Y) := by
    intro Y hY ya
    rw [Tw_gap_e hY (by omega) (by omega), bd_some, show up Y 100 6 (sk n f (Y 100 6)) = skT n f Y from rfl, Tw_isSign_e (skT_TT hY) (by rw [skT_at, ya, ← hb2]; omega) (by rw [skT_at, ya, ← hb2]; omega) 41, bd_some, skT_at, ya, ← hb2, sg_c (by decide) (by decide)]
    by_cases q : lkF n f b2 = 41
    · rw [if_pos q, ckB_p (by decide) (by decide)]
    · rw [if_neg q, ckB_p (by decide) (by decide)]
  by_cases dp : G1 150 3 = 30
  · obtain ⟨Y, e2, fx, y1, y2, y3, y4⟩ := o2 (by omega) FX2.1
    have fxS : FX 3 b (skT n f Y) := ⟨by rw [skT_k _ _ _ _ (by decide)]; exact fx.1, by rw [skT_k _ _ _ _ (by decide)]; exact fx.2.1, fx.2.2⟩
    have lf : ∃ T', Lx P W base 1 T = some (0, T') ∧ FX 3 b T' := by
      have ht := hto.trans (e2.trans (cz Y y4 y3))
      by_cases q : lkF n f b2 = 41
      · rw [if_pos q] at ht
        have sw : skT n f Y 100 20 = T1 100 20 + 1 := by rw [skT_k _ _ _ _ (by decide)]; exact y1
        rw [Lx_t7 hF ht (by omega) (by omega) (by omega) (by rw [sw, show T1 100 20 + 1 - 1 = T1 100 20 by omega, skT_o _ _ _ _ (by decide)]; exact y2)]
        exact Lx_fx fxS
      · rw [if_neg q] at ht
        rw [Lx_t0 hF ht]
        exact Lx_fx fxS
    obtain ⟨T', lf, fx'⟩ := lf
    rw [dp] at sA
    obtain ⟨GB, e1, fg1, eat⟩ := en_f (p := b) hP sA (by omega) (by omega) (by omega) (by omega)
    have fg2 := FG_at fg1 (x := GB 150 2 + 1) (by omega) (by omega)
    have nn := fg2.num
    rw [e1, bd_some, ckI_p (by omega) (by omega), tk_e, Rd_isSign_e fg2.1 nn.1 (by omega) 41, bd_some, l51_f (FG_sk fg2)]
    obtain ⟨G', e3, fg3⟩ := call_t (z := z) (a := a) (hi := G1 110 4) (g := 0) (FG_sk fg2) (by omega) (by omega) (by omega) (RE e)
    exact ⟨G', e3, Or.inl ⟨3, b, T', fg3.mono (by omega), lf, fx'⟩⟩
  · obtain ⟨Ta, e2, sTa, ⟨w1, w2, w3, w4⟩, ⟨k1, k2, k3⟩, kB⟩ := o1 (by omega)
    rw [show T1 100 13 + 1 + 1 = T1 100 13 + 2 by omega] at sTa
    have k0 : Ta 115 (T1 100 13) = 1 := by rw [kB _ _ (by decide) (by decide) (by omega)]; exact kX
    have FTa := ts_F hP sTa
    have ht := hto.trans (e2.trans (cz Ta FTa.2 sTa.2.1))
    have sTb := sTa.nat (by omega) (by omega) b2
    have eS : skT n f Ta = up Ta 100 6 b2 := by unfold skT; rw [sTa.2.1, hb2]
    rw [eS] at ht
    have tB : ∀ o k, 115 ≤ o → up Ta 100 6 b2 o k = Ta o k := fun o k q => up_o _ (by omega)
    generalize up Ta 100 6 b2 = Tb at sTb ht tB
    have sGa := ((sA.ndeep (by omega) (GA 150 3 + 1)).nat (by omega) (b + 1)).nsk (by omega) n f
    rw [← hb2] at sGa
    have eat : up GA 150 3 (GA 150 3 + 1) 150 2 = b := by rw [up_k _ (by decide)]; exact aA
    have cw : ∀ o k, o ≠ 150 → skC n f (up (up GA 150 3 (GA 150 3 + 1)) 150 2 (b + 1)) o k = GA o k := fun o k q => by rw [skC_o _ _ _ _ q, up_o _ q, up_o _ q]
    have FGa := cs_F hP ((sA.ndeep (by omega) (GA 150 3 + 1)).nat (by omega) (b + 1))
    have aGa : up (up GA 150 3 (GA 150 3 + 1)) 150 2 (b + 1) 150 2 = b + 1 := up_s _ _ _ _
    rw [Rd_enter_e (by omega) (by omega) (by omega), bd_some, eat, ckI_p (by omega) (by omega), tk_e, Rd_isSign_e FGa.2 (by omega) (by omega) 41, bd_some, aGa, ← hb2]
    generalize skC n f (up (up GA 150 3 (GA 150 3 + 1)) 150 2 (b + 1)) = GB at sGa cw ⊢
    rw [dA] at sGa
    have FGB := cs_F hP sGa
    have pB : PR n f GB Tb := hP.mv sGa sTb (by omega) (by omega) (by omega) (by omega) rfl (by omega) (by omega) (by omega) (by omega) (by omega) (by omega) (by omega) (by omega) (by omega)
    obtain ⟨u1, u2, u3, u4, u5⟩ := sGa
    obtain ⟨v1, v2, v3, v4, v5, v6, v7⟩ := sTb
    have NB := pB.nums
    have wB : Tb 100 20 - 1 = T1 100 20 := by omega
    by_cases q : lkF n f b2 = 41
    · rw [if_pos q] at ht
      rw [if_pos q, if_neg (by decide), l51_0]
      have lt := lkF_lt q (by decide)
      have lx := Lx_t7 (P := P) (W := W) (base := base) hF ht (by omega) (by omega) (by omega) (by rw [wB, tB _ _ (by decide)]; exact w1)
      have oo := opn_s q (Or.inl rfl)
      have b2s : sk n f b2 = b2 := by rw [hb2, sk_sk]
      have ln := Lx_no (P := P) (W := W) (base := base) pB.1.2.1 (by omega) (by omega) NB.2.2.2.2.2.2 (by rw [v2]; exact b2s) oo.1 oo.2
      rw [cl_fresh (TB_of pB) (by omega) h0 (by omega) (by rw [v3, show T1 100 13 + 2 - 1 = T1 100 13 + 1 by omega, tB _ _ (by decide)]; exact k1) (by rw [wB, v3, tB _ _ (by decide), w2]; omega) (by rw [wB, tB _ _ (by decide)]; exact w1)] at ln
      have sM := TS_md Tb b2 0
      have FM := ts_F pB sM
      have bM := TB_md (TB_of pB) b2 0
      have mo : ∀ o k, 115 ≤ o → md Tb b2 0 o k = Ta o k := fun o k q => by rw [md_o (by omega)]; exact tB o k q
      have mwn : md Tb b2 0 100 25 = 0 := up_s _ _ _ _
      generalize md Tb b2 0 = M at ln sM FM bM mo mwn
      obtain ⟨m1, m2, m3, m4, m5, m6, m7⟩ := sM
      have wM : M 100 20 - 1 = T1 100 20 := by omega
      have y1 : M 123 (T1 100 20) = T1 100 13 + 1 := (mo _ _ (by decide)).trans w2
      have y3 : M 124 (T1 100 20) = a := (mo _ _ (by decide)).trans w3
      rw [b51_8 FM.2 m2 (by omega) (by omega) bM (by omega) h0 (by rw [wM]; exact (mo _ _ (by decide)).trans w1) (by rw [wM, y1]; omega) (by rw [wM, y1]; omega) (by rw [wM]; exact (mo _ _ (by decide)).trans w4) q] at ln
      obtain ⟨G', e7, f1, f2, f3, f4, f5, f6, f7⟩ := call_e (z := z) (a := a) (hi := G1 110 4) (g := 0) FGB.2 FGB.1 (by rw [u2]; exact b2s) (by omega) (by omega) (by omega) (by omega) (by omega) (by omega) (by omega) q (RE e)
      rw [u3] at f3 f5 f7
      obtain ⟨c1, c2, c3, c4, c5, c6, c7, c8, c9, c10, c11, c12⟩ := caT_s (T := M) (hd := T1 100 13 + 1) (g := 0) (l := 1) (by rw [wM]; exact y1) (by omega) (Or.inr rfl)
      generalize caT M 0 1 = TN at c1 c2 c3 c4 c5 c6 c7 c8 c9 c10 c11 c12 ln
      rw [wM, y3] at c11
      refine ⟨G', e7, Or.inr ⟨TN, ?_, ?_⟩⟩
      · rw [lx, ln]
        unfold KS
        exact so_go (by rw [c12]; exact mwn)
      · have tN : ∀ o k, 115 ≤ o → ¬ (o = 117 ∧ k = T1 100 13 + 1) → k < T1 100 13 + 2 ∨ 119 < o → TN o k = Ta o k := fun o k r1 r2 r3 => by rw [c7 o k r1 r2 (by omega)]; exact mo o k r1
        have gN : ∀ o k, 111 ≤ o → o ≤ 114 → ¬ (o = 114 ∧ k = G1 110 4) → 0 ≤ k → k < G1 110 4 + 1 → G' o k = GA o k := fun o k r1 r2 r3 r4 r5 => by rw [f5 o k r1 r2 r3 r4 (by omega)]; exact cw o k (by omega)
        have pr : PR n f G' TN := pB.kk f1 f2 f3 (by rw [f4, u4]) (m1.tr c1) (by rw [c2, m2]) c3 (by rw [c4, m4]) (by rw [c5, m5]) (by rw [c6, m6]) (by omega) (by omega) (by omega) (by omega) rfl (by omega) (by omega) (by omega) (by omega) (by omega) (by omega) (by omega) (by omega) (by omega)
        refine call_fin (Gk := GB) (Tk := Tb) (z := z) (a := a) (g := 0) (j := G1 110 4 + 1) (q := T1 100 13 + 2) hP ?_ ⟨?_, ?_⟩ u5 pr (by omega) (by omega) (by omega) f3 (by omega) (by omega) (by omega) (by omega) ?_ ?_ ?_ f6 ?_ ?_ ?_ c8 ?_ (wf_arg0 P W _ _ _ _ _ _) f7.1 f7.2.1 f7.2.2.1 f7.2.2.2 ?_ ?_
        · intro o k r1 r2 r3 r4
          exact f5 o k r1 r2 (by omega) r3 (by omega)
        · intro o k r1 r2 r3
          rw [tN o k (by omega) (by omega) (by omega), sTa.2.2.2.2.2.2.1 o k r1 r2 r3]
        · intro o k r1 r2 r3
          rw [tN o k (by omega) (by omega) (by omega), sTa.2.2.2.2.2.2.2 o k r1 r2 r3]
        · rw [gN _ _ (by decide) (by decide) (by omega) (by omega) (by omega)]; exact cv.1
        · rw [gN _ _ (by decide) (by decide) (by omega) (by omega) (by omega)]; exact cv.2.1
        · rw [gN _ _ (by decide) (by decide) (by omega) (by omega) (by omega)]; exact cv.2.2.1
        · rw [tN _ _ (by decide) (by omega) (by omega)]; exact k0
        · rw [tN _ _ (by decide) (by omega) (by omega)]; exact k1
        · rw [tN _ _ (by decide) (by omega) (by omega)]; exact k2
        · rw [tN _ _ (by decide) (by omega) (by omega)]; exact k3
        · rw [show T1 100 13 + 2 = M 100 13 + 1 - 1 by omega]; exact c10
        · rw [show T1 100 13 + 2 = M 100 13 + 1 - 1 by omega]; exact c11
    · rw [if_neg q] at ht
      rw [if_neg q, if_pos rfl]
      have lx := Lx_t0 (base := base) hF ht
      have hI : CI n f P W G1 T1 z a 0 GB Tb := by
        refine ⟨pB, u4, v5, v6, v7, u5, ⟨?_, ?_, ?_⟩, ⟨?_, ?_, ?_, ?_⟩, ?_, ⟨?_, ?_, ?_, ?_⟩, ⟨by omega, by omega⟩, by omega, by omega⟩
        · rw [cw _ _ (by decide)]; exact cv.1
        · rw [cw _ _ (by decide)]; exact cv.2.1
        · rw [cw _ _ (by decide)]; exact cv.2.2.1
        · rw [tB _ _ (by decide)]; exact k0
        · rw [tB _ _ (by decide)]; exact k1
        · rw [tB _ _ (by decide)]; exact k2
        · rw [tB _ _ (by decide)]; exact k3
        · rw [u3, v3]; exact wf_arg0 P W _ _ _ _ _ _
        · rw [tB _ _ (by decide)]; exact w1
        · rw [tB _ _ (by decide)]; exact w2
        · rw [tB _ _ (by decide)]; exact w3
        · rw [tB _ _ (by decide)]; exact w4
      obtain ⟨G', e7, R⟩ := call_loop hd hE hP h0 hb hA' ((n - GB 150 2).toNat + 1) 0 GB Tb hI (by omega)
      refine ⟨G', e7, ?_⟩
      rcases R with ⟨w, p, T', fg, lx', fx⟩ | ⟨T6, M1, M2⟩
      · exact Or.inl ⟨w, p, T', fg.mono (by omega), by rw [lx, lx'], fx⟩
      · exact Or.inr ⟨T6, by rw [lx, M1], M2⟩
