/-! PLAIN: any operand; all expressions -/
theorem nm_pos {n : Int} {f : Int → Int} {G T T' : St} {z' : Int} (hP : PR n f G T) (h : Tw_name T = some (z', T')) (hF : T' 100 7 ≠ 0) : 0 < T' 100 7 := by
  have N := hP.nums
  have nc := hP.2.1
  have e := Tw_name_e hP.1.2.1 (by omega) (by omega) N.2.2.2.2.2.2 nc.2.1 (by have h1 := nc.2.2.1.1; have h2 := nc.1; have h3 := nc.2.2.2; have h4 := h2.2.1; omega) _ _ rfl rfl
  rw [e] at h
  have h1 : ∀ w p (X : St), fT w p X 100 7 = w := fun w p X => by simp [fT, up_ap]
  by_cases c1 : we n f (sk n f (T 100 6)) = sk n f (T 100 6) ∨ kw n f (sk n f (T 100 6)) ≠ 0
  · rw [if_pos c1] at h
    injection h with h
    injection h with h2 h3
    rw [← h3, h1]; decide
  · rw [if_neg c1] at h
    by_cases c2 : 16 < we n f (sk n f (T 100 6)) - sk n f (T 100 6)
    · rw [if_pos c2] at h
      injection h with h
      injection h with h2 h3
      rw [← h3, h1]; decide
    · rw [if_neg c2] at h
      injection h with h
      injection h with h2 h3
      exfalso
      apply hF
      rw [← h3, up_k _ (by decide)]
      split
      · rw [skT_k _ _ _ _ (by decide)]; exact N.2.2.2.2.2.2
      · unfold nmV
        rw [up_k _ (by decide), up_o _ (by decide), up_o _ (by decide), skT_k _ _ _ _ (by decide)]; exact N.2.2.2.2.2.2
theorem op_nam {n : Int} {f : Int → Int} {P W base a : Int} {e : Nat} (hd : (e : Int) ≤ 599) (hE : ExprOK n f P W (e + 1)) (hE0 : ExprOK n f P W e) {G T : St} (hP : PR n f G T) (h0 : 0 ≤ base) (hb : base ≤ T 100 20) (hA : AD (G 150 3) ≤ e + 3) (ea : G 150 2 = a) (et : T 100 6 = a) (hsk : sk n f a = a)
    (hto : Tw_takeOperand P W T = (bd (Tw_name T) fun z50 G51 => if 0 < (G51 100 7) then (ckB 1 2 (some (1, G51))) else (bd (Tw_put 1 0 0 a G51) fun _ G53 => bd (Tw_gap G53) fun _ G55 => bd (Tw_isSign 91 G55) fun z56 G57 => if z56 = 0 then (bd (Tw_isSign 40 G57) fun z58 G59 => if z58 = 0 then (bd (Tw_put 5 z50 0 a G59) fun _ G61 => ckB 1 2 (some (1, G61))) else (bd (Tw_deeper (G59 100 6) G59) fun _ G63 => ckI ((G63 100 6) + 1) <| tk (up G63 100 6 ((G63 100 6) + 1)) fun G64 => bd (Tw_put 8 z50 0 a G64) fun z65 G66 => bd (Tw_push 7 z65 a G66) fun _ G68 => bd (Tw_gap G68) fun _ G70 => bd (Tw_isSign 41 G70) fun z71 G72 => ckB z71 2 (some (z71, G72)))) else (bd (Tw_deeper (G57 100 6) G57) fun _ G74 => ckI ((G74 100 6) + 1) <| tk (up G74 100 6 ((G74 100 6) + 1)) fun G75 => bd (Tw_put 6 z50 0 a G75) fun _ G77 => bd (Tw_push 6 z50 a G77) fun _ G79 => ckB 0 2 (some (0, G79)))))) :
    OpOK n f P W base (4 * e + 12) G T (Rd_named (RE (e + 1)) a G) := by
  have N := hP.nums
  obtain ⟨z, G1, T1, e1, R⟩ := P_name hP
  unfold Rd_named
  rw [e1, bd_some]
  rcases R with ⟨e2, p1, a', x, hn⟩ | ⟨z', w, p, e2, fg, fx⟩
  · have N1 := p1.nums
    have fr := nm_fr hn
    have hn' := hn
    obtain ⟨n1, n2, n3, n4, n5, n6, n7, n8, n9, n10, n11⟩ := hn'
    rw [ea, hsk] at n1
    subst n1
    rw [e2, bd_some, if_neg (by omega)] at hto
    obtain ⟨⟨c1, c2, c3⟩, t1, t2, t3, t4⟩ := fr
    obtain ⟨b, hbb⟩ : ∃ b, sk n f (G1 150 2) = b := ⟨_, rfl⟩
    have gb := sk_ge n f (G1 150 2)
    have gb2 := sk_le (f := f) N1.1.2.1
    rw [hbb] at gb gb2
    have sX := (TS_ad T1 1 0 0 a').nat (by omega) (Int.le_refl _) b
    have v := adT_v T1 1 0 0 a'
    have F1 := ts_F p1 (TS_ad T1 1 0 0 a')
    have at1 : adT T1 1 0 0 a' 100 6 = T1 100 6 := adT_o (by omega) (by omega)
    rw [Tw_put_e (by omega) (by omega), bd_some, Tw_gap_e F1.2 (by rw [at1]; omega) (by rw [at1]; omega), bd_some, at1, show sk n f (T1 100 6) = b by rw [← N1.1.2.2.2.2, hbb]] at hto
    have kX : up (adT T1 1 0 0 a') 100 6 b 115 (T1 100 13) = 1 := by rw [up_o _ (by decide)]; exact v.1
    generalize up (adT T1 1 0 0 a') 100 6 b = X2 at sX kX hto
    have FX2 := ts_F p1 sX
    have ax := sX.2.1
    have mx := sX.2.2.1
    rw [Tw_isSign_e FX2.2 (by omega) (by omega) 91, bd_some, ax, sg_c (by decide) (by decide)] at hto
    rw [Ft_is_0 N1.2.2.2.2.2.1, bd_some, if_pos rfl, Rd_isSign_e p1.1.1 (by omega) (by omega) 91, bd_some, hbb]
    have hpre : ∀ {G' T6}, OKX n f P W G1 T1 G' T6 → OKX n f P W G T G' T6 := fun h => h.pre c1 c2 c3 t1 t2 t3 t4 (by omega) (by omega)
    by_cases c91 : lkF n f b = 91
    · rw [if_pos c91, if_neg (show ¬ (1 : Int) = 0 by decide)] at hto
      rw [if_pos c91, if_neg (show ¬ (1 : Int) = 0 by decide)]
      simp only [ckB_p (show (0 : Int) ≤ 0 by decide) (show (0 : Int) < 2 by decide)] at hto
      obtain ⟨G', e3, R⟩ := op_elem (base := base) (e := e + 1) (by omega) hE p1 h0 (by omega) (by rw [c2]; omega) hbb (lkF_lt c91 (by decide)).1 N.2.2.2.2.2.2 sX kX hto
      refine ⟨G', e3, ?_⟩
      rcases R with ⟨w, p, T', fg, lx', fx⟩ | ⟨T6, M1, M2⟩
      · exact Or.inl ⟨w, p, T', fg.mono (by omega), lx', fx⟩
      · exact Or.inr ⟨T6, M1, hpre M2⟩
    · rw [if_neg c91, if_pos rfl, Tw_isSign_e FX2.2 (by omega) (by omega) 40, bd_some, ax, sg_c (by decide) (by decide)] at hto
      have sS := CS_sk n f G1
      rw [hbb] at sS
      have FS := cs_F p1 sS
      have aS := sS.2.1
      rw [if_neg c91, if_pos rfl, Rd_look_e FS.2 (by omega) (by omega) (Int.le_refl 0) (by decide), bd_some, aS, Int.add_zero]
      by_cases c40 : lkF n f b = 40
      · rw [if_pos c40, if_neg (show ¬ (1 : Int) = 0 by decide)] at hto
        rw [if_pos c40]
        obtain ⟨G', e3, R⟩ := op_call (base := base) (e := e) (by omega) hE0 p1 h0 (by omega) (by rw [c2]; omega) hbb (lkF_lt c40 (by decide)).1 N.2.2.2.2.2.2 t2.symm sX kX hto
        refine ⟨G', ?_, ?_⟩
        · show (bd (Rd_call (RE e) z a' (skC n f G1)) fun _ G12 => some (0, G12)) = some (0, G')
          rw [e3, bd_some]
        · rcases R with ⟨w, p, T', fg, lx', fx⟩ | ⟨T6, M1, M2⟩
          · exact Or.inl ⟨w, p, T', fg.mono (by omega), lx', fx⟩
          · exact Or.inr ⟨T6, M1, hpre M2⟩
      · rw [if_neg c40, if_pos rfl, Tw_put_e (by omega) (by omega), bd_some, ckB_p (by decide) (by decide)] at hto
        rw [if_neg c40]
        have zS := sS.2.2.1
        rw [Cd_add_e (by omega) (by omega) (by decide) (by decide), bd_some]
        have sA := sS.nad (Int.le_refl _) 25 z a' 0
        have cv := adC_v (skC n f G1) 25 z a' 0
        rw [zS] at cv
        generalize adC (skC n f G1) 25 z a' 0 = G2 at sA cv ⊢
        have s5 := sX.nad (by omega) (Int.le_refl _) 5 z 0 a'
        have v5 := adT_v X2 5 z 0 a'
        rw [mx] at v5
        have k5 : adT X2 5 z 0 a' 115 (T1 100 13) = 1 := by rw [adT_o (by omega) (by omega)]; exact kX
        generalize adT X2 5 z 0 a' = T2 at s5 v5 k5 hto
        have lx := Lx_t1 (base := base) N.2.2.2.2.2.2 hto (by have := s5.2.2.2.2.1; omega)
        rw [show T1 100 13 + 1 + 1 = T1 100 13 + 2 by omega] at s5
        refine ⟨G2, rfl, Or.inr ⟨T2, lx, rd_ok hP p1 hn sA s5 (by omega) gb2 ?_ ?_⟩⟩
        · exact wf_read P W _ _ _ _ _ cv.1 k5 v5.1 (by rw [v5.2.1, cv.2.1]) (by rw [v5.2.2.2, cv.2.2.1])
        · rw [v5.1]; decide
  · rw [e2, bd_some, if_pos (by have h1 := fx.1; have h2 := fx.2.2; omega), ckB_p (by decide) (by decide)] at hto
    have fr := fr_Tw_name T (z', T1) e2
    have tm : T1 100 13 = T 100 13 := fr _ _ (by simp [fS])
    have tw : T1 100 20 = T 100 20 := fr _ _ (by simp [fS])
    have td : T1 100 19 = T 100 19 := fr _ _ (by simp [fS])
    clear fr
    obtain ⟨T2, ks, fx2⟩ := KS_fx (P := P) (W := W) h0 fx (by omega) (by omega) (by omega) (by omega) (by omega) (by omega)
    have lx := Lx_t1 (base := base) N.2.2.2.2.2.2 hto (by omega)
    rw [Ft_is_1 (FG_F fg), bd_some, if_neg (by decide)]
    exact ⟨G1, rfl, Or.inl ⟨w, p, T2, fg.mono (by omega), by rw [lx, ks], fx2⟩⟩
/-- spaces ahead of an operand -/
theorem Lx_sk {n : Int} {f : Int → Int} {P W base : Int} {T : St} (hT : TT n f T) (a0 : 0 ≤ T 100 6) (a1 : T 100 6 ≤ n) (q : T 100 7 = 0) : Lx P W base 1 T = Lx P W base 1 (skT n f T) := by
  have g := sk_ge n f (T 100 6)
  have g2 := sk_le (f := f) a1
  have e : Tw_takeOperand P W (skT n f T) = Tw_takeOperand P W T := by
    unfold Tw_takeOperand
    rw [Tw_gap_e hT a0 a1, Tw_gap_e (skT_TT hT) (by rw [skT_at]; omega) (by rw [skT_at]; omega)]
    rw [show up (skT n f T) 100 6 (sk n f (skT n f T 100 6)) = skT n f (skT n f T) from rfl, skT_skT]
    rfl
  unfold Lx
  rw [Tw_expression_l9_eq, Tw_expression_l9_eq]
  unfold Tw_expression_s9
  rw [e, skT_k _ _ _ _ (by decide), skT_k _ _ _ _ (by decide), if_pos q, if_pos q, if_pos rfl, if_pos rfl, if_neg (by decide), if_neg (by decide)]
theorem sg_45 {n : Int} {f : Int → Int} {a c : Int} (hc : c = 45 ∨ c = 126) : sg n f a c = if lkF n f a = c then 1 else 0 := by
  unfold sg
  have : prF c (lkF n f (a + 1)) = 0 := by rcases hc with h | h <;> subst h <;> simp [prF]
  rw [this]
  simp
theorem sg_33 {n : Int} {f : Int → Int} {a : Int} : sg n f a 33 = if lkF n f a = 33 ∧ lkF n f (a + 1) ≠ 61 then 1 else 0 := by
  unfold sg
  generalize lkF n f (a + 1) = x
  by_cases h : x = 61
  · subst h; simp [prF]
  · simp [prF, h]
theorem FactorOK_s {n : Int} {f : Int → Int} {P W : Int} {e : Nat} (hd : (e : Int) ≤ 597) (hF : FactorOK n f P W (e + 2)) (hE : ExprOK n f P W (e + 1)) (hE0 : ExprOK n f P W e) : FactorOK n f P W (e + 3) := by
  intro G T base hP h0 hb hA
  have N := hP.nums
  obtain ⟨a, haa⟩ : ∃ a, sk n f (G 150 2) = a := ⟨_, rfl⟩
  have haT : sk n f (T 100 6) = a := by rw [← N.1.2.2.2.2, haa]
  have g := sk_ge n f (G 150 2)
  have g1 := sk_ge n f (T 100 6)
  have g2 := sk_le (f := f) N.1.2.1
  rw [haa] at g g2
  rw [haT] at g1
  have hsk : sk n f a = a := by rw [← haa, sk_sk]
  have sG := CS_sk n f G
  have sT := TS_sk n f T
  rw [haa] at sG
  rw [haT] at sT
  have p2 : PR n f (skC n f G) (skT n f T) := hP.mv sG sT (by omega) (by omega) (by omega) (by omega) rfl (by omega) (by omega) (by omega) (by omega) (by omega) (by omega) (by omega) (by omega) (by omega)
  have lsk := Lx_sk (P := P) (W := W) (base := base) hP.1.2.1 (by omega) (by omega) N.2.2.2.2.2.2
  have fin : ∀ r, OpOK n f P W base (4 * ((e + 3 : Nat) : Int)) (skC n f G) (skT n f T) r → ∃ G', r = some (0, G') ∧ (FLX n f (4 * ((e + 3 : Nat) : Int)) P W base G' T ∨ ∃ T1, Lx P W base 1 T = KS P W base T1 ∧ OKX n f P W G T G' T1) := by
    intro r ⟨G', h1, h2⟩
    refine ⟨G', h1, ?_⟩
    rcases h2 with ⟨w, p, T', fg, lx', fx⟩ | ⟨T1, h3, h4⟩
    · exact Or.inl ⟨w, p, T', fg, by rw [lsk, lx'], fx⟩
    · exact Or.inr ⟨T1, by rw [lsk, h3], h4.pre sG.2.2.1 sG.2.2.2.1 (fun o k q q2 => skC_o _ _ _ _ (by omega)) sT.2.2.1 sT.2.2.2.2.1 sT.2.2.2.2.2.1 (fun o k q => skT_o _ _ _ _ (by omega)) (by rw [sG.2.1]; omega) (by rw [sT.2.1]; omega)⟩
  show ∃ G', Rd_factor (RE (e + 2)) G = some (0, G') ∧ _
  unfold Rd_factor
  rw [Rd_skip_e hP.1.1 (by omega), bd_some, show up G 150 2 (sk n f (G 150 2)) = skC n f G from rfl]
  have aG := sG.2.1
  have aT := sT.2.1
  have dG := sG.2.2.2.1
  have wT := sT.2.2.2.2.1
  generalize skC n f G = G2 at p2 fin aG dG sG ⊢
  generalize skT n f T = T2 at p2 fin aT wT sT
  have N2 := p2.nums
  have gapE : Tw_gap T2 = some (0, T2) := by rw [Tw_gap_e p2.1.2.1 (by omega) (by omega), aT, hsk, up_id' aT.symm]
  have lookE : Tw_look0 0 T2 = some (lkF n f a, T2) := by rw [Tw_look0_e p2.1.2.1 (by omega) (by omega) (Int.le_refl 0) (by decide), aT, Int.add_zero]
  have sgE : ∀ c, Tw_isSign c T2 = some (sg n f a c, T2) := fun c => by rw [Tw_isSign_e p2.1.2.1 (by omega) (by omega) c, aT]
  have w11 : Tw_isWord 81 T2 = some (iw n f a 11, T2) := by rw [Tw_isWord_e p2.1.2.1 (by omega) (by omega) 11 (by decide) (by decide), aT]
  have w12 : Tw_isWord 82 T2 = some (iw n f a 12, T2) := by rw [Tw_isWord_e p2.1.2.1 (by omega) (by omega) 12 (by decide) (by decide), aT]
  have w9 : Tw_isWord 79 T2 = some (iw n f a 9, T2) := by rw [Tw_isWord_e p2.1.2.1 (by omega) (by omega) 9 (by decide) (by decide), aT]
  have w10 : Tw_isWord 80 T2 = some (iw n f a 10, T2) := by rw [Tw_isWord_e p2.1.2.1 (by omega) (by omega) 10 (by decide) (by decide), aT]
  rw [Ft_is_0 N2.2.2.2.2.2.1, bd_some, if_pos rfl, Rd_look_e p2.1.1 (by omega) (by omega) (Int.le_refl 0) (by decide), bd_some, aG, Int.add_zero, Rd_look_e p2.1.1 (by omega) (by omega) (by decide) (by decide), bd_some, aG]
  apply fin
  clear fin
  have to0 : lkF n f a = 40 → Tw_takeOperand P W T2 = _ := fun h => by
    unfold Tw_takeOperand
    rw [gapE, bd_some, lookE, bd_some, sgE 40, bd_some, sg_c (by decide) (by decide), if_pos h, if_neg (show ¬ (1 : Int) = 0 by decide), aT]
  by_cases c40 : lkF n f a = 40
  · rw [if_neg (by rw [c40]; decide), if_neg (by rw [c40]; decide), if_neg (by rw [c40]; decide)]
    unfold Rd_factor_b124
    rw [if_pos c40]
    have h := op_par (e := e + 1) (base := base) (by omega) hE p2 h0 (by omega) (by rw [dG]; omega) aG aT hsk (lkF_lt c40 (by decide)).1 c40 (to0 c40)
    rw [show (4 * ((e + 1 : Nat) : Int) + 8) = 4 * ((e + 3 : Nat) : Int) by omega] at h
    exact h
  clear to0
  have to1 : Tw_takeOperand P W T2 = Tw_takeOperand P W T2 := rfl
  conv at to1 => rhs; unfold Tw_takeOperand
  rw [gapE, bd_some, lookE, bd_some, sgE 40, bd_some, sg_c (by decide) (by decide), if_neg c40, if_pos rfl, sgE 45, bd_some, sgE 126, bd_some, sgE 33, bd_some, aT] at to1
  rw [sg_45 (Or.inl rfl), sg_45 (Or.inr rfl), sg_33] at to1
  by_cases c45 : lkF n f a = 45
  · rw [if_pos c45, if_neg (show ¬ (1 : Int) = 0 by decide)] at to1
    rw [if_pos c45]
    exact op_un (d := e + 2) (base := base) (by omega) hF p2 h0 (by omega) (by rw [dG]; omega) aG aT (lkF_lt c45 (by decide)).1 (Or.inl ⟨c45, rfl⟩) to1
  rw [if_neg c45, if_pos rfl] at to1
  rw [if_neg c45]
  by_cases c126 : lkF n f a = 126
  · rw [if_pos c126, if_neg (show ¬ (1 : Int) = 0 by decide)] at to1
    rw [if_pos c126]
    exact op_un (d := e + 2) (base := base) (by omega) hF p2 h0 (by omega) (by rw [dG]; omega) aG aT (lkF_lt c126 (by decide)).1 (Or.inr (Or.inl ⟨c126, rfl⟩)) to1
  rw [if_neg c126, if_pos rfl] at to1
  rw [if_neg c126]
  by_cases c33 : lkF n f a = 33 ∧ lkF n f (a + 1) ≠ 61
  · rw [if_pos c33, if_neg (show ¬ (1 : Int) = 0 by decide)] at to1
    rw [if_pos c33.1, if_neg c33.2]
    exact op_un (d := e + 2) (base := base) (by omega) hF p2 h0 (by omega) (by rw [dG]; omega) aG aT (lkF_lt c33.1 (by decide)).1 (Or.inr (Or.inr ⟨c33.1, rfl⟩)) to1
  rw [if_neg c33, if_pos rfl] at to1
  have cC : (if lkF n f a = 33 then (if lkF n f (a + 1) = 61 then Rd_factor_b124 (RE (e + 2)) a (lkF n f a) G2 else Rd_factor_b54 (RE (e + 2)) a (lkF n f a) G2) else Rd_factor_b124 (RE (e + 2)) a (lkF n f a) G2) = Rd_factor_b124 (RE (e + 2)) a (lkF n f a) G2 := by
    by_cases h1 : lkF n f a = 33
    · rw [if_pos h1, if_pos (by by_cases h2 : lkF n f (a + 1) = 61; exact h2; exact absurd ⟨h1, h2⟩ c33)]
    · rw [if_neg h1]
  rw [cC]
  unfold Rd_factor_b124
  rw [if_neg c40, Rd_isDigit_e, bd_some]
  rw [Tw_isDigit_e, bd_some] at to1
  by_cases cd : isDg (lkF n f a) = 0
  · rw [if_pos cd, w11, bd_some] at to1
    rw [if_pos cd, Rd_isWord_e p2.1.1 (by omega) (by omega) 11 (by decide) (by decide), bd_some, aG]
    by_cases c11 : iw n f a 11 = 0
    · rw [if_pos c11, w12, bd_some] at to1
      rw [if_pos c11, Rd_isWord_e p2.1.1 (by omega) (by omega) 12 (by decide) (by decide), bd_some, aG]
      by_cases c12 : iw n f a 12 = 0
      · rw [if_pos c12, w9, bd_some] at to1
        rw [if_pos c12, Rd_isWord_e p2.1.1 (by omega) (by omega) 9 (by decide) (by decide), bd_some, aG]
        by_cases c9 : iw n f a 9 = 0
        · rw [if_pos c9, w10, bd_some] at to1
          rw [if_pos c9, Rd_isWord_e p2.1.1 (by omega) (by omega) 10 (by decide) (by decide), bd_some, aG]
          by_cases c10 : iw n f a 10 = 0
          · rw [if_pos c10] at to1
            rw [if_pos c10]
            obtain ⟨G', h1, h2⟩ := op_nam (e := e) (base := base) (by omega) hE hE0 p2 h0 (by omega) (by rw [dG]; omega) aG aT hsk to1
            refine ⟨G', ?_, ?_⟩
            · show (bd (Rd_named (RE (e + 1)) a G2) fun _ G33 => some (0, G33)) = some (0, G')
              rw [h1, bd_some]
            · rw [show 4 * ((e + 3 : Nat) : Int) = 4 * (e : Int) + 12 by omega]; exact h2
          · rw [if_neg c10] at to1
            rw [if_neg c10]
            have i10 : iw n f a 10 = 1 := by rcases iw_r n f a 10 with h | h; exact absurd h c10; exact h
            have il := iw_lt i10 (by decide)
            have wl := we_le (f := f) g2
            have sl : swl 10 = 3 := by decide
            have h := op_bit (e := e + 1) (base := base) (by omega) hE p2 h0 (by omega) (by rw [dG]; omega) aG aT c9 (by omega) to1
            rw [aG, show (4 * ((e + 1 : Nat) : Int) + 8) = 4 * ((e + 3 : Nat) : Int) by omega] at h
            exact h
        · rw [if_neg c9] at to1
          rw [if_neg c9]
          have i9 : iw n f a 9 = 1 := by rcases iw_r n f a 9 with h | h; exact absurd h c9; exact h
          have il := iw_lt i9 (by decide)
          have wl := we_le (f := f) g2
          have sl : swl 9 = 3 := by decide
          have h := op_int (e := e + 1) (base := base) (by omega) hE p2 h0 (by omega) (by rw [dG]; omega) aG aT i9 (by omega) to1
          rw [aG, show (4 * ((e + 1 : Nat) : Int) + 8) = 4 * ((e + 3 : Nat) : Int) by omega] at h
          exact h
      · rw [if_neg c12] at to1
        rw [if_neg c12]
        have i12 : iw n f a 12 = 1 := by rcases iw_r n f a 12 with h | h; exact absurd h c12; exact h
        have il := iw_lt i12 (by decide)
        have sl : swl 12 = 5 := by decide
        exact op_tf p2 aG aT (by omega) (we_le g2) _ to1
    · rw [if_neg c11] at to1
      rw [if_neg c11]
      have i11 : iw n f a 11 = 1 := by rcases iw_r n f a 11 with h | h; exact absurd h c11; exact h
      have il := iw_lt i11 (by decide)
      have sl : swl 11 = 4 := by decide
      exact op_tf p2 aG aT (by omega) (we_le g2) _ to1
  · rw [if_neg cd] at to1
    rw [if_neg cd]
    exact op_num p2 h0 (by omega) aG aT hsk to1
/-- all expressions are read alike -/
theorem all_expr (n : Int) (f : Int → Int) (P W : Int) : ∀ d : Nat, (d : Int) ≤ 600 → FactorOK n f P W d ∧ RowOK n f P W d ∧ ExprOK n f P W d := by
  have small : ∀ d : Nat, d ≤ 3 → FactorOK n f P W d ∧ RowOK n f P W d ∧ ExprOK n f P W d := by
    intro d h
    refine ⟨?_, ?_, ?_⟩
    · intro G T base hP h0 hb hA
      have N := hP.nums
      unfold AD at hA
      omega
    · intro G T base least hP h0 hb l0 l9 htop hA
      have N := hP.nums
      unfold AD at hA
      omega
    · intro G T base hP h0 hb htop hA
      have N := hP.nums
      unfold AD at hA
      omega
  intro d
  induction d using Nat.strongRecOn with
  | ind d ih =>
    intro hd
    by_cases q : d ≤ 3
    · exact small d q
    · obtain ⟨e, rfl⟩ : ∃ e, d = e + 3 := ⟨d - 3, by omega⟩
      obtain ⟨f2, r2, x2⟩ := ih (e + 2) (by omega) (by omega)
      obtain ⟨f1, r1, x1⟩ := ih (e + 1) (by omega) (by omega)
      obtain ⟨f0, r0, x0⟩ := ih e (by omega) (by omega)
      exact ⟨FactorOK_s (by omega) f2 x1 x0, RowOK_s (by omega) f2 r2, ExprOK_s (by omega) r2 x2⟩
