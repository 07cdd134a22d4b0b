/-! PLAIN: conditions -/
/-- a sign is sought behind a fault -/
theorem sg_df {n : Int} {f : Int → Int} {c w p : Int} {T : St} (h : TT n f T) (h0 : 0 ≤ T 100 6) (hm : T 100 6 ≤ n) (fx : FX w p T) : ∃ T', Tw_sign c T = some (0, T') ∧ FX w p T' := by
  have hn := h.2.2.1
  have g := sk_ge n f (T 100 6)
  have g2 := sk_le (f := f) hm
  have fs : FX w p (skT n f T) := ⟨by rw [skT_k _ _ _ _ (by decide)]; exact fx.1, by rw [skT_k _ _ _ _ (by decide)]; exact fx.2.1, fx.2.2⟩
  unfold Tw_sign
  rw [Tw_gap_e h h0 hm, bd_some, show up T 100 6 (sk n f (T 100 6)) = skT n f T from rfl, Tw_isSign_e (skT_TT h) (by rw [skT_at]; omega) (by rw [skT_at]; omega) c, bd_some]
  rcases sg_r n f (skT n f T 100 6) c with z | z
  · rw [z, if_pos rfl, Tw_fail_f fs.ne, bd_some]
    exact ⟨_, rfl, fs⟩
  · rw [z, if_neg (by decide), skT_at, ckI_p (by omega) (by omega), tk_e]
    exact ⟨_, rfl, by rw [up_k _ (by decide)]; exact fs.1, by rw [up_k _ (by decide)]; exact fs.2.1, fs.2.2⟩
/-- an if behind a fault in the twin -/
theorem if_df {n : Int} {f : Int → Int} {P W a w p : Int} {T : St} (h : TT n f T) (ha : T 100 6 = a) (h0 : 0 ≤ a) (hm : a + 2 ≤ n) (m0 : 0 ≤ T 100 13) (m1 : T 100 13 < 11000) (fx : FX w p T) : ∃ T', Tw_ifStatement P W a T = some (0, T') ∧ FX w p T' := by
  have hn := h.2.2.1
  unfold Tw_ifStatement
  rw [Tw_put_e m0 (by omega), bd_some]
  have f1 := fx_ad fx 20 0 0 a
  have s1 := TS_ad T 20 0 0 a
  have t1 : TT n f (adT T 20 0 0 a) := h.cg (adT_o (by omega) (by omega)) (funext fun k => adT_o (by omega) (by omega))
  generalize adT T 20 0 0 a = X at f1 s1 t1 ⊢
  have a1 := s1.2.1
  rw [a1, ha, ckI_p (by omega) (by omega), tk_e]
  have f2 : FX w p (up X 100 6 (a + 2)) := ⟨by rw [up_k _ (by decide)]; exact f1.1, by rw [up_k _ (by decide)]; exact f1.2.1, f1.2.2⟩
  have t2 : TT n f (up X 100 6 (a + 2)) := t1.at _ _ (by decide)
  have a2 : up X 100 6 (a + 2) 100 6 = a + 2 := up_s _ _ _ _
  generalize up X 100 6 (a + 2) = Y at f2 t2 a2 ⊢
  have g := sk_ge n f (a + 2)
  have g2 := sk_le (f := f) hm
  rw [Tw_gap_e t2 (by omega) (by omega), bd_some, a2]
  have f3 : FX w p (up Y 100 6 (sk n f (a + 2))) := ⟨by rw [up_k _ (by decide)]; exact f2.1, by rw [up_k _ (by decide)]; exact f2.2.1, f2.2.2⟩
  have t3 : TT n f (up Y 100 6 (sk n f (a + 2))) := t2.at _ _ (by decide)
  have a3 : up Y 100 6 (sk n f (a + 2)) 100 6 = sk n f (a + 2) := up_s _ _ _ _
  generalize up Y 100 6 (sk n f (a + 2)) = Z at f3 t3 a3 ⊢
  obtain ⟨T', e, f4⟩ := sg_df (c := 40) t3 (by omega) (by omega) f3
  rw [e, bd_some, if_neg f4.ne, ti_f f4.ne]
  exact ⟨T', rfl, f4⟩
theorem CondOK_s {n : Int} {f : Int → Int} {P W : Int} {d : Nat} (hd : (d : Int) ≤ 600) (hBl : BlockOK n f P W d) (hCo : CondOK n f P W d) : CondOK n f P W (d + 1) := by
  intro G T a hP hS hV ea et hsk hw hA
  have N := hP.nums
  have il := iw_lt hw (by decide)
  have sl : swl 6 = 2 := by decide
  have wl := we_le (n := n) (f := f) (a := a) (by omega)
  have hA' := hA
  unfold AS at hA
  obtain ⟨e', rfl⟩ : ∃ e', d = e' + 2 := ⟨d - 2, by omega⟩
  show ∃ G', Rd_condition (RS (e' + 2)) G = some (0, G') ∧ _
  unfold Rd_condition
  rw [ea]
  obtain ⟨z6, G7, eK, z0, z1, R⟩ := cd_head (P := P) (W := W) hP hS hV ea et (by omega) (fun z6 G7 => bd (RS (e' + 2) 1 [] G7) fun _ G9 => bd (Rd_skip G9) fun _ G11 => bd (Ft_is G11) fun z12 G13 => if z12 = 0 then (bd (Rd_isWord 77 G13) fun z31 G32 => Rd_condition_b79 (RS (e' + 2)) a z6 (if z31 = 0 then 0 else 1) G32) else (Rd_condition_b79 (RS (e' + 2)) a z6 0 G13))
  rw [eK]
  rcases R with ⟨w, p, T', fg, lx, fx⟩ | ⟨T7, lx, hH⟩
  · rw [f_block fg, bd_some]
    obtain ⟨G', e1, fg'⟩ := ck_f (a := a) (z6 := z6) (FG_sk fg) (by omega) z0 z1 (RS (e' + 2))
    exact ⟨G', e1, Or.inl ⟨w, p, T', fg'.mono (by unfold FKd; omega), by rw [lx, bd_some, Lp_flt fx.ne], fx⟩⟩
  · have p7 := hH.1
    have sb7 := hH.2.1
    have vq7 := hH.2.2.1
    have d7 := hH.2.2.2.1
    have lx2 : (bd (Tw_ifStatement P W a T) fun _ T' => Lp P W T') = (bd (Tw_openBlock 1 (T7 100 13 - 1) T7) fun _ T' => Lp P W T') := by
      rw [lx]
      cases Tw_openBlock 1 (T7 100 13 - 1) T7 <;> rfl
    rw [lx2]
    obtain ⟨G9, e9, R⟩ := hBl G7 T7 1 (T7 100 13 - 1) p7 sb7 vq7 (by decide) (by unfold AS; omega)
    rw [e9, bd_some]
    rcases R with ⟨w, p, T', fg, ly, fx⟩ | ⟨Gb, T1, b, ly, hB⟩
    · obtain ⟨G', e1, fg'⟩ := ck_f (a := a) (z6 := z6) fg (by unfold FKd; omega) z0 z1 (RS (e' + 2))
      exact ⟨G', e1, Or.inl ⟨w, p, T', fg'.mono (by unfold FKd; omega), ly, fx⟩⟩
    · rw [ly]
      obtain ⟨c, hc⟩ : ∃ c, sk n f (b + 1) = c := ⟨_, rfl⟩
      obtain ⟨x1, x2, x3, x4, x5, x6, x7, x8⟩ := bk_nx p7 hB hc
      have N10 := x3.nums
      have NB0 := hB.1.nums
      have hb4 := hB.2.2.2.1.1
      have c1 := x1.2.1
      rw [Rd_skip_e x6 (by omega), bd_some, show up G9 150 2 (sk n f (G9 150 2)) = skC n f G9 from rfl, Ft_is_0 N10.2.2.2.2.2.1, bd_some, if_pos rfl, Rd_isWord_e x3.1.1 (by omega) (by omega) 7 (by decide) (by decide), bd_some, c1]
      rcases iw_r n f c 7 with w7 | w7
      · rw [w7, if_pos rfl]
        obtain ⟨G', e1, ok, kb⟩ := cd_0 (d := 0) hP hH hB hc (RS (e' + 2))
        refine ⟨G', e1, Or.inr ⟨_, ?_, ok⟩⟩
        rw [← kb]
        have p5 := hB.2.2.2.1.2.1
        have q7 := hB.2.2.2.2.1
        have q9 := hB.2.2.2.2.2.2.1
        have q10 := hB.2.2.2.2.2.2.2.1
        have q11 := hB.2.2.2.2.2.2.2.2.1
        have NB := hB.1.nums
        have NT := p7.nums
        have eT := cb_1 (P := P) (W := W) (T := T1) (b := b) (idx := T7 100 13 - 1) (by omega) (by omega) p5 (by omega) (by omega) (by omega) (by omega) (by rw [q9, show T7 100 26 + 1 - 1 = T7 100 26 by omega]; exact q10) (by rw [q9, show T7 100 26 + 1 - 1 = T7 100 26 by omega]; exact q11)
        obtain ⟨k1, k2, k3, k4, k5, k6, k7, k8, k9, k10, k11⟩ := cbT_s T1 b
        have tX : TT n f (cbT T1 b) := hB.1.1.2.1.cg k11 (funext fun k => k7 _ _ (by decide))
        have a10 : up (cbT T1 b) 100 6 c 100 6 = c := up_s _ _ _ _
        rw [eT, Tw_gap_e tX (by omega) (by omega), bd_some, k2, hc, Tw_isWord_e x3.1.2.1 (by omega) (by omega) 7 (by decide) (by decide), bd_some, a10, w7, if_pos rfl]
      · rw [w7, if_neg (show ¬ (1 : Int) = 0 by decide)]
        obtain ⟨e, he⟩ : ∃ e, sk n f (c + 4) = e := ⟨_, rfl⟩
        obtain ⟨G11, T11, hE, ae, te, en, eC, eT⟩ := el_nx hP hH hB hc w7 he (RS (e' + 2))
        rw [eC, eT]
        have p11 := hE.1
        have sb11 := hE.2.1
        have vq11 := hE.2.2.1
        have h4 := hE.2.2.2.1
        have N11 := p11.nums
        by_cases w6 : iw n f e 6 = 0
        · rw [if_pos w6, if_pos w6]
          have ob : (bd (bd (Tw_openBlock 2 (T7 100 13 - 1) T11) fun _ G23 => some ((0 : Int), G23)) fun _ T' => Lp P W T') = (bd (Tw_openBlock 2 (T7 100 13 - 1) T11) fun _ T' => Lp P W T') := by
            cases Tw_openBlock 2 (T7 100 13 - 1) T11 <;> rfl
          rw [ob]
          obtain ⟨G12, e12, R⟩ := hBl G11 T11 2 (T7 100 13 - 1) p11 sb11 vq11 (by decide) (by unfold AS; omega)
          rw [e12, bd_some]
          rcases R with ⟨w, p, T', fg, lz, fx⟩ | ⟨Gc, T2, b2, lz, hB2⟩
          · obtain ⟨G', e1, fg'⟩ := c164_f (a := a) fg (by unfold FKd; omega) (RS (e' + 2))
            exact ⟨G', e1, Or.inl ⟨w, p, T', fg'.mono (by unfold FKd; omega), lz, fx⟩⟩
          · obtain ⟨G', T', e1, kb, ok⟩ := cd_1 hP hE hB2 (RS (e' + 2))
            exact ⟨G', e1, Or.inr ⟨T', by rw [lz, kb], ok⟩⟩
        · rw [if_neg w6, if_neg w6]
          have i6 : iw n f e 6 = 1 := by rcases iw_r n f e 6 with h | h; exact absurd h w6; exact h
          have il6 := iw_lt i6 (by decide)
          have wl6 := we_le (f := f) en
          have hske : sk n f e = e := by rw [← he, sk_sk]
          by_cases dp : G11 150 3 = 30
          · have sG := CS.rf G11
            rw [dp, ae] at sG
            obtain ⟨GB, e1, fg1, eat⟩ := en_f (p := e) p11 sG (by omega) (by omega) (by omega) (by omega)
            obtain ⟨G29, e2, fg2⟩ := f_cond fg1 (by decide) e'
            have fg3 := FG_deep fg2 (x := G29 150 3 - 1) (by omega) (by omega)
            obtain ⟨G', e3, fg4⟩ := c164_f (a := a) fg3 (by decide) (RS (e' + 2))
            rw [e1, bd_some, e2, bd_some, fl_up fg2 (by decide), Tw_deeper_f (by omega) N11.2.2.2.2.2.2, bd_some]
            have y1 : up (fT 3 e T11) 100 19 31 100 7 = 3 := by simp [fT, up_ap]
            have y2 : up (fT 3 e T11) 100 19 31 100 8 = e := by simp [fT, up_ap]
            have y3 : up (fT 3 e T11) 100 19 31 100 26 = T11 100 26 := by simp [fT, up_ap]
            have y4 : up (fT 3 e T11) 100 19 31 100 6 = e := by simp [fT, up_ap, te]
            have y5 : up (fT 3 e T11) 100 19 31 100 13 = T11 100 13 := by simp [fT, up_ap]
            have y6 : TT n f (up (fT 3 e T11) 100 19 31) := p11.1.2.1.cg (by simp [fT, up_ap]) (by funext k; simp [fT, up_ap])
            generalize up (fT 3 e T11) 100 19 31 = Y at y1 y2 y3 y4 y5 y6 ⊢
            rw [y3, ckB_p (by omega) (by omega), tk_e, up_o _ (show (100 : Int) ≠ 128 by decide), y3, ckB_p (by omega) (by omega), tk_e, up_o _ (show (100 : Int) ≠ 129 by decide), up_o _ (show (100 : Int) ≠ 128 by decide), y3, ckI_p (by omega) (by omega), tk_e]
            have u : ∀ k, k ≠ 26 → up (up (up Y 128 (T11 100 26) 12) 129 (T11 100 26) (T7 100 13 - 1)) 100 26 (T11 100 26 + 1) 100 k = Y 100 k := fun k h => by rw [up_k _ h, up_o _ (by decide), up_o _ (by decide)]
            have ut : ∀ k, up (up (up Y 128 (T11 100 26) 12) 129 (T11 100 26) (T7 100 13 - 1)) 100 26 (T11 100 26 + 1) 105 k = Y 105 k := fun k => by rw [up_o _ (by decide), up_o _ (by decide), up_o _ (by decide)]
            generalize up (up (up Y 128 (T11 100 26) 12) 129 (T11 100 26) (T7 100 13 - 1)) 100 26 (T11 100 26 + 1) = Z at u ut ⊢
            have fz : FX 3 e Z := ⟨by rw [u _ (by decide)]; exact y1, by rw [u _ (by decide)]; exact y2, by decide⟩
            have az : Z 100 6 = e := by rw [u _ (by decide)]; exact y4
            have mz : Z 100 13 = T11 100 13 := by rw [u _ (by decide)]; exact y5
            obtain ⟨T', e4, fx⟩ := if_df (P := P) (W := W) (a := e) (y6.cg (u _ (by decide)) (funext ut)) az (by omega) (by omega) (by omega) (by omega) fz
            rw [az, e4, bd_some, bd_some]
            exact ⟨G', e3, Or.inl ⟨3, e, T', fg4.mono (by unfold FKd; omega), Lp_flt fx.ne, fx⟩⟩
          · rw [Rd_enter_e dp (by omega) (by omega), bd_some, Tw_deeper_e (by omega) (by omega) (by omega), bd_some]
            have sGa := CS_deep G11 (G11 150 3 + 1)
            generalize up G11 150 3 (G11 150 3 + 1) = Ga at sGa ⊢
            rw [h4.1, ae] at sGa
            have y1 := TS_deep T11 (T11 100 19 + 1)
            have y2 : ∀ o k, o ≠ 100 → up T11 100 19 (T11 100 19 + 1) o k = T11 o k := fun o k h => up_o _ h
            have y3 : up T11 100 19 (T11 100 19 + 1) 100 30 = T11 100 30 := up_k _ (by decide)
            have y4 : up T11 100 19 (T11 100 19 + 1) 100 29 = T11 100 29 := up_k _ (by decide)
            generalize up T11 100 19 (T11 100 19 + 1) = Y at y1 y2 y3 y4 ⊢
            obtain ⟨v1, v2, v3, v4, v5, v6, v7⟩ := y1
            rw [v6, ckB_p (by omega) (by omega), tk_e, up_o _ (show (100 : Int) ≠ 128 by decide), v6, ckB_p (by omega) (by omega), tk_e, up_o _ (show (100 : Int) ≠ 129 by decide), up_o _ (show (100 : Int) ≠ 128 by decide), v6, ckI_p (by omega) (by omega), tk_e]
            have u : ∀ k, k ≠ 26 → up (up (up Y 128 (T11 100 26) 12) 129 (T11 100 26) (T7 100 13 - 1)) 100 26 (T11 100 26 + 1) 100 k = Y 100 k := fun k h => by rw [up_k _ h, up_o _ (by decide), up_o _ (by decide)]
            have ub : up (up (up Y 128 (T11 100 26) 12) 129 (T11 100 26) (T7 100 13 - 1)) 100 26 (T11 100 26 + 1) 100 26 = T11 100 26 + 1 := up_s _ _ _ _
            have uo : ∀ o k, o ≠ 100 → o ≠ 128 → o ≠ 129 → up (up (up Y 128 (T11 100 26) 12) 129 (T11 100 26) (T7 100 13 - 1)) 100 26 (T11 100 26 + 1) o k = T11 o k := fun o k h1 h2 h3 => by rw [up_o _ h1, up_o _ h3, up_o _ h2]; exact y2 o k h1
            have u12 : up (up (up Y 128 (T11 100 26) 12) 129 (T11 100 26) (T7 100 13 - 1)) 100 26 (T11 100 26 + 1) 128 (T11 100 26) = 12 := by rw [up_o _ (by decide), up_o _ (by decide), up_s]
            have u13 : up (up (up Y 128 (T11 100 26) 12) 129 (T11 100 26) (T7 100 13 - 1)) 100 26 (T11 100 26 + 1) 129 (T11 100 26) = T7 100 13 - 1 := by rw [up_o _ (by decide), up_s]
            have ubk : bk T11 (up (up (up Y 128 (T11 100 26) 12) 129 (T11 100 26) (T7 100 13 - 1)) 100 26 (T11 100 26 + 1)) (T11 100 26) := fun o k h1 h2 h3 => by rw [up_o _ (by omega), up_ap, if_neg (by omega), up_ap, if_neg (by omega)]; exact y2 o k (by omega)
            have uk : kT T11 (up (up (up Y 128 (T11 100 26) 12) 129 (T11 100 26) (T7 100 13 - 1)) 100 26 (T11 100 26 + 1)) := ((v1.tr (kT_up (Or.inl (by decide)) _ _)).tr (kT_up (Or.inl (by decide)) _ _)).tr (kT_up (Or.inr (by decide)) _ _)
            generalize up (up (up Y 128 (T11 100 26) 12) 129 (T11 100 26) (T7 100 13 - 1)) 100 26 (T11 100 26 + 1) = Ta at u ub uo u12 u13 ubk uk ⊢
            have w1 := u 6 (by decide)
            have w2 := u 13 (by decide)
            have w3 := u 19 (by decide)
            have w4 := u 20 (by decide)
            have w5 := u 30 (by decide)
            have w6' := u 29 (by decide)
            have sb := sb11
            unfold SB at sb
            have hS' := hS
            unfold SB at hS'
            have n4 := hE.2.2.2.2.2.2.2.2.2.2.2.2.2
            have pa : PR n f Ga Ta := p11.kb sGa.1 sGa.2.1 sGa.2.2.1 sGa.2.2.2.1 uk (a' := e) (by omega) w2 w3 w4 ub (by omega) (by omega) (by omega) (by omega) rfl (by omega) (by omega) (by omega) (by omega) (by omega) (by omega) (by omega) (by omega) (by omega) (by omega)
            have gv : Ga 150 5 = G11 150 5 := sGa.1 _ _ (by simp [fS])
            have gi : Ga 150 4 = G11 150 4 := sGa.1 _ _ (by simp [fS])
            have sz := sGa.2.2.1
            have sd := sGa.2.2.2.1
            have sa := sGa.2.1
            obtain ⟨G13, e13, R⟩ := hCo Ga Ta e pa ⟨by omega, by omega⟩ (vq11.tr gv gi (by rw [w5, y3]) (by rw [w6', y4])) sa (by omega) hske i6 (by unfold AS; omega)
            have at1 : Ta 100 6 = e := by omega
            rw [e13, bd_some, at1]
            have ifo : (bd (bd (Tw_ifStatement P W e Ta) fun _ G30 => some ((0 : Int), G30)) fun _ T' => Lp P W T') = (bd (Tw_ifStatement P W e Ta) fun _ T' => Lp P W T') := by
              cases Tw_ifStatement P W e Ta <;> rfl
            rw [ifo]
            rcases R with ⟨w, p, T', fg, lz, fx⟩ | ⟨T13, lz, ok⟩
            · have fg3 := FG_deep fg (x := G13 150 3 - 1) (by omega) (by omega)
              obtain ⟨G', e3, fg4⟩ := c164_f (a := a) fg3 (by unfold FKd; omega) (RS (e' + 2))
              rw [fl_up fg (by unfold FKd; omega)]
              exact ⟨G', e3, Or.inl ⟨w, p, T', fg4.mono (by unfold FKd; omega), lz, fx⟩⟩
            · obtain ⟨G', T', e3, kb, ok'⟩ := cd_2 hP hE sGa (by rw [w2, v3]) (by rw [w4, v5]) (by omega) (by rw [w5, y3]) (by omega) (by rw [← h4.2.2.1]; exact u12) (by rw [← h4.2.2.1]; exact u13) (fun o k q1 q2 => uo o k (by omega) (by omega) (by omega)) (by rw [← h4.2.2.1]; exact ubk) ae te ok (RS (e' + 2))
              exact ⟨G', e3, Or.inr ⟨T', by rw [lz, kb], ok'⟩⟩
