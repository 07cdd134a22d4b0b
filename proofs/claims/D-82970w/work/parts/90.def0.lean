/-! PLAIN: items: definitions, their parameters -/
/-- within the head of a definition: g parameters are read -/
def DI (n : Int) (f : Int → Int) (P W a z b g : Int) (G T Gk Tk : St) : Prop :=
  PR n f Gk Tk ∧ (Gk 150 3 = G 150 3 ∧ Tk 100 20 = T 100 20 ∧ Tk 100 26 = T 100 26) ∧ tb T Tk ∧ agC G Gk 0 (G 110 4) ∧ (Tk 100 30 = T 100 30 ∧ Tk 100 29 = T 100 29 ∧ Gk 150 5 = G 150 5 ∧ Gk 150 4 = G 150 4) ∧ (Gk 111 (G 110 4) = 1 ∧ Gk 112 (G 110 4) = z ∧ Gk 113 (G 110 4) = b) ∧ (Tk 115 (T 100 13) = 26 ∧ Tk 116 (T 100 13) = z ∧ Tk 117 (T 100 13) = g ∧ Tk 118 (T 100 13) = b) ∧
  WF P W Gk Tk 5 (G 110 4 + 1) (Gk 110 4) (T 100 13 + 1) (Tk 100 13) g 0 0 ∧ (0 ≤ g ∧ a + 5 + 5 * g ≤ Gk 150 2 ∧ a + 5 + 5 * g ≤ Tk 100 6 ∧ Gk 110 4 ≤ G 110 4 + 1 + g ∧ Tk 100 13 ≤ T 100 13 + 1 + g)
theorem td_252 {P W x1 x2 x3 x4 x6 : Int} {T : St} (h : 0 < T 100 7) : Tw_defItem_b252 P W x1 x2 x3 x4 x6 T = some (0, T) := by
  unfold Tw_defItem_b252
  rw [if_pos h]
theorem td_233 {P W x1 x2 x3 x4 : Int} {T : St} (h : 0 < T 100 7) : Tw_defItem_b233 P W x1 x2 x3 x4 T = some (0, T) := by
  unfold Tw_defItem_b233
  rw [if_neg (by omega), td_252 h]
theorem td_222 {P W x1 x2 x3 x4 : Int} {T : St} (h : 0 < T 100 7) : Tw_defItem_b222 P W x1 x2 x3 x4 T = some (0, T) := by
  unfold Tw_defItem_b222
  rw [if_neg (by omega), td_233 h]
theorem td_209 {P W x1 x2 x3 x4 : Int} {T : St} (h : 0 < T 100 7) : Tw_defItem_b209 P W x1 x2 x3 x4 T = some (0, T) := by
  unfold Tw_defItem_b209
  rw [if_neg (by omega), td_222 h]
theorem td_196 {P W x1 x2 x3 x4 : Int} {T : St} (h : 0 < T 100 7) : Tw_defItem_b196 P W x1 x2 x3 x4 T = some (0, T) := by
  unfold Tw_defItem_b196
  rw [if_neg (by omega), td_209 h]
theorem td_l76 {P W x1 x2 x3 x4 x5 : Int} {T : St} (h : 0 < T 100 7) : Tw_defItem_l76 P W x1 x2 x3 x4 x5 T = some (0, T) := by
  rw [Tw_defItem_l76_eq]
  unfold Tw_defItem_s76
  rw [td_196 h, if_neg (show ¬ T 100 7 = 0 by omega), ite_self]
  rfl
theorem td_0 {P W x1 x2 x3 x4 : Int} {T : St} : Tw_defItem_l76 P W x1 x2 x3 x4 0 T = Tw_defItem_b196 P W x1 x2 x3 x4 T := by
  rw [Tw_defItem_l76_eq]
  unfold Tw_defItem_s76
  rw [if_pos rfl]
  cases Tw_defItem_b196 P W x1 x2 x3 x4 T <;> rfl
theorem pm_0 {G : St} : Rd_params_l2 0 G = bd (Rd_sign 41 G) fun _ G2 => some (0, G2) := by
  rw [Rd_params_l2_eq]
  unfold Rd_params_s2 Rd_params_b92
  rw [if_pos rfl]
  cases Rd_sign 41 G <;> rfl
theorem pm_f {n : Int} {f : Int → Int} {k w p x : Int} {G : St} (h : FG n f k w p G) (hk : k ≤ 7000) : Rd_params_l2 x G = some (0, skC n f G) := by
  by_cases q : x = 0
  · rw [q, pm_0, FG_sign h hk (by decide), bd_some]
  · rw [Rd_params_l2_eq]
    unfold Rd_params_s2 Rd_params_b92
    rw [if_neg q, Ft_is_1 (FG_F h), bd_some, if_neg (by decide), FG_sign h hk (by decide)]
    rfl
theorem FG_sort {n : Int} {f : Int → Int} {k w p : Int} {G : St} (h : FG n f k w p G) : Rd_sort G = some (0, skC n f G) := by
  unfold Rd_sort
  rw [Rd_skip_e h.1 h.2.1, bd_some, show up G 150 2 (sk n f (G 150 2)) = skC n f G from rfl, Ft_is_1 (FG_F (FG_sk h)), bd_some, if_neg (by decide)]
theorem pm_loop {n : Int} {f : Int → Int} {P W a z b : Int} {G T : St} (hP : PR n f G T) (a0 : 0 ≤ a) :
    ∀ (k : Nat) (g : Int) (Gk Tk : St), DI n f P W a z b g G T Gk Tk → (n - Gk 150 2).toNat < k → ∃ G', Rd_params_l2 1 Gk = some (0, G') ∧ ((∃ w p T', FG n f 2 w p G' ∧ Tw_defItem_l76 P W a b z (T 100 13) 1 Tk = some (0, T') ∧ FX w p T') ∨ ∃ T' g', Tw_defItem_l76 P W a b z (T 100 13) 1 Tk = Tw_defItem_b209 P W a b z (T 100 13) T' ∧ DI n f P W a z b g' G T G' T') := by
  intro k
  induction k with
  | zero => intro g Gk Tk _ hk; omega
  | succ k ih =>
    intro g Gk Tk hD hk
    obtain ⟨pk, ⟨d1, d2, d3⟩, d4, d5, ⟨d6, d7, d8, d9⟩, ⟨d10, d11, d12⟩, ⟨d13, d14, d15, d16⟩, dW, d17, d18, d19, d20, d21⟩ := hD
    have N := hP.nums
    have Nk := pk.nums
    have lw := wf_le dW
    have eC : Rd_params_l2 1 Gk = Rd_params_l2 1 Gk := rfl
    conv at eC => rhs; rw [Rd_params_l2_eq]; unfold Rd_params_s2
    rw [if_neg (show ¬ (1 : Int) = 0 by decide), Ft_is_0 Nk.2.2.2.2.2.1, bd_some, if_pos rfl] at eC
    have eT : Tw_defItem_l76 P W a b z (T 100 13) 1 Tk = Tw_defItem_l76 P W a b z (T 100 13) 1 Tk := rfl
    conv at eT => rhs; rw [Tw_defItem_l76_eq]; unfold Tw_defItem_s76
    have x0 := Nk.1.2.2.2.2
    obtain ⟨c, hc⟩ : ∃ c, sk n f (Tk 100 6) = c := ⟨_, rfl⟩
    have gc := sk_ge n f (Tk 100 6)
    have gc1 := sk_ge n f (Gk 150 2)
    have gc2 := sk_le (f := f) Nk.1.2.2.2.1
    rw [hc] at gc gc2 x0
    rw [if_neg (show ¬ (1 : Int) = 0 by decide), if_pos Nk.2.2.2.2.2.2, Tw_gap_e pk.1.2.1 (by omega) (by omega), bd_some, hc, up_s] at eT
    have t0 := TS_at Tk c
    have p0 : PR n f Gk (up Tk 100 6 c) := pk.mv (CS.rf Gk) t0 (by omega) (by omega) (by omega) (by omega) (by rw [x0, ← hc, sk_sk]) (by omega) (by omega) (by omega) (by omega) (by omega) (by omega) (by omega) (by omega) (by omega)
    have k0 : ∀ o k, o ≠ 100 → up Tk 100 6 c o k = Tk o k := fun o k h => up_o _ h
    have vr0 : up Tk 100 6 c 100 30 = Tk 100 30 := up_k _ (by decide)
    have vi0 : up Tk 100 6 c 100 29 = Tk 100 29 := up_k _ (by decide)
    generalize up Tk 100 6 c = T0 at t0 p0 k0 vr0 vi0 eT
    obtain ⟨B1, B2, B3, B4, B5, B6, B7⟩ := t0
    obtain ⟨y, G1, T1, e1, R⟩ := P_name p0
    rw [e1, bd_some] at eC
    rcases R with ⟨e2, p1, b', x, hn⟩ | ⟨y', w, p, e2, fg, fx⟩
    · have N1 := p1.nums
      obtain ⟨⟨c1, c2, c3'⟩, q1, q2, q3, q4⟩ := nm_fr hn
      obtain ⟨n1, n2, n3, n4, n5, n6, n7, n8, n9, n10, n11⟩ := hn
      rw [x0] at n1
      subst n1
      have vr1 : T1 100 30 = T 100 30 := by rw [n11 _ _ (by simp [fS]), vr0, d6]
      have vi1 : T1 100 29 = T 100 29 := by rw [n11 _ _ (by simp [fS]), vi0, d7]
      have gr1 : G1 150 5 = G 150 5 := by rw [n10 _ _ (by simp [fS]), d8]
      have gi1 : G1 150 4 = G 150 4 := by rw [n10 _ _ (by simp [fS]), d9]
      clear n10 n11
      rw [e2, bd_some, if_pos N1.2.2.2.2.2.2] at eT
      rw [n8] at eC
      obtain ⟨G2, T2, e3, e4, R⟩ := P_sign (c := 58) (by decide) p1
      rw [e3, bd_some] at eC
      rw [e4, bd_some] at eT
      unfold Tw_defItem_b117 at eT
      rcases R with ⟨r1, p2, r3, r4⟩ | ⟨w, p, fg, fx⟩
      · have lt1 := lkF_lt (sg_1 r1).1 (by decide)
        have N2 := p2.nums
        have g1 := sk_ge n f (G1 150 2)
        have g1' := sk_ge n f (T1 100 6)
        have x1 := N1.1.2.2.2.2
        have s2 := CS_at G1 (sk n f (G1 150 2) + 1)
        rw [← r3] at s2
        have u2 := TS_at T1 (sk n f (G1 150 2) + 1)
        rw [← r4] at u2
        have a2 := s2.2.1
        have ta2 := u2.2.1
        rw [if_pos N2.2.2.2.2.2.2] at eT
        obtain ⟨s, G3, T3, e5, e6, R⟩ := P_sort p2
        rw [e5, bd_some] at eC
        rw [e6, bd_some] at eT
        unfold Tw_defItem_b128 at eT
        rcases R with ⟨b3, p3, sv0, sv1, sv2, s3, u3, l1, l2, l3⟩ | ⟨w, p, fg, fx⟩
        · have N3 := p3.nums
          have s4 := s2.tr s3 (Int.le_refl _)
          have u4 := u2.tr u3 (Int.le_refl _) (Int.le_refl _)
          rw [s2.2.2.1, s2.2.2.2.1] at s4
          rw [u2.2.2.1, u2.2.2.2.1, u2.2.2.2.2.1] at u4
          clear s2 u2 s3 u3
          have z4 := s4.2.2.1
          have a4 := s4.2.1
          have ta4 := u4.2.1
          have tm4 := u4.2.2.1
          have dd4 := s4.2.2.2.1
          rw [if_pos N3.2.2.2.2.2.2, sv2, Tw_put_e (by omega) (by omega), bd_some] at eT
          rw [Cd_add_e (by omega) (by omega) (by decide) (by decide), bd_some] at eC
          have s5 := s4.nad (Int.le_refl _) 2 y b' s
          have cv5 := adC_v G3 2 y b' s
          rw [z4] at cv5
          generalize adC G3 2 y b' s = G5 at s5 cv5 eC
          have u5 := u4.nad (Int.le_refl _) (Int.le_refl _) 27 y s b'
          have tv5 := adT_v T3 27 y s b'
          rw [tm4] at tv5
          have k5 : ∀ o k, 115 ≤ o → o ≤ 119 → k < T1 100 13 → adT T3 27 y s b' o k = T3 o k := fun o k h1 h2 h3 => adT_o (by omega) (by omega)
          generalize adT T3 27 y s b' = T5 at u5 tv5 k5 eT
          have vr5 : T5 100 30 = T 100 30 := by rw [u5.1 _ _ (by simp [fS])]; exact vr1
          have vi5 : T5 100 29 = T 100 29 := by rw [u5.1 _ _ (by simp [fS])]; exact vi1
          have gr5 : G5 150 5 = G 150 5 := by rw [s5.1 _ _ (by simp [fS])]; exact gr1
          have gi5 : G5 150 4 = G 150 4 := by rw [s5.1 _ _ (by simp [fS])]; exact gi1
          have FC5 := cs_F p1 s5
          obtain ⟨S1, S2, S3, S4, S5⟩ := s5
          obtain ⟨U1, U2, U3, U4, U5, U6, U7⟩ := u5
          have two5 : T5 117 (T 100 13) = g := by rw [U7.1 _ _ (by decide) (by omega) (by omega), q4 _ _ (by decide), k0 _ _ (by decide)]; exact d15
          rw [two5, ckB_p (by omega) (by omega), ckI_p (by omega) (by omega), ckB_p (by omega) (by omega), tk_e] at eT
          -- the count of parameters
          have kk6 := U1.tr (kT_up (o := 117) (k := T 100 13) (Or.inl (by decide)) T5 (g + 1))
          have k6 : ∀ o k, ¬ (o = 117 ∧ k = T 100 13) → up T5 117 (T 100 13) (g + 1) o k = T5 o k := fun o k h => by rw [up_ap, if_neg h]
          have v6 : up T5 117 (T 100 13) (g + 1) 117 (T 100 13) = g + 1 := up_s _ _ _ _
          generalize up T5 117 (T 100 13) (g + 1) = T6 at kk6 k6 v6 eT
          have h6a := k6 100 6 (by omega)
          have h6b := k6 100 13 (by omega)
          have h6c := k6 100 19 (by omega)
          have h6d := k6 100 20 (by omega)
          have h6e := k6 100 26 (by omega)
          have h6f := k6 100 30 (by omega)
          have h6g := k6 100 29 (by omega)
          obtain ⟨e, he⟩ : ∃ e, sk n f b3 = e := ⟨_, rfl⟩
          have ge := sk_ge n f b3
          have ge2 := sk_le (f := f) l3
          rw [he] at ge ge2
          have tt6 : TT n f T6 := p1.1.2.1.cg (kk6 _ _ (by simp [fS])) (funext fun k => kk6 _ _ (by simp [fS]))
          rw [Tw_gap_e tt6 (by omega) (by omega), bd_some, show T6 100 6 = b3 by omega, he] at eT
          have kk7 := kk6.tr (kT_up (o := 100) (k := 6) (Or.inr (by decide)) T6 e)
          have k7 : ∀ o k, ¬ (o = 100 ∧ k = 6) → up T6 100 6 e o k = T6 o k := fun o k h => by rw [up_ap, if_neg h]
          have v7 : up T6 100 6 e 100 6 = e := up_s _ _ _ _
          generalize up T6 100 6 e = T7 at kk7 k7 v7 eT
          have tt7 : TT n f T7 := p1.1.2.1.cg (kk7 _ _ (by simp [fS])) (funext fun k => kk7 _ _ (by simp [fS]))
          rw [Tw_isSign_e tt7 (by omega) (by omega) 44, bd_some, v7, sg_c (by decide) (by decide)] at eT
          rw [Ft_is_0 FC5.1, bd_some, if_pos rfl, Rd_isSign_e FC5.2 (by omega) (by omega) 44, bd_some, S2, he] at eC
          have s7 := (show CS G1 G5 _ _ _ from ⟨S1, S2, S3, S4, S5⟩).nsk (by omega) n f
          rw [he] at s7
          have kc7 : ∀ o k, o ≠ 150 → skC n f G5 o k = G5 o k := fun o k h => skC_o _ _ _ _ h
          generalize skC n f G5 = G7 at s7 kc7 eC
          unfold Rd_params_b74 at eC
          unfold Tw_defItem_b189 at eT
          have gr7 : G7 150 5 = G 150 5 := by rw [s7.1 _ _ (by simp [fS])]; exact gr1
          have gi7 : G7 150 4 = G 150 4 := by rw [s7.1 _ _ (by simp [fS])]; exact gi1
          obtain ⟨A1, A2, A3, A4, A5⟩ := s7
          have h7b := k7 100 13 (by omega)
          have h7c := k7 100 19 (by omega)
          have h7d := k7 100 20 (by omega)
          have h7e := k7 100 26 (by omega)
          have h7f := k7 100 30 (by omega)
          have h7g := k7 100 29 (by omega)
          -- a pair further on keeps all
          have fin : ∀ (e1 : Int) (G8 T8 : St), e ≤ e1 → e1 ≤ n → G8 = up G7 150 2 e1 → T8 = up T7 100 6 e1 → DI n f P W a z b (g + 1) G T G8 T8 := by
            intro e1 G8 T8 m1 m2 m3 m4
            have sg8 := CS_at G7 e1
            rw [← m3] at sg8
            have kg8 : ∀ o k, o ≠ 150 → G8 o k = G7 o k := fun o k h => by rw [m3]; exact up_o _ h
            have kt8 : ∀ o k, ¬ (o = 100 ∧ k = 6) → T8 o k = T7 o k := fun o k h => by rw [m4, up_ap, if_neg h]
            have kk8 := kk7.tr (kT_up (o := 100) (k := 6) (Or.inr (by decide)) T7 e1)
            rw [← m4] at kk8
            have v8 : T8 100 6 = e1 := by rw [m4]; exact up_s _ _ _ _
            have gr8 : G8 150 5 = G 150 5 := by rw [sg8.1 _ _ (by simp [fS])]; exact gr7
            have gi8 : G8 150 4 = G 150 4 := by rw [sg8.1 _ _ (by simp [fS])]; exact gi7
            have i1 := kt8 100 13 (by omega)
            have i2 := kt8 100 19 (by omega)
            have i3 := kt8 100 20 (by omega)
            have i4 := kt8 100 26 (by omega)
            have i5 := kt8 100 30 (by omega)
            have i6 := kt8 100 29 (by omega)
            obtain ⟨C1, C2, C3, C4, C5⟩ := sg8
            have pr : PR n f G8 T8 := p1.kb (A1.tr C1) C2 (by rw [C3, A3]) (by rw [C4, A4]) kk8 v8 (by rw [i1, h7b, h6b, U3]) (by rw [i2, h7c, h6c, U4]) (by rw [i3, h7d, h6d, U5]) (by rw [i4, h7e, h6e, U6]) (by omega) (by omega) (by omega) (by omega) rfl (by omega) (by omega) (by omega) (by omega) (by omega) (by omega) (by omega) (by omega) (by omega) (by omega)
            have gK : ∀ o k, 111 ≤ o → o ≤ 114 → 0 ≤ k → k < Gk 110 4 → G8 o k = Gk o k := fun o k h1 h2 h3 h4 => by rw [C5 o k h1 h2 h3 (by omega), A5 o k h1 h2 h3 (by omega), c3' o k h1 h2]
            have gR : ∀ o, 111 ≤ o → o ≤ 114 → G8 o (Gk 110 4) = G5 o (G1 110 4) := fun o h1 h2 => by rw [kg8 o _ (by omega), kc7 o _ (by omega), c1]
            have tK : ∀ o k, (115 ≤ o ∧ o ≤ 119 ∨ o = 134) → ¬ (o = 117 ∧ k = T 100 13) → 0 ≤ k → k < Tk 100 13 → T8 o k = Tk o k := fun o k h1 h2 h3 h4 => by
              rw [kt8 o k (by omega), k7 o k (by omega), k6 o k h2, U7.1 o k h1 h3 (by omega), q4 o k (by omega), k0 o k (by omega)]
            have tWk : ∀ o k, (o = 122 ∨ o = 123 ∨ o = 124 ∨ o = 125) → 0 ≤ k → k < T 100 20 → T8 o k = Tk o k := fun o k h1 h3 h4 => by
              rw [kt8 o k (by omega), k7 o k (by omega), k6 o k (by omega), U7.2 o k h1 h3 (by omega), q4 o k (by omega), k0 o k (by omega)]
            have tR : ∀ o, o = 115 ∨ o = 116 ∨ o = 117 ∨ o = 118 → T8 o (Tk 100 13) = T5 o (T1 100 13) := fun o h => by rw [kt8 o _ (by omega), k7 o _ (by omega), k6 o _ (by omega), show Tk 100 13 = T1 100 13 by omega]
            refine ⟨pr, ⟨by omega, by omega, by omega⟩, ⟨?_, ?_⟩, ?_, ⟨by omega, by omega, gr8, gi8⟩, ⟨?_, ?_, ?_⟩, ⟨?_, ?_, ?_, ?_⟩, ?_, by omega, by omega, by omega, by omega, by omega⟩
            · intro o k h1 h2 h3
              rw [tK o k h1 (by omega) h2 (by omega)]; exact d4.1 o k h1 h2 h3
            · intro o k h1 h2 h3
              rw [tWk o k h1 h2 h3]; exact d4.2 o k h1 h2 h3
            · intro o k h1 h2 h3 h4
              rw [gK o k h1 h2 h3 (by omega)]; exact d5 o k h1 h2 h3 h4
            · rw [gK _ _ (by decide) (by decide) (by omega) (by omega)]; exact d10
            · rw [gK _ _ (by decide) (by decide) (by omega) (by omega)]; exact d11
            · rw [gK _ _ (by decide) (by decide) (by omega) (by omega)]; exact d12
            · rw [tK _ _ (by decide) (by omega) (by omega) (by omega)]; exact d13
            · rw [tK _ _ (by decide) (by omega) (by omega) (by omega)]; exact d14
            · rw [kt8 _ _ (by omega), k7 _ _ (by omega)]; exact v6
            · rw [tK _ _ (by decide) (by omega) (by omega) (by omega)]; exact d16
            · have w0 := (dW.cg (G1 := G8) (T1 := T8)).2.2 (fun o k h1 h2 h3 h4 => gK o k h1 h2 (by omega) h4) (fun o k h1 h2 h3 => tK o k h1 (by omega) (by omega) h3)
              rw [C3, A3, i1, h7b, h6b, U3, c1, show T1 100 13 = Tk 100 13 by omega]
              refine wf_prm P W _ _ _ _ _ _ _ _ _ w0 d17 ?_ ?_ ?_ ?_ ?_ ?_ ?_
              · rw [gR _ (by decide) (by decide)]; exact cv5.1
              · rw [gR _ (by decide) (by decide), tR _ (by decide), cv5.2.2.2, tv5.2.2.1]
              · rw [gR _ (by decide) (by decide), cv5.2.2.2]; exact sv0
              · rw [gR _ (by decide) (by decide), cv5.2.2.2]; exact sv1
              · rw [tR _ (by decide)]; exact tv5.1
              · rw [tR _ (by decide), gR _ (by decide) (by decide), tv5.2.1, cv5.2.1]
              · rw [tR _ (by decide), gR _ (by decide) (by decide), tv5.2.2.2, cv5.2.2.1]
          by_cases c44 : lkF n f e = 44
          · have lt44 := lkF_lt c44 (by decide)
            rw [if_pos c44, if_neg (show ¬ (1 : Int) = 0 by decide), A2, if_neg (show ¬ (1 : Int) = 0 by decide), ckI_p (by omega) (by omega), tk_e] at eC
            rw [if_pos c44, if_neg (show ¬ (1 : Int) = 0 by decide), ckI_p (by omega) (by omega), tk_e] at eT
            obtain ⟨G', e7, R⟩ := ih (g + 1) _ _ (fin (e + 1) _ _ (by omega) (by omega) rfl rfl) (by rw [up_s]; omega)
            exact ⟨G', eC.trans e7, by
              rcases R with ⟨w, p, T', fg, lx, fx⟩ | ⟨T', g', lx, hD'⟩
              · exact Or.inl ⟨w, p, T', fg, eT.trans lx, fx⟩
              · exact Or.inr ⟨T', g', eT.trans lx, hD'⟩⟩
          · rw [if_neg c44, if_pos rfl, if_pos rfl] at eC
            rw [if_neg c44, if_pos rfl, ckI_p (by omega) (by omega), tk_e, Int.add_zero, up_id' v7.symm] at eT
            have hD0 := fin e G7 T7 (Int.le_refl _) (by omega) (up_id' A2.symm).symm (up_id' v7.symm).symm
            have p7 := hD0.1
            have N7 := p7.nums
            have eC2 : Rd_params_l2 1 Gk = bd (Rd_sign 41 G7) fun _ G2 => some (0, G2) := eC.trans pm_0
            have eT2 : Tw_defItem_l76 P W a b z (T 100 13) 1 Tk = Tw_defItem_b196 P W a b z (T 100 13) T7 := eT.trans td_0
            unfold Tw_defItem_b196 at eT2
            obtain ⟨G8, T8, f1, f2, R⟩ := P_sign (c := 41) (by decide) p7
            rw [f1, bd_some] at eC2
            rw [if_pos N7.2.2.2.2.2.2, f2, bd_some] at eT2
            refine ⟨G8, eC2, ?_⟩
            rcases R with ⟨m1, m2, m3, m4⟩ | ⟨w, p, fg, fx⟩
            · have lt8 := lkF_lt (sg_1 m1).1 (by decide)
              have g7 := sk_ge n f (G7 150 2)
              exact Or.inr ⟨T8, g + 1, eT2, fin (sk n f (G7 150 2) + 1) G8 T8 (by omega) (by omega) m3 m4⟩
            · rw [td_209 fx.ps] at eT2
              exact Or.inl ⟨w, p, T8, fg.mono (by decide), eT2, fx⟩
        · rw [if_neg fx.ne] at eT
          rw [FG_add_e fg (by decide) y b' s (by decide) (by decide), bd_some, Ft_is_1 (FG_F (FG_add fg _ _ _ _)), bd_some, if_neg (by decide)] at eC
          unfold Rd_params_b74 at eC
          rw [if_pos rfl] at eC
          exact ⟨_, eC.trans (pm_f (FG_add fg _ _ _ _) (by decide)), Or.inl ⟨w, p, T3, (FG_sk (FG_add fg _ _ _ _)).mono (by decide), eT.trans (td_l76 fx.ps), fx⟩⟩
      · rw [if_neg fx.ne] at eT
        unfold Tw_defItem_b128 at eT
        rw [if_neg fx.ne] at eT
        have fa := FG_add (FG_sk fg) 2 y b' 0
        rw [FG_sort fg, bd_some, FG_add_e (FG_sk fg) (by decide) y b' 0 (by decide) (by decide), bd_some, Ft_is_1 (FG_F fa), bd_some, if_neg (by decide)] at eC
        unfold Rd_params_b74 at eC
        rw [if_pos rfl] at eC
        exact ⟨_, eC.trans (pm_f fa (by decide)), Or.inl ⟨w, p, T2, (FG_sk fa).mono (by decide), eT.trans (td_l76 fx.ps), fx⟩⟩
    · rw [e2, bd_some, if_neg fx.ne] at eT
      unfold Tw_defItem_b117 Tw_defItem_b128 at eT
      rw [if_neg fx.ne, if_neg fx.ne] at eT
      have fs := FG_sk fg
      have fa := FG_add (FG_sk fs) 2 y (G1 150 10) 0
      rw [FG_sign fg (by decide) (by decide), bd_some, FG_sort fs, bd_some, FG_add_e (FG_sk fs) (by decide) y _ 0 (by decide) (by decide), bd_some, Ft_is_1 (FG_F fa), bd_some, if_neg (by decide)] at eC
      unfold Rd_params_b74 at eC
      rw [if_pos rfl] at eC
      exact ⟨_, eC.trans (pm_f fa (by decide)), Or.inl ⟨w, p, T1, (FG_sk fa).mono (by decide), eT.trans (td_l76 fx.ps), fx⟩⟩
