/-! PLAIN: sorts and types -/
theorem CS.nfld {G G1 : St} {a s d : Int} (h : CS G G1 a s d) {k : Int} (hk : k = 10 ∨ k = 11 ∨ k = 12) (v : Int) : CS G (up G1 150 k v) a s d := by
  obtain ⟨x1, x2, x3, x4, x5⟩ := h
  refine ⟨x1.tr (kC_up (Or.inr (by rcases hk with h | h | h <;> rw [h] <;> decide)) _ _), ?_, ?_, ?_, ?_⟩
  · rw [up_k _ (by omega)]; exact x2
  · rw [up_o _ (by decide)]; exact x3
  · rw [up_k _ (by omega)]; exact x4
  · intro o k b1 b2 b3 b4
    rw [up_o _ (by omega)]; exact x5 o k b1 b2 b3 b4
theorem TS.nfld {T T1 : St} {a m d w : Int} (h : TS T T1 a m d w) {k : Int} (hk : k = 31 ∨ k = 32) (v : Int) : TS T (up T1 100 k v) a m d w := by
  obtain ⟨x1, x2, x3, x4, x5, x6, x7, x8⟩ := h
  refine ⟨x1.tr (kT_up (Or.inr (by rcases hk with h | h <;> rw [h] <;> decide)) _ _), ?_, ?_, ?_, ?_, ?_, ?_, ?_⟩
  · rw [up_k _ (by omega)]; exact x2
  · rw [up_k _ (by omega)]; exact x3
  · rw [up_k _ (by omega)]; exact x4
  · rw [up_k _ (by omega)]; exact x5
  · rw [up_k _ (by omega)]; exact x6
  · intro o k b1 b2 b3
    rw [up_o _ (by omega)]; exact x7 o k b1 b2 b3
  · intro o k b1 b2 b3
    rw [up_o _ (by omega)]; exact x8 o k b1 b2 b3
theorem P_sort {n : Int} {f : Int → Int} {G T : St} (hP : PR n f G T) : ∃ z G' T', Rd_sort G = some (z, G') ∧ Tw_sortWord T = some (0, T') ∧ ((∃ b, PR n f G' T' ∧ 0 ≤ z ∧ z ≤ 1 ∧ T' 100 32 = z ∧ CS G G' b (G 110 4) (G 150 3) ∧ TS T T' b (T 100 13) (T 100 19) (T 100 20) ∧ G 150 2 + 3 ≤ b ∧ T 100 6 + 3 ≤ b ∧ b ≤ n) ∨ ∃ w p, FG n f 0 w p G' ∧ FX w p T') := by
  have N := hP.nums
  obtain ⟨b, hbb⟩ : ∃ b, sk n f (G 150 2) = b := ⟨_, rfl⟩
  have hbT : sk n f (T 100 6) = b := by rw [← N.1.2.2.2.2, hbb]
  have g := sk_ge n f (G 150 2)
  have g1 := sk_ge n f (T 100 6)
  have g2 := sk_le (f := f) N.1.2.1
  rw [hbb] at g g2
  rw [hbT] at g1
  have sG := CS_sk n f G
  rw [hbb] at sG
  have sT := TS_sk n f T
  rw [hbT] at sT
  have FC := cs_F hP sG
  have FT := ts_F hP sT
  have eC : Rd_sort G = Rd_sort G := rfl
  conv at eC => rhs; unfold Rd_sort Rd_sort_b42
  rw [Rd_skip_e hP.1.1 (by omega), bd_some, show up G 150 2 (sk n f (G 150 2)) = skC n f G from rfl] at eC
  have eT : Tw_sortWord T = Tw_sortWord T := rfl
  conv at eT => rhs; unfold Tw_sortWord Tw_sortWord_b20 Tw_sortWord_b53
  rw [Tw_gap_e hP.1.2.1 (by omega) (by omega), bd_some, show up T 100 6 (sk n f (T 100 6)) = skT n f T from rfl] at eT
  generalize skC n f G = GS at sG FC eC
  generalize skT n f T = TS' at sT FT eT
  have aG := sG.2.1
  have aT := sT.2.1
  rw [Ft_is_0 FC.1, bd_some, if_pos rfl, Rd_isWord_e FC.2 (by omega) (by omega) 10 (by decide) (by decide), bd_some, aG] at eC
  rw [Tw_isWord_e FT.2 (by omega) (by omega) 10 (by decide) (by decide), bd_some, aT, tk_e] at eT
  have s1 := sT.nfld (k := 32) (Or.inr rfl) (if iw n f b 10 = 0 then 0 else 1)
  have v1 : up TS' 100 32 (if iw n f b 10 = 0 then 0 else 1) 100 32 = (if iw n f b 10 = 0 then 0 else 1) := up_s _ _ _ _
  have F1 := ts_F hP s1
  generalize up TS' 100 32 (if iw n f b 10 = 0 then 0 else 1) = T1 at s1 v1 F1 eT
  have a1 := s1.2.1
  rw [Tw_isWord_e F1.2 (by omega) (by omega) 9 (by decide) (by decide), bd_some, a1] at eT
  have sG2 := sG.nat (Int.le_refl _) (b + 3)
  have sT2 := s1.nat (Int.le_refl _) (Int.le_refl _) (b + 3)
  have v2 : up T1 100 6 (b + 3) 100 32 = (if iw n f b 10 = 0 then 0 else 1) := by rw [up_k _ (by decide)]; exact v1
  have pr : b + 3 ≤ n → PR n f (up GS 150 2 (b + 3)) (up T1 100 6 (b + 3)) := fun h => hP.mv sG2 sT2 (by omega) (by omega) (by omega) (by omega) rfl (by omega) (by omega) (by omega) (by omega) (by omega) (by omega) (by omega) (by omega) (by omega)
  have wl := we_le (f := f) g2
  by_cases c10 : iw n f b 10 = 0
  · rw [if_pos c10, Rd_isWord_e FC.2 (by omega) (by omega) 9 (by decide) (by decide), bd_some, aG] at eC
    rw [if_pos c10] at v2
    by_cases c9 : iw n f b 9 = 0
    · rw [if_pos c9, Rd_bad_e FC.1, bd_some, aG] at eC
      rw [if_pos c9, Tw_isWord_e F1.2 (by omega) (by omega) 10 (by decide) (by decide), bd_some, a1, if_pos c10, Tw_fail_e F1.1, bd_some] at eT
      exact ⟨_, _, _, eC, eT, Or.inr ⟨1, b, FG_cs hP sG (by omega) (by omega) (by omega) (by omega) (by omega) (by omega) (by decide), FX_fT _ (by decide)⟩⟩
    · have i9 : iw n f b 9 = 1 := by rcases iw_r n f b 9 with h | h; exact absurd h c9; exact h
      have il := iw_lt i9 (by decide)
      have sl : swl 9 = 3 := by decide
      rw [if_neg c9, ckI_p (by omega) (by omega), tk_e, if_pos c10] at eC
      rw [if_neg c9, ckI_p (by omega) (by omega), tk_e] at eT
      exact ⟨_, _, _, eC, eT, Or.inl ⟨b + 3, pr (by omega), by decide, by decide, v2, sG2, sT2, by omega, by omega, by omega⟩⟩
  · have i10 : iw n f b 10 = 1 := by rcases iw_r n f b 10 with h | h; exact absurd h c10; exact h
    have il := iw_lt i10 (by decide)
    have sl : swl 10 = 3 := by decide
    rw [if_neg c10] at v2
    rw [if_neg c10, ckI_p (by omega) (by omega), tk_e, if_neg c10] at eC
    have eT2 : Tw_sortWord T = some (0, up T1 100 6 (b + 3)) := by
      rw [eT]
      by_cases c9 : iw n f b 9 = 0
      · rw [if_pos c9, Tw_isWord_e F1.2 (by omega) (by omega) 10 (by decide) (by decide), bd_some, a1, if_neg c10, ckI_p (by omega) (by omega), tk_e]
      · rw [if_neg c9, ckI_p (by omega) (by omega), tk_e]
    exact ⟨_, _, _, eC, eT2, Or.inl ⟨b + 3, pr (by omega), by decide, by decide, v2, sG2, sT2, by omega, by omega, by omega⟩⟩
theorem P_type {n : Int} {f : Int → Int} {G T : St} (hP : PR n f G T) : ∃ G' T', Rd_type G = some (0, G') ∧ Tw_type T = some (0, T') ∧ ((∃ b s m, PR n f G' T' ∧ 0 ≤ s ∧ s ≤ 1 ∧ 0 ≤ m ∧ m ≤ 64 ∧ G' 150 11 = s ∧ G' 150 12 = m ∧ T' 100 32 = s ∧ T' 100 31 = m ∧ CS G G' b (G 110 4) (G 150 3) ∧ TS T T' b (T 100 13) (T 100 19) (T 100 20) ∧ G 150 2 + 3 ≤ b ∧ T 100 6 + 3 ≤ b ∧ b ≤ n) ∨ ∃ w p, FG n f 1 w p G' ∧ FX w p T') := by
  have N := hP.nums
  obtain ⟨z, G1, T1, e1, e2, R⟩ := P_sort hP
  have eC : Rd_type G = Rd_type G := rfl
  conv at eC => rhs; unfold Rd_type
  rw [e1, bd_some, tk_e, tk_e] at eC
  have eT : Tw_type T = Tw_type T := rfl
  conv at eT => rhs; unfold Tw_type
  rw [e2, bd_some, tk_e] at eT
  rcases R with ⟨b, p1, z0, z1, v1, sG, sT, b0, b1, bn⟩ | ⟨w, p, fg, fx⟩
  · have s2 := (sG.nfld (k := 11) (by decide) z).nfld (k := 12) (by decide) 0
    have u1 : up (up G1 150 11 z) 150 12 0 150 11 = z := by rw [up_k _ (by decide), up_s]
    have u2 : up (up G1 150 11 z) 150 12 0 150 12 = 0 := up_s _ _ _ _
    have F2 := cs_F hP s2
    generalize up (up G1 150 11 z) 150 12 0 = G2 at s2 u1 u2 F2 eC
    have t2 := sT.nfld (k := 31) (Or.inl rfl) 0
    have w1 : up T1 100 31 0 100 32 = z := by rw [up_k _ (by decide)]; exact v1
    have w2 : up T1 100 31 0 100 31 = 0 := up_s _ _ _ _
    have FT2 := ts_F hP t2
    generalize up T1 100 31 0 = T2 at t2 w1 w2 FT2 eT
    have a2 := s2.2.1
    have ta2 := t2.2.1
    obtain ⟨c, hcc⟩ : ∃ c, sk n f b = c := ⟨_, rfl⟩
    have g := sk_ge n f b
    have g2 := sk_le (f := f) bn
    rw [hcc] at g g2
    rw [Ft_is_0 F2.1, bd_some, if_pos rfl, Rd_isSign_e F2.2 (by omega) (by omega) 91, bd_some, a2, hcc] at eC
    rw [if_neg (by omega), Tw_gap_e FT2.2 (by omega) (by omega), bd_some, ta2, hcc] at eT
    have s3 := s2.nsk (Int.le_refl _) n f
    rw [hcc] at s3
    have u3 : skC n f G2 150 11 = z := by rw [skC_k _ _ _ _ (by decide)]; exact u1
    have u4 : skC n f G2 150 12 = 0 := by rw [skC_k _ _ _ _ (by decide)]; exact u2
    have F3 := cs_F hP s3
    generalize skC n f G2 = G3 at s3 u3 u4 F3 eC
    have t3 := t2.nat (Int.le_refl _) (Int.le_refl _) c
    have w3 : up T2 100 6 c 100 32 = z := by rw [up_k _ (by decide)]; exact w1
    have w4 : up T2 100 6 c 100 31 = 0 := by rw [up_k _ (by decide)]; exact w2
    have FT3 := ts_F hP t3
    generalize up T2 100 6 c = T3 at t3 w3 w4 FT3 eT
    have a3 := s3.2.1
    have ta3 := t3.2.1
    rw [Tw_isSign_e FT3.2 (by omega) (by omega) 91, bd_some, ta3, sg_c (by decide) (by decide)] at eT
    have p3 : PR n f G3 T3 := hP.mv s3 t3 (by omega) (by omega) (by omega) (by omega) rfl (by omega) (by omega) (by omega) (by omega) (by omega) (by omega) (by omega) (by omega) (by omega)
    by_cases c91 : lkF n f c = 91
    · have lt := lkF_lt c91 (by decide)
      rw [if_pos c91, if_neg (show ¬ (1 : Int) = 0 by decide), a3, ckI_p (by omega) (by omega), tk_e] at eC
      rw [if_pos c91, if_neg (show ¬ (1 : Int) = 0 by decide), ckI_p (by omega) (by omega), tk_e] at eT
      have s4 := s3.nat (Int.le_refl _) (c + 1)
      have u5 : up G3 150 2 (c + 1) 150 11 = z := by rw [up_k _ (by decide)]; exact u3
      generalize up G3 150 2 (c + 1) = G4 at s4 u5 eC
      have t4 := t3.nat (Int.le_refl _) (Int.le_refl _) (c + 1)
      have w5 : up T3 100 6 (c + 1) 100 32 = z := by rw [up_k _ (by decide)]; exact w3
      generalize up T3 100 6 (c + 1) = T4 at t4 w5 eT
      have p4 : PR n f G4 T4 := hP.mv s4 t4 (by omega) (by omega) (by omega) (by omega) rfl (by omega) (by omega) (by omega) (by omega) (by omega) (by omega) (by omega) (by omega) (by omega)
      obtain ⟨y, G5, T5, e5, e6, R⟩ := P_number 1 64 (by decide) p4
      rw [e5, bd_some, tk_e] at eC
      rw [e6, bd_some, tk_e] at eT
      rcases R with ⟨r1, p5, r3, r4, r5, r6, r7, r8⟩ | ⟨w, p, fg, fx⟩
      · obtain ⟨u, hu⟩ : ∃ u, u = T5 100 12 := ⟨_, rfl⟩
        rw [← hu] at r3 r4 r5 r6 eT
        have yu : y = u := by rw [r3]; exact w32_eq (by omega) (by omega)
        rw [yu] at eC
        rw [← r3, yu] at eT
        obtain ⟨q, hq⟩ : ∃ q, q = dgE f n (sk n f (G4 150 2)) := ⟨_, rfl⟩
        have sG5 : CS G G5 q (G 110 4) (G 150 3) := by
          rw [r7, ← hq]
          exact ((s4.nsk (Int.le_refl _) n f).nplace (Int.le_refl _) _).nat (Int.le_refl _) _
        have sT5 : TS T T5 q (T 100 13) (T 100 19) (T 100 20) := by
          rw [r8, ← hq]
          exact (t4.nnum (Int.le_refl _) (Int.le_refl _) _).nat (Int.le_refl _) (Int.le_refl _) _
        have x5 : G5 150 11 = z := by rw [r7, up_k _ (by decide), up_k _ (by decide), skC_k _ _ _ _ (by decide)]; exact u5
        have y5 : T5 100 32 = z := by rw [r8, up_k _ (by decide), up_k _ (by decide)]; exact w5
        have N5 := p5.nums
        have q1 := sG5.2.1
        have q2 := sT5.2.1
        have gg := sk_ge n f (G4 150 2)
        have a4 := s4.2.1
        have s6 := sG5.nfld (k := 12) (by decide) u
        have x6 : up G5 150 12 u 150 11 = z := by rw [up_k _ (by decide)]; exact x5
        have x7 : up G5 150 12 u 150 12 = u := up_s _ _ _ _
        generalize up G5 150 12 u = G6 at s6 x6 x7 eC
        have t6 := sT5.nfld (k := 31) (Or.inl rfl) u
        have y6 : up T5 100 31 u 100 32 = z := by rw [up_k _ (by decide)]; exact y5
        have y7 : up T5 100 31 u 100 31 = u := up_s _ _ _ _
        generalize up T5 100 31 u = T6 at t6 y6 y7 eT
        have p6 : PR n f G6 T6 := hP.mv s6 t6 (by omega) (by omega) (by omega) (by omega) rfl (by omega) (by omega) (by omega) (by omega) (by omega) (by omega) (by omega) (by omega) (by omega)
        have N6 := p6.nums
        obtain ⟨G7, T7, e7, e8, R⟩ := P_sign (c := 93) (by decide) p6
        rw [e7, bd_some] at eC
        rw [if_pos N6.2.2.2.2.2.2, e8, bd_some] at eT
        rcases R with ⟨r1', p7, r3', r4'⟩ | ⟨w, p, fg, fx⟩
        · have lt' := lkF_lt (sg_1 r1').1 (by decide)
          have s7 := s6.nat (Int.le_refl _) (sk n f (G6 150 2) + 1)
          rw [← r3'] at s7
          have t7 := t6.nat (Int.le_refl _) (Int.le_refl _) (sk n f (G6 150 2) + 1)
          rw [← r4'] at t7
          have h6 := sk_ge n f (G6 150 2)
          have a6 := s6.2.1
          exact ⟨G7, T7, eC, eT, Or.inl ⟨_, z, u, p7, z0, z1, r4, by omega, by rw [r3', up_k _ (by decide)]; exact x6, by rw [r3', up_k _ (by decide)]; exact x7, by rw [r4', up_k _ (by decide)]; exact y6, by rw [r4', up_k _ (by decide)]; exact y7, s7, t7, by omega, by omega, by omega⟩⟩
        · exact ⟨G7, T7, eC, eT, Or.inr ⟨w, p, fg.mono (by decide), fx⟩⟩
      · have h12 : FG n f 0 w p (up G5 150 12 y) := by
          obtain ⟨a, b, c, d, e, g, hh, i1, i2, i3, i4, i, j, l, m⟩ := fg
          refine ⟨a.at _ _ (by decide), ?_, ?_, ?_, ?_, ?_, ?_, ?_, ?_, ?_, ?_, ?_, ?_, l, m⟩ <;> simp only [up_ap] <;> simp <;> assumption
        have hx : FX w p (up T5 100 31 (w32 (T5 100 12))) := ⟨by rw [up_k _ (by decide)]; exact fx.1, by rw [up_k _ (by decide)]; exact fx.2.1, fx.2.2⟩
        rw [FG_sign h12 (by decide) (by decide), bd_some] at eC
        rw [if_neg (by have h1 := hx.1; have h2 := hx.2.2; omega)] at eT
        exact ⟨_, _, eC, eT, Or.inr ⟨w, p, (FG_sk h12).mono (by decide), hx⟩⟩
    · rw [if_neg c91, if_pos rfl] at eC eT
      exact ⟨G3, T3, eC, eT, Or.inl ⟨c, z, 0, p3, z0, z1, by decide, by decide, u3, u4, w3, w4, s3, t3, by omega, by omega, by omega⟩⟩
  · have h12 : FG n f 0 w p (up (up G1 150 11 z) 150 12 0) := by
      obtain ⟨a, b, c, d, e, g, hh, i1, i2, i3, i4, i, j, l, m⟩ := fg
      refine ⟨(a.at _ _ (by decide)).at _ _ (by decide), ?_, ?_, ?_, ?_, ?_, ?_, ?_, ?_, ?_, ?_, ?_, ?_, l, m⟩ <;> simp only [up_ap] <;> simp <;> assumption
    have hx : FX w p (up T1 100 31 0) := ⟨by rw [up_k _ (by decide)]; exact fx.1, by rw [up_k _ (by decide)]; exact fx.2.1, fx.2.2⟩
    rw [Ft_is_1 (FG_F h12), bd_some, if_neg (by decide)] at eC
    rw [if_pos (by have h1 := hx.1; have h2 := hx.2.2; omega)] at eT
    exact ⟨_, _, eC, eT, Or.inr ⟨w, p, h12.mono (by decide), hx⟩⟩
