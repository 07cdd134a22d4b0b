/-! PLAIN: a variable's statement -/
theorem VQ.tr {G T G' T' : St} (h : VQ G T) (h1 : G' 150 5 = G 150 5) (h2 : G' 150 4 = G 150 4) (h3 : T' 100 30 = T 100 30) (h4 : T' 100 29 = T 100 29) : VQ G' T' := by
  unfold VQ at *
  rw [h1, h2, h3, h4]; exact h
theorem va_f {n : Int} {f : Int → Int} {k w p z b s m : Int} {G : St} (h : FG n f k w p G) (hk : k ≤ 5000) (s0 : 0 ≤ s) (s1 : s ≤ 1) (m0 : 0 ≤ m) (m1 : m ≤ 64) : ∃ G', Rd_variable_b86 z b s m G = some (0, G') ∧ FG n f (k + 2) w p G' := by
  have h1 := FG_add h 7 z b 0
  have nn := h1.num
  unfold Rd_variable_b86
  rw [FG_add_e h (by omega) z b 0 (by decide) (by decide), bd_some, Rd_isSign_e h1.1 nn.1 (by omega) 61, bd_some]
  by_cases c : lkF n f (sk n f (adC G 7 z b 0 150 2)) = 61
  · rw [if_pos c, if_neg (by decide), FG_sign (FG_sk h1) (by omega) (by decide), bd_some, fx_expr (FG_sk (FG_sk h1)), bd_some]
    obtain ⟨G', e, fg⟩ := ve_f (k := k + 1) (z := z) (s := s) (m := m) (q := 1) (FG_sk (FG_sk h1)) (by omega) s0 s1 m0 m1
    exact ⟨G', e, fg.mono (by omega)⟩
  · rw [if_neg c, if_pos rfl]
    obtain ⟨G', e, fg⟩ := ve_f (k := k + 1) (z := z) (s := s) (m := m) (q := 0) (FG_sk h1) (by omega) s0 s1 m0 m1
    exact ⟨G', e, fg.mono (by omega)⟩
theorem tv_f {P W a b z : Int} {T : St} (h : 0 < T 100 7) : Tw_varStatement_b48 P W a b z T = some (0, T) := by
  unfold Tw_varStatement_b48 Tw_varStatement_b59
  rw [if_neg (by omega), if_pos h]
theorem FX.ps {w p : Int} {T : St} (h : FX w p T) : 0 < T 100 7 := h.ps'
theorem var_tail {n : Int} {f : Int → Int} {P W a b z s m w0 c : Int} {G T G6 T6 : St} (p6 : PR n f G6 T6) (a6 : G6 150 2 = c) (ta6 : T6 100 6 = c) (hsk : sk n f c = c) (cn : c ≤ n) (hS : SB G T) (hV : VQ G T) (ga : G 150 2 + 5 ≤ c) (ga' : T 100 6 + 5 ≤ c) (g0 : 0 ≤ G 110 4) (t0 : 0 ≤ T 100 13)
    (z6 : G6 110 4 = G 110 4 + 2) (m6 : T6 100 13 = T 100 13 + 2) (dp6 : G6 150 3 = G 150 3) (wt6 : T6 100 20 = T 100 20) (bl6 : T6 100 26 = T 100 26) (tb6 : tb T T6) (agG6 : agC G G6 0 (G 110 4)) (vr6 : T6 100 30 = T 100 30) (vi6 : T6 100 29 = T 100 29) (gr6 : G6 150 5 = G 150 5 + w0) (gi6 : G6 150 4 = G 150 4) (big : ¬ 256 < T 100 30 + w0) (w0b : 1 ≤ w0 ∧ w0 ≤ 64) (w0m : max 1 m = w0) (sv0 : 0 ≤ s) (sv1 : s ≤ 1) (mv0 : 0 ≤ m) (mv1 : m ≤ 64)
    (x0 : G6 111 (G 110 4) = 6) (x1 : G6 113 (G 110 4) = a) (x2 : T6 115 (T 100 13) = 20) (x3 : T6 118 (T 100 13) = a) (x4 : G6 111 (G 110 4 + 1) = 7) (x5 : G6 112 (G 110 4 + 1) = z) (x6 : G6 113 (G 110 4 + 1) = b) (x7 : T6 115 (T 100 13 + 1) = 24) (x8 : T6 116 (T 100 13 + 1) = z) (x9 : T6 118 (T 100 13 + 1) = b) :
    ∃ G', (if lkF n f c = 61 then (bd (Rd_sign 61 G6) fun _ G20 => bd (Rd_exprO G20) fun _ G22 => Rd_variable_b124 z s m 1 G22) else Rd_variable_b124 z s m 0 G6) = some (0, G') ∧ ((∃ w p T', FG n f 2420 w p G' ∧ (if sg n f c 61 = 0 then Tw_varStatement_b158 P W a b z w0 s m 0 T6 else (bd (Tw_expression P W (up T6 100 6 (c + 1))) fun _ G26 => Tw_varStatement_b158 P W a b z w0 s m 1 G26)) = some (0, T') ∧ FX w p T') ∨ ∃ T', (if sg n f c 61 = 0 then Tw_varStatement_b158 P W a b z w0 s m 0 T6 else (bd (Tw_expression P W (up T6 100 6 (c + 1))) fun _ G26 => Tw_varStatement_b158 P W a b z w0 s m 1 G26)) = some (0, T') ∧ OKS n f P W G T G' T' (T 100 30) (T' 100 30) ∧ VQ G' T') := by
  have N6 := p6.nums
  unfold SB at hS
  unfold VQ at hV
  have F6 := ts_F p6 (TS.rf T6)
  have FG6 := cs_F p6 (CS.rf G6)
  by_cases c61 : lkF n f c = 61
  · rw [if_pos c61]
    rw [Rd_sign_e (c := 61) (by decide) FG6.2 (by omega) (by omega), bd_some, if_pos FG6.1, a6, hsk]
    rcases sg_r n f c 61 with z61 | z61
    · rw [if_pos z61, if_neg (show ¬ sg n f c 61 = 1 by rw [z61]; decide)]
      have fg : FG n f 0 1 c (fC 1 c (skC n f G6)) := by
        have sZ := CS_sk n f G6
        rw [a6, hsk] at sZ
        exact FG_cs p6 sZ (by omega) (by omega) (by omega) (by omega) (by omega) (by omega) (by decide)
      rw [fx_expr fg, bd_some]
      obtain ⟨G', e7, fg'⟩ := ve_f (z := z) (s := s) (m := m) (q := 1) fg (by decide) sv0 sv1 mv0 mv1
      obtain ⟨G'', T', e8, e9, R⟩ := ve_ok (P := P) (W := W) (z := z) (a := a) (b := b) (s := s) (m := m) (s0 := w0) (q := 0) p6 vr6 (by omega) (by omega) w0b.1 sv0 sv1 mv0 mv1 (by omega)
      have c6 : sk n f (G6 150 2) = c := by rw [a6, hsk]
      rw [c6] at R
      have fxx : FX 1 c T' := by
        rcases R with ⟨w, p, _, fx, r1, r2⟩ | ⟨c', r1, _⟩
        · rw [r1, r2] at fx; exact fx
        · rw [r1] at c61; exact absurd c61 (by decide)
      exact ⟨G', e7, Or.inl ⟨1, c, T', fg'.mono (by decide), e9, fxx⟩⟩
    · rw [if_neg (show ¬ sg n f c 61 = 0 by rw [z61]; decide), if_pos z61]
      have lt6 := lkF_lt c61 (by decide)
      have s7 := CS_at G6 (c + 1)
      have t7 := TS_at T6 (c + 1)
      generalize up G6 150 2 (c + 1) = G7 at s7 ⊢
      generalize up T6 100 6 (c + 1) = T7 at t7 ⊢
      have p7 : PR n f G7 T7 := p6.mv s7 t7 (by omega) (by omega) (by omega) (by omega) rfl (by omega) (by omega) (by omega) (by omega) (by omega) (by omega) (by omega) (by omega) (by omega)
      obtain ⟨E1, E2, E3, E4, E5⟩ := s7
      obtain ⟨D1, D2, D3, D4, D5, D6, D7⟩ := t7
      obtain ⟨G8, e7, R⟩ := ex_ok (P := P) (W := W) p7
      rw [e7, bd_some]
      rcases R with ⟨w, p, T', fg, lx, fx⟩ | ⟨T8, lx, L3⟩
      · obtain ⟨G', e8, fg'⟩ := ve_f (z := z) (s := s) (m := m) (q := 1) fg (by decide) sv0 sv1 mv0 mv1
        refine ⟨G', e8, Or.inl ⟨w, p, T', fg'.mono (by decide), ?_, fx⟩⟩
        unfold Tw_varStatement_b158
        rw [lx, bd_some, if_pos fx.ps]
      · obtain ⟨h1, h2, h3, h4, h5, h6, h7, h8, h9, h10, h11, h12⟩ := L3
        have N8 := h1.nums
        have lw := wf_le h7
        have fr := fr_Tw_expression P W T7 (0, T8) lx
        have vr8 : T8 100 30 = T 100 30 := by rw [show T8 100 30 = T7 100 30 from fr _ _ (by simp [fS]), D1 _ _ (by simp [fS])]; exact vr6
        have vi8 : T8 100 29 = T 100 29 := by rw [show T8 100 29 = T7 100 29 from fr _ _ (by simp [fS]), D1 _ _ (by simp [fS])]; exact vi6
        clear fr
        rw [lx, bd_some]
        obtain ⟨G', T', e8, e9, R⟩ := ve_ok (P := P) (W := W) (z := z) (a := a) (b := b) (s := s) (m := m) (s0 := w0) (q := 1) h1 vr8 (by omega) (by omega) w0b.1 sv0 sv1 mv0 mv1 (by omega)
        refine ⟨G', e8, ?_⟩
        rcases R with ⟨w, p, fg, fx, _⟩ | ⟨c', _, j1, j2, j3, j4, j5, j6, j7, j8, j9, j10, j11, j12, j13, ⟨k1, k2, k3, k4'⟩, l1', l2', l3', l4', l5', l6'⟩
        · exact Or.inl ⟨w, p, T', fg.mono (by decide), e9, fx⟩
        · obtain ⟨o1, o2, o3, o4, o5⟩ := j1
          have grx : G' 150 5 = G8 150 5 := o1 _ _ (by simp [fS])
          have gix : G' 150 4 = G8 150 4 := o1 _ _ (by simp [fS])
          have fr8 := fr_Rd_exprO G7 (0, G8) e7
          have gr8 : G8 150 5 = G7 150 5 := fr8 _ _ (by simp [fS])
          have gi8 : G8 150 4 = G7 150 4 := fr8 _ _ (by simp [fS])
          have gr7 : G7 150 5 = G6 150 5 := E1 _ _ (by simp [fS])
          have gi7 : G7 150 4 = G6 150 4 := E1 _ _ (by simp [fS])
          clear fr8
          have agG : agC G6 G' 0 (G6 110 4) := (E5.tr h6 (by omega) (by omega)).tr o5 (by omega) (by omega)
          have tbT : tb T6 T' := (D7.tr h5 (by omega) (by omega)).tr j9 (by omega) (by omega)
          refine Or.inr ⟨T', e9, ⟨j10, by omega, by omega, by omega, tb6.tr tbT (by omega) (by omega), agG6.tr agG (by omega) (by omega), ?_, by omega, by omega, by omega, by omega⟩, ⟨by omega, by omega, by omega⟩, by omega, by omega, by omega⟩
          have rG : ∀ o k, 111 ≤ o → o ≤ 114 → 0 ≤ k → k < G 110 4 + 2 → G' o k = G6 o k := fun o k r1 r2 r3 r4 => agG o k r1 r2 r3 (by omega)
          have rT : ∀ o k, 115 ≤ o → o ≤ 119 → 0 ≤ k → k < T 100 13 + 2 → T' o k = T6 o k := fun o k r1 r2 r3 r4 => tbT.1 o k (by omega) r3 (by omega)
          have zz : G' 112 (G 110 4 + 1) = z := by rw [rG _ _ (by decide) (by decide) (by omega) (by omega)]; exact x5
          have wi := ((h7.cg (G1 := G') (T1 := T')).2.2 (o5.mono (by omega) (by omega)) (j9.1.mono (by omega) (by omega)))
          rw [show G7 110 4 = G 110 4 + 2 by omega, show T7 100 13 = T 100 13 + 2 by omega] at wi
          rw [o3, j3, j7, ← w0m]
          refine wf_var1 P W _ _ _ _ _ _ s m _ _ (31 - G7 150 3) ?_ ?_ ?_ ?_ ?_ ?_ ?_ wi (by omega) k1 (by rw [k2, zz]) (by rw [k3]; rfl) k4' l1' (by rw [l2', zz]) l3' (by rw [l4']; rfl) l5' l6' sv0 sv1 mv0 mv1 (by omega) (by omega)
          · rw [rG _ _ (by decide) (by decide) (by omega) (by omega)]; exact x0
          · rw [rT _ _ (by decide) (by decide) (by omega) (by omega)]; exact x2
          · rw [rT _ _ (by decide) (by decide) (by omega) (by omega), rG _ _ (by decide) (by decide) (by omega) (by omega), x3, x1]
          · rw [rG _ _ (by decide) (by decide) (by omega) (by omega)]; exact x4
          · rw [rT _ _ (by decide) (by decide) (by omega) (by omega)]; exact x7
          · rw [rT _ _ (by decide) (by decide) (by omega) (by omega), zz]; exact x8
          · rw [rT _ _ (by decide) (by decide) (by omega) (by omega), rG _ _ (by decide) (by decide) (by omega) (by omega), x9, x6]
  · rw [if_neg c61]
    have z61 : sg n f c 61 = 0 := by
      rcases sg_r n f c 61 with h | h
      · exact h
      · exact absurd (sg_1 h).1 c61
    rw [if_pos z61]
    obtain ⟨G', T', e8, e9, R⟩ := ve_ok (P := P) (W := W) (z := z) (a := a) (b := b) (s := s) (m := m) (s0 := w0) (q := 0) p6 vr6 (by omega) (by omega) w0b.1 sv0 sv1 mv0 mv1 (by omega)
    refine ⟨G', e8, ?_⟩
    rcases R with ⟨w, p, fg, fx, _⟩ | ⟨c', _, j1, j2, j3, j4, j5, j6, j7, j8, j9, j10, j11, j12, j13, ⟨k1, k2, k3, k4'⟩, l1', l2', l3', l4', l5', l6'⟩
    · exact Or.inl ⟨w, p, T', fg.mono (by decide), e9, fx⟩
    · obtain ⟨o1, o2, o3, o4, o5⟩ := j1
      have grx : G' 150 5 = G6 150 5 := o1 _ _ (by simp [fS])
      have gix : G' 150 4 = G6 150 4 := o1 _ _ (by simp [fS])
      refine Or.inr ⟨T', e9, ⟨j10, by omega, by omega, by omega, tb6.tr j9 (by omega) (by omega), agG6.tr o5 (by omega) (by omega), ?_, by omega, by omega, by omega, by omega⟩, ⟨by omega, by omega, by omega⟩, by omega, by omega, by omega⟩
      have rG : ∀ o k, 111 ≤ o → o ≤ 114 → 0 ≤ k → k < G 110 4 + 2 → G' o k = G6 o k := fun o k r1 r2 r3 r4 => o5 o k r1 r2 r3 (by omega)
      have rT : ∀ o k, 115 ≤ o → o ≤ 119 → 0 ≤ k → k < T 100 13 + 2 → T' o k = T6 o k := fun o k r1 r2 r3 r4 => j9.1 o k (by omega) r3 (by omega)
      have zz : G' 112 (G 110 4 + 1) = z := by rw [rG _ _ (by decide) (by decide) (by omega) (by omega)]; exact x5
      rw [z6] at k1 k2 k3 k4' o3
      rw [m6] at l1' l2' l3' l4' l5' l6' j3
      rw [o3, j3, j7, ← w0m, show G 110 4 + 2 + 1 = G 110 4 + 3 by omega, show T 100 13 + 2 + 2 = T 100 13 + 4 by omega]
      rw [show T 100 13 + 2 + 1 = T 100 13 + 3 by omega] at l6'
      refine wf_var0 P W _ _ _ _ s m _ _ ?_ ?_ ?_ ?_ ?_ ?_ ?_ k1 (by rw [k2, zz]) (by rw [k3]; rfl) k4' l1' (by rw [l2', zz]) l3' (by rw [l4', if_pos rfl]; omega) l5' l6' sv0 sv1 mv0 mv1 (by omega) (by omega)
      · rw [rG _ _ (by decide) (by decide) (by omega) (by omega)]; exact x0
      · rw [rT _ _ (by decide) (by decide) (by omega) (by omega)]; exact x2
      · rw [rT _ _ (by decide) (by decide) (by omega) (by omega), rG _ _ (by decide) (by decide) (by omega) (by omega), x3, x1]
      · rw [rG _ _ (by decide) (by decide) (by omega) (by omega)]; exact x4
      · rw [rT _ _ (by decide) (by decide) (by omega) (by omega)]; exact x7
      · rw [rT _ _ (by decide) (by decide) (by omega) (by omega), zz]; exact x8
      · rw [rT _ _ (by decide) (by decide) (by omega) (by omega), rG _ _ (by decide) (by decide) (by omega) (by omega), x9, x6]
theorem var_ok {n : Int} {f : Int → Int} {P W a : Int} {G T : St} (hP : PR n f G T) (hS : SB G T) (hV : VQ G T) (ea : G 150 2 = a) (et : T 100 6 = a) (an : a + 3 ≤ n) : ∃ G', (bd (Cd_add 6 0 a 0 G) fun _ G14 => Rd_variable G14) = some (0, G') ∧ ((∃ w p T', FG n f 2420 w p G' ∧ Tw_varStatement P W a T = some (0, T') ∧ FX w p T') ∨ ∃ T', Tw_varStatement P W a T = some (0, T') ∧ OKS n f P W G T G' T' (T 100 30) (T' 100 30) ∧ VQ G' T') := by
  have N := hP.nums
  have hV' := hV
  have hS' := hS
  unfold SB at hS
  unfold VQ at hV
  rw [Cd_add_e (by omega) (by omega) (by decide) (by decide), bd_some]
  have sA := CS_ad G 6 0 a 0
  have cv := adC_v G 6 0 a 0
  generalize adC G 6 0 a 0 = GA at sA cv ⊢
  rw [ea] at sA
  unfold Rd_variable
  rw [sA.2.1, ckI_p (by omega) (by omega), tk_e]
  have s0 := sA.nat (by omega) (a + 3)
  have c0 : ∀ o k, 111 ≤ o → o ≤ 114 → up GA 150 2 (a + 3) o k = GA o k := fun o k h1 h2 => up_o _ (by omega)
  generalize up GA 150 2 (a + 3) = G0 at s0 c0 ⊢
  obtain ⟨b, hbb⟩ : ∃ b, sk n f (a + 3) = b := ⟨_, rfl⟩
  have gb := sk_ge n f (a + 3)
  have gb2 := sk_le (f := f) an
  rw [hbb] at gb gb2
  have t1 := TS_ad T 20 0 0 a
  have v1 := adT_v T 20 0 0 a
  have t2 := t1.nat (by omega) (Int.le_refl _) (a + 3)
  have F2 := ts_F hP t2
  have to : Tw_varStatement P W a T = (bd (Tw_name (up (up (adT T 20 0 0 a) 100 6 (a + 3)) 100 6 b)) fun z6 G7 => if (G7 100 7) = 0 then (bd (Tw_sign 58 G7) fun _ G32 => Tw_varStatement_b48 P W a b z6 G32) else (Tw_varStatement_b48 P W a b z6 G7)) := by
    unfold Tw_varStatement
    rw [Tw_put_e (by omega) (by omega), bd_some, t1.2.1, et, ckI_p (by omega) (by omega), tk_e, Tw_gap_e F2.2 (by rw [t2.2.1]; omega) (by rw [t2.2.1]; omega), bd_some, t2.2.1, hbb, up_s]
  have t3 := t2.nat (by omega) (Int.le_refl _) b
  have c3 : ∀ o k, o ≠ 100 → up (up (adT T 20 0 0 a) 100 6 (a + 3)) 100 6 b o k = adT T 20 0 0 a o k := fun o k h => by rw [up_o _ h, up_o _ h]
  generalize adT T 20 0 0 a = TA at v1 c3 t3 to
  generalize up (up TA 100 6 (a + 3)) 100 6 b = T0 at t3 c3 to
  have p0 : PR n f G0 T0 := hP.mv s0 t3 (by omega) (by omega) (by omega) (by omega) (by rw [hbb, ← hbb, sk_sk]) (by omega) (by omega) (by omega) (by omega) (by omega) (by omega) (by omega) (by omega) (by omega)
  have vr0 : T0 100 30 = T 100 30 := t3.1 _ _ (by simp [fS])
  have vi0 : T0 100 29 = T 100 29 := t3.1 _ _ (by simp [fS])
  have gr0 : G0 150 5 = G 150 5 := s0.1 _ _ (by simp [fS])
  have gi0 : G0 150 4 = G 150 4 := s0.1 _ _ (by simp [fS])
  obtain ⟨A1, A2, A3, A4, A5⟩ := s0
  obtain ⟨B1, B2, B3, B4, B5, B6, B7⟩ := t3
  obtain ⟨z, G1, T1, e1, R⟩ := P_name p0
  rw [e1, bd_some]
  rcases R with ⟨e2, p1, b', x, hn⟩ | ⟨z', w, p, e2, fg, fx⟩
  · have N1 := p1.nums
    obtain ⟨⟨c1, c2, c3'⟩, q1, q2, q3, q4⟩ := nm_fr hn
    obtain ⟨n1, n2, n3, n4, n5, n6, n7, n8, n9, n10, n11⟩ := hn
    rw [A2, hbb] at n1
    subst n1
    have vr1 : T1 100 30 = T 100 30 := by rw [n11 _ _ (by simp [fS])]; exact vr0
    have vi1 : T1 100 29 = T 100 29 := by rw [n11 _ _ (by simp [fS])]; exact vi0
    have gr1 : G1 150 5 = G 150 5 := by rw [n10 _ _ (by simp [fS])]; exact gr0
    have gi1 : G1 150 4 = G 150 4 := by rw [n10 _ _ (by simp [fS])]; exact gi0
    clear n10 n11
    obtain ⟨G2, T2, e3, e4, R⟩ := P_sign (c := 58) (by decide) p1
    rw [e2, bd_some, if_pos N1.2.2.2.2.2.2, e4, bd_some] at to
    rw [e3, bd_some, n8]
    rcases R with ⟨r1, p2, r3, r4⟩ | ⟨w, p, fg, fx⟩
    · have lt1 := lkF_lt (sg_1 r1).1 (by decide)
      have N2 := p2.nums
      have h1 := sk_ge n f (G1 150 2)
      have h1' := sk_ge n f (T1 100 6)
      have sG2 := CS_at G1 (sk n f (G1 150 2) + 1)
      rw [← r3] at sG2
      have sT2 := TS_at T1 (sk n f (G1 150 2) + 1)
      rw [← r4] at sT2
      have x1 := N1.1.2.2.2.2
      obtain ⟨G3, T3, e5, e6, R⟩ := P_type p2
      rw [e5, bd_some]
      have to2 : Tw_varStatement P W a T = Tw_varStatement_b59 P W a b' z T3 := by
        rw [to]
        unfold Tw_varStatement_b48
        rw [if_pos N2.2.2.2.2.2.2, e6, bd_some]
      rcases R with ⟨b3, s, m, p3, sv0, sv1, mv0, mv1, u1, u2, u3, u4, s3, t3, l1, l2, l3⟩ | ⟨w, p, fg, fx⟩
      · have N3 := p3.nums
        have sG3 := sG2.tr s3 (Int.le_refl _)
        have sT3 := sT2.tr t3 (Int.le_refl _) (Int.le_refl _)
        rw [sG2.2.2.1, sG2.2.2.2.1] at sG3
        rw [sT2.2.2.1, sT2.2.2.2.1, sT2.2.2.2.2.1] at sT3
        have a2 := sG2.2.1
        have ta2 := sT2.2.1
        have vr3 : T3 100 30 = T 100 30 := by rw [sT3.1 _ _ (by simp [fS])]; exact vr1
        have vi3 : T3 100 29 = T 100 29 := by rw [sT3.1 _ _ (by simp [fS])]; exact vi1
        have gr3 : G3 150 5 = G 150 5 := by rw [sG3.1 _ _ (by simp [fS])]; exact gr1
        have gi3 : G3 150 4 = G 150 4 := by rw [sG3.1 _ _ (by simp [fS])]; exact gi1
        clear sG2 sT2 s3 t3
        obtain ⟨w0, hw0⟩ : ∃ w0, w0 = (if 1 < m then m else 1) := ⟨_, rfl⟩
        have w0b : 1 ≤ w0 ∧ w0 ≤ 64 := by rw [hw0]; split <;> omega
        have w0m : max 1 m = w0 := by rw [hw0]; split <;> omega
        have w0t : (if m = 0 then 1 else m) = w0 := by rw [hw0]; split <;> split <;> omega
        rw [Ft_is_0 N3.2.2.2.2.2.1, bd_some, if_pos rfl, u1, u2, ← hw0, gr3, ckI_p (by omega) (by omega), tk_e, up_s]
        unfold Tw_varStatement_b59 Tw_varStatement_b82 at to2
        rw [if_neg (by omega), u4, u3, w0t, vr3, ckI_p (by omega) (by omega)] at to2
        have p4 := p3.vg (k := 5) (v := G 150 5 + w0) (Or.inr rfl) (by omega) (by omega)
        have g4 : up G3 150 5 (G 150 5 + w0) 150 5 = G 150 5 + w0 := up_s _ _ _ _
        have k4 : ∀ o k, ¬ (o = 150 ∧ k = 5) → up G3 150 5 (G 150 5 + w0) o k = G3 o k := fun o k h => by rw [up_ap, if_neg h]
        generalize up G3 150 5 (G 150 5 + w0) = G4 at p4 g4 k4 ⊢
        by_cases big : 256 < T 100 30 + w0
        · rw [if_pos big, Tw_fail_e N3.2.2.2.2.2.2, bd_some] at to2
          have N4 := p4.nums
          rw [if_pos (by omega), Ft_set_e N4.2.2.2.2.2.1, bd_some]
          have fg := FG_cs (w := 2) (p := b') p4 (CS.rf G4) (by omega) (by omega) (by omega) (by omega) (by omega) (by omega) (by decide)
          obtain ⟨G', e7, fg'⟩ := va_f (z := z) (b := b') (s := s) (m := m) fg (by decide) sv0 sv1 mv0 mv1
          exact ⟨G', e7, Or.inl ⟨2, b', _, fg'.mono (by decide), to2, FX_fT _ (by decide)⟩⟩
        · rw [if_neg big] at to2
          rw [if_neg (by omega)]
          have N4 := p4.nums
          have sz4 : G4 110 4 = G3 110 4 := k4 _ _ (by omega)
          have at4 : G4 150 2 = G3 150 2 := k4 _ _ (by omega)
          have dp4 : G4 150 3 = G3 150 3 := k4 _ _ (by omega)
          obtain ⟨S1, S2, S3, S4, S5⟩ := sG3
          obtain ⟨U1, U2, U3, U4, U5, U6, U7⟩ := sT3
          unfold Rd_variable_b86
          rw [Cd_add_e (by omega) (by omega) (by decide) (by decide), bd_some]
          have s5 := CS_ad G4 7 z b' 0
          have cv5 := adC_v G4 7 z b' 0
          generalize adC G4 7 z b' 0 = G5 at s5 cv5 ⊢
          rw [Tw_put_e (by omega) (by omega), bd_some] at to2
          have t5 := TS_ad T3 24 z 0 b'
          have tv5 := adT_v T3 24 z 0 b'
          generalize adT T3 24 z 0 b' = T5 at t5 tv5 to2
          have p5 : PR n f G5 T5 := p4.mv s5 t5 (by omega) (by omega) (by omega) (by omega) N4.1.2.2.2.2 (by omega) (by omega) (by omega) (by omega) (by omega) (by omega) (by omega) (by omega) (by omega)
          have N5 := p5.nums
          obtain ⟨V1, V2, V3, V4, V5⟩ := s5
          obtain ⟨W1, W2, W3, W4, W5, W6, W7⟩ := t5
          obtain ⟨c, hcc⟩ : ∃ c, sk n f (G5 150 2) = c := ⟨_, rfl⟩
          have hcT : sk n f (T5 100 6) = c := by rw [← N5.1.2.2.2.2, hcc]
          have gc := sk_ge n f (G5 150 2)
          have gc1 := sk_ge n f (T5 100 6)
          have gc2 := sk_le (f := f) N5.1.2.1
          rw [hcc] at gc gc2
          rw [hcT] at gc1
          rw [Rd_isSign_e p5.1.1 (by omega) (by omega) 61, bd_some, hcc]
          rw [Tw_gap_e p5.1.2.1 (by omega) (by omega), bd_some, hcT] at to2
          have s6 := CS_sk n f G5
          rw [hcc] at s6
          have t6 := TS_at T5 c
          have F6 := ts_F p5 t6
          have FG6 := cs_F p5 s6
          have p6 : PR n f (skC n f G5) (up T5 100 6 c) := p5.mv s6 t6 (by omega) (by omega) (by omega) (by omega) rfl (by omega) (by omega) (by omega) (by omega) (by omega) (by omega) (by omega) (by omega) (by omega)
          generalize skC n f G5 = G6 at s6 FG6 p6 ⊢
          generalize up T5 100 6 c = T6 at t6 F6 p6 to2
          have a6 := s6.2.1
          have ta6 := t6.2.1
          rw [Tw_isSign_e F6.2 (by omega) (by omega) 61, bd_some, ta6] at to2
          obtain ⟨X1, X2, X3, X4, X5⟩ := s6
          obtain ⟨Y1, Y2, Y3, Y4, Y5, Y6, Y7⟩ := t6
          have vr6 : T6 100 30 = T 100 30 := by rw [Y1 _ _ (by simp [fS]), W1 _ _ (by simp [fS])]; exact vr3
          have vi6 : T6 100 29 = T 100 29 := by rw [Y1 _ _ (by simp [fS]), W1 _ _ (by simp [fS])]; exact vi3
          have gr6 : G6 150 5 = G 150 5 + w0 := by rw [X1 _ _ (by simp [fS]), V1 _ _ (by simp [fS])]; exact g4
          have gi6 : G6 150 4 = G 150 4 := by rw [X1 _ _ (by simp [fS]), V1 _ _ (by simp [fS]), k4 _ _ (by omega)]; exact gi3
          -- the rows below
          have aG6 : ∀ o k, 111 ≤ o → o ≤ 114 → 0 ≤ k → k < G 110 4 + 1 → G6 o k = GA o k := fun o k h1 h2 h3 h4 => by rw [X5 o k h1 h2 h3 (by omega), V5 o k h1 h2 h3 (by omega), k4 o k (by omega), S5 o k h1 h2 h3 (by omega), c3' o k h1 h2]; exact c0 o k h1 h2
          have aG6' : ∀ o, 111 ≤ o → o ≤ 114 → G6 o (G 110 4 + 1) = G5 o (G4 110 4) := fun o h1 h2 => by rw [X5 o _ h1 h2 (by omega) (by omega)]; congr 1; omega
          have tb1 : tb T0 T1 := tb_eq q4
          have tb6 : tb T T6 := (((B7.tr tb1 (by omega) (by omega)).tr U7 (by omega) (by omega)).tr W7 (by omega) (by omega)).tr Y7 (by omega) (by omega)
          have aT6 : ∀ o, o = 115 ∨ o = 118 → T6 o (T 100 13) = TA o (T 100 13) := fun o h => by rw [Y7.1 o _ (by omega) (by omega) (by omega), W7.1 o _ (by omega) (by omega) (by omega), U7.1 o _ (by omega) (by omega) (by omega), q4 o _ (by omega), c3 o _ (by omega)]
          have aT6' : ∀ o, 115 ≤ o → o ≤ 119 → T6 o (T 100 13 + 1) = T5 o (T3 100 13) := fun o h1 h2 => by rw [Y7.1 o _ (by omega) (by omega) (by omega)]; congr 1; omega
          have agG6 : agC G G6 0 (G 110 4) := by
            intro o k h1 h2 h3 h4
            rw [aG6 o k h1 h2 h3 (by omega), ← c0 o k h1 h2]; exact A5 o k h1 h2 h3 h4
          have fin := var_tail (P := P) (W := W) (a := a) (b := b') (z := z) (s := s) (m := m) (w0 := w0) (c := c) (G := G) (T := T) p6 a6 ta6 (by rw [← hcc, sk_sk]) gc2 hS' hV' (by omega) (by omega) (by omega) (by omega) (by omega) (by omega) (by omega) (by omega) (by omega) tb6 agG6 vr6 vi6 gr6 gi6 big w0b w0m sv0 sv1 mv0 mv1
            (by rw [aG6 _ _ (by decide) (by decide) (by omega) (by omega)]; exact cv.1) (by rw [aG6 _ _ (by decide) (by decide) (by omega) (by omega)]; exact cv.2.2.1) (by rw [aT6 _ (by decide)]; exact v1.1) (by rw [aT6 _ (by decide)]; exact v1.2.2.2) (by rw [aG6' _ (by decide) (by decide)]; exact cv5.1) (by rw [aG6' _ (by decide) (by decide)]; exact cv5.2.1) (by rw [aG6' _ (by decide) (by decide)]; exact cv5.2.2.1) (by rw [aT6' _ (by decide) (by decide)]; exact tv5.1) (by rw [aT6' _ (by decide) (by decide)]; exact tv5.2.1) (by rw [aT6' _ (by decide) (by decide)]; exact tv5.2.2.2)
          have toX : Tw_varStatement P W a T = (if sg n f c 61 = 0 then Tw_varStatement_b158 P W a b' z w0 s m 0 T6 else (bd (Tw_expression P W (up T6 100 6 (c + 1))) fun _ G26 => Tw_varStatement_b158 P W a b' z w0 s m 1 G26)) := by
            rw [to2]
            rcases sg_r n f c 61 with z61 | z61
            · rw [z61, if_pos rfl, if_pos rfl]
            · rw [z61, if_neg (show ¬ (1 : Int) = 0 by decide), if_neg (show ¬ (1 : Int) = 0 by decide), ckI_p (by omega) (by omega), tk_e]
          rw [← toX] at fin
          obtain ⟨G', e7, R⟩ := fin
          refine ⟨G', ?_, R⟩
          rw [← e7]
          by_cases c61 : lkF n f c = 61
          · rw [if_pos c61, if_pos c61, if_neg (by decide)]
          · rw [if_neg c61, if_neg c61, if_pos rfl]
      · have h := fx.ps
        unfold Tw_varStatement_b59 at to2
        rw [if_pos h] at to2
        rw [Ft_is_1 (FG_F fg), bd_some, if_neg (by decide)]
        exact ⟨G3, rfl, Or.inl ⟨w, p, T3, fg.mono (by decide), to2, fx⟩⟩
    · rw [tv_f fx.ps] at to
      obtain ⟨G3, e5, fg'⟩ := ft_type fg
      rw [e5, bd_some, Ft_is_1 (FG_F fg'), bd_some, if_neg (by decide)]
      exact ⟨G3, rfl, Or.inl ⟨w, p, T2, fg'.mono (by decide), to, fx⟩⟩
  · rw [e2, bd_some, if_neg (by have := fx.ps; omega), tv_f fx.ps] at to
    rw [FG_sign fg (by decide) (by decide), bd_some]
    obtain ⟨G3, e5, fg'⟩ := ft_type (FG_sk fg)
    rw [e5, bd_some, Ft_is_1 (FG_F fg'), bd_some, if_neg (by decide)]
    exact ⟨G3, rfl, Or.inl ⟨w, p, T1, fg'.mono (by decide), to, fx⟩⟩
