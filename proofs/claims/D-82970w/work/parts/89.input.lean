/-! PLAIN: items: inputs -/
theorem ti_88 {P W b z x : Int} {T : St} (h : 0 < T 100 7) : Tw_inputItem_b88 P W b z x T = some (0, T) := by
  unfold Tw_inputItem_b88
  rw [if_pos h]
theorem ti_77 {P W b z x : Int} {T : St} (h : 0 < T 100 7) : Tw_inputItem_b77 P W b z x T = some (0, T) := by
  unfold Tw_inputItem_b77
  rw [if_neg (by omega), ti_88 h]
theorem ti_57 {P W b z : Int} {T : St} (h : 0 < T 100 7) : Tw_inputItem_b57 P W b z T = some (0, T) := by
  unfold Tw_inputItem_b57
  rw [if_neg (by omega), ti_77 h]
theorem ti_38 {P W b z : Int} {T : St} (h : 0 < T 100 7) : Tw_inputItem_b38 P W b z T = some (0, T) := by
  unfold Tw_inputItem_b38
  rw [if_neg (by omega), ti_57 h]
/-- behind a fault: from the type on -/
theorem in_f1 {n : Int} {f : Int → Int} {P W k w p z b x : Int} {G : St} (h : FG n f k w p G) : ∃ G', (bd (Rd_type G) fun _ G11 => bd (Ft_is G11) fun z12 G13 => if z12 = 0 then (ckI ((G13 150 4) + (if 1 < (G13 150 12) then (G13 150 12) else 1)) <| tk (up G13 150 4 ((G13 150 4) + (if 1 < (G13 150 12) then (G13 150 12) else 1))) fun G14 => if 256 < (G14 150 4) then (bd (Ft_set 2 b G14) fun _ G20 => Rd_input_b96 P W z b x G20) else (Rd_input_b96 P W z b x G14)) else (some (0, G13))) = some (0, G') ∧ FG n f k w p G' := by
  obtain ⟨G', e, fg⟩ := ft_type h
  rw [e, bd_some, Ft_is_1 (FG_F fg), bd_some, if_neg (by decide)]
  exact ⟨G', rfl, fg⟩
theorem FG_num {n : Int} {f : Int → Int} {k w p x y : Int} {G : St} (h : FG n f k w p G) : Rd_number x y G = some (0, skC n f G) := by
  unfold Rd_number
  rw [Rd_skip_e h.1 h.2.1, bd_some, show up G 150 2 (sk n f (G 150 2)) = skC n f G from rfl, Ft_is_1 (FG_F (FG_sk h)), bd_some, if_neg (by decide)]
theorem FG_wd {n : Int} {f : Int → Int} {k w p x : Int} {G : St} (h : FG n f k w p G) : Rd_word x G = some (0, skC n f G) := by
  unfold Rd_word
  rw [Rd_skip_e h.1 h.2.1, bd_some, show up G 150 2 (sk n f (G 150 2)) = skC n f G from rfl, Ft_is_1 (FG_F (FG_sk h)), bd_some, if_neg (by decide)]
theorem it_in {n : Int} {f : Int → Int} {P W a : Int} {G T : St} (P1 : 1 ≤ P) (P2 : P ≤ 100) (hI : II n f P W G T) (ea : G 150 2 = a) (et : T 100 6 = a) (an : a + 5 ≤ n) : ∃ G', Rd_input P W G = some (0, G') ∧ ((∃ w p T', FG n f 2420 w p G' ∧ Tw_inputItem P W a T = some (0, T') ∧ FX w p T') ∨ ∃ T', Tw_inputItem P W a T = some (0, T') ∧ II n f P W G' T' ∧ a < G' 150 2) := by
  obtain ⟨hP, hS, hV, ⟨hw, hb, hdp⟩, zz, hz, hW⟩ := hI
  have N := hP.nums
  have hV' := hV
  unfold VQ at hV'
  unfold SB at hS
  have lwI := wf_le hW
  unfold Rd_input
  rw [ea, ckI_p (by omega) (by omega), tk_e]
  have s0 := CS_at G (a + 5)
  generalize up G 150 2 (a + 5) = G0 at s0 ⊢
  obtain ⟨b, hbb⟩ : ∃ b, sk n f (a + 5) = b := ⟨_, rfl⟩
  have gb := sk_ge n f (a + 5)
  have gb2 := sk_le (f := f) an
  rw [hbb] at gb gb2
  have t1 := TS_at T (a + 5)
  have F1 := ts_F hP t1
  have eT : Tw_inputItem P W a T = Tw_inputItem P W a T := rfl
  conv at eT => rhs; unfold Tw_inputItem
  rw [et, ckI_p (by omega) (by omega), tk_e, Tw_gap_e F1.2 (by rw [t1.2.1]; omega) (by rw [t1.2.1]; omega), bd_some, t1.2.1, hbb, up_s] at eT
  have t0 := t1.nat (Int.le_refl _) (Int.le_refl _) b
  have k0 : ∀ o k, o ≠ 100 → up (up T 100 6 (a + 5)) 100 6 b o k = T o k := fun o k h => by rw [up_o _ h, up_o _ h]
  generalize up (up T 100 6 (a + 5)) 100 6 b = T0 at t0 k0 eT
  have p0 : PR n f G0 T0 := hP.mv s0 t0 (by omega) (by omega) (by omega) (by omega) (by rw [hbb, ← hbb, sk_sk]) (by omega) (by omega) (by omega) (by omega) (by omega) (by omega) (by omega) (by omega) (by omega)
  have vr0 : T0 100 30 = T 100 30 := t0.1 _ _ (by simp [fS])
  have vi0 : T0 100 29 = T 100 29 := t0.1 _ _ (by simp [fS])
  have gr0 : G0 150 5 = G 150 5 := s0.1 _ _ (by simp [fS])
  have gi0 : G0 150 4 = G 150 4 := s0.1 _ _ (by simp [fS])
  obtain ⟨A1, A2, A3, A4, A5⟩ := s0
  obtain ⟨B1, B2, B3, B4, B5, B6, B7⟩ := t0
  obtain ⟨z, G1, T1, e1, R⟩ := P_name p0
  rw [e1, bd_some]
  rcases R with ⟨e2, p1, b', x, hn⟩ | ⟨z', w, p, e2, fg, fx⟩
  · have N1 := p1.nums
    obtain ⟨⟨c1, c2, c3'⟩, q1, q2, q3, q4⟩ := nm_fr hn
    obtain ⟨n1, n2, n3, n4, n5, n6, n7, n8, n9, n10, n11⟩ := hn
    rw [A2, hbb] at n1
    subst n1
    have vr1 : T1 100 30 = T 100 30 := by rw [n11 _ _ (by simp [fS])]; exact vr0
    have vi1 : T1 100 29 = T 100 29 := by rw [n11 _ _ (by simp [fS])]; exact vi0
    have gr1 : G1 150 5 = G 150 5 := by rw [n10 _ _ (by simp [fS])]; exact gr0
    have gi1 : G1 150 4 = G 150 4 := by rw [n10 _ _ (by simp [fS])]; exact gi0
    clear n10 n11
    rw [e2, bd_some, if_pos N1.2.2.2.2.2.2] at eT
    rw [n8]
    obtain ⟨G2, T2, e3, e4, R⟩ := P_word (w := 71) 1 (by decide) (by decide) p1
    rw [e3, bd_some, ckI_p (by omega) (by omega)]
    rw [e4, bd_some] at eT
    rcases R with ⟨r1, p2, r3, r4⟩ | ⟨w, p, fg, fx⟩
    · have il := iw_lt r1 (by decide)
      have N2 := p2.nums
      have g1 := sk_ge n f (G1 150 2)
      have g1' := sk_ge n f (T1 100 6)
      have x1 := N1.1.2.2.2.2
      have s2 := CS_at G1 (sk n f (G1 150 2) + (swl 1 : Nat))
      rw [← r3] at s2
      have u2 := TS_at T1 (sk n f (G1 150 2) + (swl 1 : Nat))
      rw [← r4] at u2
      unfold Tw_inputItem_b38 at eT
      rw [if_pos N2.2.2.2.2.2.2, ckL_p (by omega) (by omega)] at eT
      obtain ⟨y, G3, T3, e5, e6, R⟩ := P_number 0 (P - 1) (by omega) p2
      rw [e5, bd_some]
      rw [e6, bd_some] at eT
      rcases R with ⟨v1, p3, v3, v4, v5, v6, v7, v8⟩ | ⟨w, p, fg, fx⟩
      · have N3 := p3.nums
        obtain ⟨u, hu⟩ : ∃ u, u = T3 100 12 := ⟨_, rfl⟩
        rw [← hu] at v3 v4 v5 v6
        have yu : y = u := by rw [v3]; exact w32_eq (by omega) (by omega)
        obtain ⟨q, hq⟩ : ∃ q, q = dgE f n (sk n f (G2 150 2)) := ⟨_, rfl⟩
        have a2 := s2.2.1
        have ta2 := u2.2.1
        have s3 : CS G1 G3 q (G1 110 4) (G1 150 3) := by
          rw [v7, ← hq]
          exact ((s2.nsk (Int.le_refl _) n f).nplace (Int.le_refl _) _).nat (Int.le_refl _) _
        have u3 : TS T1 T3 q (T1 100 13) (T1 100 19) (T1 100 20) := by
          rw [v8, ← hq]
          exact (u2.nnum (Int.le_refl _) (Int.le_refl _) _).nat (Int.le_refl _) (Int.le_refl _) _
        have q3a := s3.2.1
        have q3b := u3.2.1
        have gq := sk_ge n f (G2 150 2)
        unfold Tw_inputItem_b57 at eT
        rw [if_pos N3.2.2.2.2.2.2, ← hu, show w32 u = u from w32_eq (by omega) (by omega)] at eT
        obtain ⟨G4, T4, e7, e8, R⟩ := P_sign (c := 58) (by decide) p3
        rw [e7, bd_some]
        rw [e8, bd_some] at eT
        rcases R with ⟨r1', p4, r3', r4'⟩ | ⟨w, p, fg, fx⟩
        · have lt4 := lkF_lt (sg_1 r1').1 (by decide)
          have N4 := p4.nums
          have g3 := sk_ge n f (G3 150 2)
          have g3' := sk_ge n f (T3 100 6)
          have x3 := N3.1.2.2.2.2
          have s4 := s3.nat (Int.le_refl _) (sk n f (G3 150 2) + 1)
          rw [← r3'] at s4
          have u4 := u3.nat (Int.le_refl _) (Int.le_refl _) (sk n f (G3 150 2) + 1)
          rw [← r4'] at u4
          have a4 := s4.2.1
          have ta4 := u4.2.1
          unfold Tw_inputItem_b77 at eT
          rw [if_pos N4.2.2.2.2.2.2] at eT
          obtain ⟨G5, T5, e9, e10, R⟩ := P_type p4
          rw [e9, bd_some]
          rw [e10, bd_some] at eT
          rcases R with ⟨b5, s, m, p5, sv0, sv1, mv0, mv1, w1, w2, w3, w4, s5, u5, l1, l2, l3⟩ | ⟨w, p, fg, fx⟩
          · have N5 := p5.nums
            have s6 := s4.tr s5 (Int.le_refl _)
            have u6 := u4.tr u5 (Int.le_refl _) (Int.le_refl _)
            rw [s4.2.2.1, s4.2.2.2.1] at s6
            rw [u4.2.2.1, u4.2.2.2.1, u4.2.2.2.2.1] at u6
            have vr5 : T5 100 30 = T 100 30 := by rw [u6.1 _ _ (by simp [fS])]; exact vr1
            have vi5 : T5 100 29 = T 100 29 := by rw [u6.1 _ _ (by simp [fS])]; exact vi1
            have gr5 : G5 150 5 = G 150 5 := by rw [s6.1 _ _ (by simp [fS])]; exact gr1
            have gi5 : G5 150 4 = G 150 4 := by rw [s6.1 _ _ (by simp [fS])]; exact gi1
            clear s2 u2 s3 u3 s4 u4 s5 u5
            obtain ⟨w0, hw0⟩ : ∃ w0, w0 = (if 1 < m then m else 1) := ⟨_, rfl⟩
            have w0b : 1 ≤ w0 ∧ w0 ≤ 64 := by rw [hw0]; split <;> omega
            have w0m : max 1 m = w0 := by rw [hw0]; split <;> omega
            have w0t : (if m = 0 then 1 else m) = w0 := by rw [hw0]; split <;> split <;> omega
            rw [Ft_is_0 N5.2.2.2.2.2.1, bd_some, if_pos rfl, w2, ← hw0, gi5, ckI_p (by omega) (by omega), tk_e, up_s]
            unfold Tw_inputItem_b88 Tw_inputItem_b111 at eT
            rw [if_neg (by omega), w4, w0t, vi5, ckI_p (by omega) (by omega)] at eT
            have p6 := p5.vg (k := 4) (v := G 150 4 + w0) (Or.inl rfl) (by omega) (by omega)
            have g6 : up G5 150 4 (G 150 4 + w0) 150 4 = G 150 4 + w0 := up_s _ _ _ _
            have k6 : ∀ o k, ¬ (o = 150 ∧ k = 4) → up G5 150 4 (G 150 4 + w0) o k = G5 o k := fun o k h => by rw [up_ap, if_neg h]
            generalize up G5 150 4 (G 150 4 + w0) = G6 at p6 g6 k6 ⊢
            have N6 := p6.nums
            by_cases big : 256 < T 100 29 + w0
            · rw [if_pos big, Tw_fail_e N5.2.2.2.2.2.2, bd_some] at eT
              rw [if_pos (by omega), Ft_set_e N6.2.2.2.2.2.1, bd_some]
              have fg := FG_cs (w := 2) (p := b') p6 (CS.rf G6) (by omega) (by omega) (by omega) (by omega) (by omega) (by omega) (by decide)
              have sk12 : skC n f (fC 2 b' G6) 150 12 = m := by rw [skC_k _ _ _ _ (by decide)]; unfold fC; rw [up_o _ (by decide), up_o _ (by decide), k6 _ _ (by omega)]; exact w2
              have sk11 : skC n f (fC 2 b' G6) 150 11 = s := by rw [skC_k _ _ _ _ (by decide)]; unfold fC; rw [up_o _ (by decide), up_o _ (by decide), k6 _ _ (by omega)]; exact w1
              unfold Rd_input_b96
              rw [FG_sign fg (by decide) (by decide), bd_some, sk12, sk11, yu, ckI_p (by omega) (by omega), ckI_p (by omega) (by omega), ckI_p (by omega) (by omega), ckI_p (by omega) (by omega), FG_add_e (FG_sk fg) (by decide) z _ _ (by decide) (by decide), bd_some]
              exact ⟨_, rfl, Or.inl ⟨2, b', _, (FG_add (FG_sk fg) _ _ _ _).mono (by decide), eT, FX_fT _ (by decide)⟩⟩
            · rw [if_neg big] at eT
              rw [if_neg (by omega)]
              obtain ⟨S1, S2, S3, S4, S5⟩ := s6
              obtain ⟨U1, U2, U3, U4, U5, U6, U7⟩ := u6
              rw [Tw_put_e (by omega) (by omega), bd_some] at eT
              have t6 := TS_ad T5 22 z 0 b'
              have tv6 := adT_v T5 22 z 0 b'
              have ts6 : adT T5 22 z 0 b' 100 32 = s := by rw [adT_o (by omega) (by omega)]; exact w3
              have tz6 : adT T5 22 z 0 b' 100 31 = m := by rw [adT_o (by omega) (by omega)]; exact w4
              generalize adT T5 22 z 0 b' = T6 at t6 tv6 ts6 tz6 eT
              have m6 := t6.2.2.1
              rw [ts6, Tw_put_e (by omega) (by omega), bd_some] at eT
              have t7 := t6.nad (by omega) (Int.le_refl _) 23 z s b'
              have tv7 := adT_v T6 23 z s b'
              have tz7 : adT T6 23 z s b' 100 31 = m := by rw [adT_o (by omega) (by omega)]; exact tz6
              have kt7 : adT T6 23 z s b' 115 (T5 100 13) = 22 ∧ adT T6 23 z s b' 116 (T5 100 13) = z ∧ adT T6 23 z s b' 118 (T5 100 13) = b' := ⟨by rw [adT_o (by omega) (by omega)]; exact tv6.1, by rw [adT_o (by omega) (by omega)]; exact tv6.2.1, by rw [adT_o (by omega) (by omega)]; exact tv6.2.2.2⟩
              rw [m6] at tv7 eT
              generalize adT T6 23 z s b' = T7 at t7 tv7 tz7 kt7 eT
              rw [tz7, ckL_p (by omega) (by omega), ckL_p (by omega) (by omega), ckB_p (by omega) (by omega), tk_e] at eT
              have t8 := t7.wr (o := 119) (k := T5 100 13 + 1) (256 * u + m) (by decide) (by omega)
              have tv8 : up T7 119 (T5 100 13 + 1) (256 * u + m) 119 (T5 100 13 + 1) = 256 * u + m := up_s _ _ _ _
              have kt8 : ∀ o k, o ≠ 119 → up T7 119 (T5 100 13 + 1) (256 * u + m) o k = T7 o k := fun o k h => up_o _ h
              generalize up T7 119 (T5 100 13 + 1) (256 * u + m) = T8 at t8 tv8 kt8 eT
              have vi8 : T8 100 29 = T 100 29 := by rw [t8.1 _ _ (by simp [fS])]; exact vi5
              have vr8 : T8 100 30 = T 100 30 := by rw [t8.1 _ _ (by simp [fS])]; exact vr5
              have y6 : G6 110 4 = G5 110 4 := k6 _ _ (by omega)
              have y7 : G6 150 2 = G5 150 2 := k6 _ _ (by omega)
              have y8 : G6 150 3 = G5 150 3 := k6 _ _ (by omega)
              have p8 : PR n f G6 T8 := p6.mv (CS.rf G6) t8 (by omega) (by omega) (by omega) (by omega) N6.1.2.2.2.2 (by omega) (by omega) (by omega) (by omega) (by omega) (by omega) (by omega) (by omega) (by omega)
              have p9 := p8.vt (k := 29) (T 100 29 + w0) (Or.inl rfl)
              rw [show T8 100 29 = T 100 29 from vi8, ckI_p (by omega) (by omega), tk_e] at eT
              have kt9 : ∀ o k, ¬ (o = 100 ∧ k = 29) → up T8 100 29 (T 100 29 + w0) o k = T8 o k := fun o k h => by rw [up_ap, if_neg h]
              have vi9 : up T8 100 29 (T 100 29 + w0) 100 29 = T 100 29 + w0 := up_s _ _ _ _
              generalize up T8 100 29 (T 100 29 + w0) = T9 at p9 kt9 vi9 eT
              obtain ⟨D1, D2, D3, D4, D5, D6, D7⟩ := t8
              obtain ⟨G10, T10, f1, f2, R⟩ := P_sign (c := 59) (by decide) p9
              rw [f2, bd_some] at eT
              unfold Rd_input_b96
              rw [f1, bd_some]
              rcases R with ⟨o1, p10, o3, o4⟩ | ⟨w, p, fg, fx⟩
              · have lt10 := lkF_lt (sg_1 o1).1 (by decide)
                have h6 := sk_ge n f (G6 150 2)
                have h6' := sk_ge n f (T9 100 6)
                obtain ⟨c, hc⟩ : ∃ c, c = sk n f (G6 150 2) + 1 := ⟨_, rfl⟩
                rw [← hc] at o3 o4
                have i11 : G10 150 11 = s := by rw [o3, up_k _ (by decide), k6 _ _ (by omega)]; exact w1
                have i12 : G10 150 12 = m := by rw [o3, up_k _ (by decide), k6 _ _ (by omega)]; exact w2
                have sz : G10 110 4 = G5 110 4 := by rw [o3, up_o _ (by decide)]; exact y6
                rw [i12, i11, yu, ckI_p (by omega) (by omega), ckI_p (by omega) (by omega), ckI_p (by omega) (by omega), ckI_p (by omega) (by omega), Cd_add_e (by omega) (by omega) (by decide) (by decide), bd_some]
                have s10 := CS_at G6 c
                rw [← o3] at s10
                have s11 := s10.nad (Int.le_refl _) 0 z b' (256 * u + 2 * m + s)
                have cv := adC_v G10 0 z b' (256 * u + 2 * m + s)
                rw [sz] at cv
                have N10 := p10.nums
                have a10 := s10.2.1
                have d10 := s10.2.2.2.1
                have kt : ∀ o k, ¬ (o = 100 ∧ (k = 29 ∨ k = 6)) → T10 o k = T8 o k := fun o k h => by rw [o4, up_ap, if_neg (by omega)]; exact kt9 o k (by omega)
                have j1 := kt 100 13 (by omega)
                have j2 := kt 100 20 (by omega)
                have j3 := kt 100 26 (by omega)
                have j4 := kt 100 19 (by omega)
                have j5 := kt 100 30 (by omega)
                have j6 : T10 100 6 = c := by rw [o4]; exact up_s _ _ _ _
                have j7 : T10 100 29 = T 100 29 + w0 := by rw [o4, up_k _ (by decide)]; exact vi9
                have pr : PR n f (adC G10 0 z b' (256 * u + 2 * m + s)) T10 := p10.mv (CS_ad G10 0 z b' (256 * u + 2 * m + s)) (TS.rf T10) (by omega) (by omega) (by omega) (by omega) N10.1.2.2.2.2 (by omega) (by omega) (by omega) (by omega) (by omega) (by omega) (by omega) (by omega) (by omega)
                generalize adC G10 0 z b' (256 * u + 2 * m + s) = G' at s11 cv pr ⊢
                have gvx : G' 150 5 = G 150 5 := by rw [s11.1 _ _ (by simp [fS]), k6 _ _ (by omega)]; exact gr5
                have gix : G' 150 4 = G 150 4 + w0 := by rw [s11.1 _ _ (by simp [fS])]; exact g6
                obtain ⟨E1, E2, E3, E4, E5⟩ := s11
                have aG : ∀ o k, 111 ≤ o → o ≤ 114 → 0 ≤ k → k < G 110 4 → G' o k = G o k := fun o k h1 h2 h3 h4 => by rw [E5 o k h1 h2 h3 (by omega), k6 o k (by omega), S5 o k h1 h2 h3 (by omega), c3' o k h1 h2, A5 o k h1 h2 h3 h4]
                have aT : ∀ o k, (115 ≤ o ∧ o ≤ 119 ∨ o = 134) → 0 ≤ k → k < T 100 13 → T10 o k = T o k := fun o k h1 h2 h3 => by rw [kt o k (by omega), D7.1 o k h1 h2 (by omega), U7.1 o k h1 h2 (by omega), q4 o k (by omega), B7.1 o k h1 h2 h3]
                refine ⟨G', rfl, Or.inr ⟨T10, eT, ⟨pr, ⟨by omega, by omega⟩, ⟨⟨by omega, by omega, by omega⟩, by omega, by omega, by omega⟩, ⟨by omega, by omega, by omega⟩, c, by omega, ?_⟩, by omega⟩⟩
                have w00 := (hW.cg (G1 := G') (T1 := T10)).2.2 (fun o k h1 h2 h3 h4 => aG o k h1 h2 (by omega) h4) (fun o k h1 h2 h3 => aT o k h1 (by omega) h3)
                have zb : T5 100 13 = T 100 13 := by omega
                have zc : G5 110 4 = G 110 4 := by omega
                rw [zc] at cv
                rw [zb] at tv7 tv8 kt7
                rw [E3, j1, D3, j5, j7, ← w0m, zb, y6, zc, show T 100 13 + 1 + 1 = T 100 13 + 2 by omega, vr8]
                refine wf_iti P W _ _ _ _ _ _ _ _ _ _ u m s w00 (by omega) cv.1 ?_ ?_ ?_ cv.2.2.2 ?_ ?_ ?_ ?_ v4 (by omega) mv0 mv1 sv0 sv1 (by omega) (by omega)
                · rw [kt _ _ (by omega), kt8 _ _ (by decide)]; exact kt7.1
                · rw [kt _ _ (by omega), kt8 _ _ (by decide), kt7.2.1, cv.2.1]
                · rw [kt _ _ (by omega), kt8 _ _ (by decide), kt7.2.2, cv.2.2.1]
                · rw [kt _ _ (by omega), kt8 _ _ (by decide)]; exact tv7.1
                · rw [kt _ _ (by omega), kt8 _ _ (by decide), tv7.2.1, cv.2.1]
                · rw [kt _ _ (by omega), kt8 _ _ (by decide)]; exact tv7.2.2.1
                · rw [kt _ _ (by omega)]; exact tv8
              · have i11 : G10 150 11 = s ∧ G10 150 12 = m := by
                  have fr := fr_Rd_sign 59 G6 (0, G10) f1
                  exact ⟨by rw [show G10 150 11 = G6 150 11 from fr _ _ (by simp [fS]), k6 _ _ (by omega)]; exact w1, by rw [show G10 150 12 = G6 150 12 from fr _ _ (by simp [fS]), k6 _ _ (by omega)]; exact w2⟩
                rw [i11.1, i11.2, yu, ckI_p (by omega) (by omega), ckI_p (by omega) (by omega), ckI_p (by omega) (by omega), ckI_p (by omega) (by omega), FG_add_e fg (by decide) z _ _ (by decide) (by decide), bd_some]
                exact ⟨_, rfl, Or.inl ⟨w, p, T10, (FG_add fg _ _ _ _).mono (by decide), eT, fx⟩⟩
          · rw [ti_88 fx.ps] at eT
            rw [Ft_is_1 (FG_F fg), bd_some, if_neg (by decide)]
            exact ⟨G5, rfl, Or.inl ⟨w, p, T5, fg.mono (by decide), eT, fx⟩⟩
        · rw [ti_77 fx.ps] at eT
          obtain ⟨G', e9, fg'⟩ := in_f1 (P := P) (W := W) (z := z) (b := b') (x := y) fg
          exact ⟨G', e9, Or.inl ⟨w, p, T4, fg'.mono (by decide), eT, fx⟩⟩
      · rw [ti_57 fx.ps] at eT
        rw [FG_sign fg (by decide) (by decide), bd_some]
        obtain ⟨G', e9, fg'⟩ := in_f1 (P := P) (W := W) (z := z) (b := b') (x := y) (FG_sk fg)
        exact ⟨G', e9, Or.inl ⟨w, p, T3, fg'.mono (by decide), eT, fx⟩⟩
    · rw [ti_38 fx.ps] at eT
      rw [FG_num fg, bd_some, FG_sign (FG_sk fg) (by decide) (by decide), bd_some]
      obtain ⟨G', e9, fg'⟩ := in_f1 (P := P) (W := W) (z := z) (b := b') (x := 0) (FG_sk (FG_sk fg))
      exact ⟨G', e9, Or.inl ⟨w, p, T2, fg'.mono (by decide), eT, fx⟩⟩
  · rw [e2, bd_some, if_neg fx.ne, ti_38 fx.ps] at eT
    rw [FG_wd fg, bd_some, ckI_p (by omega) (by omega), FG_num (FG_sk fg), bd_some, FG_sign (FG_sk (FG_sk fg)) (by decide) (by decide), bd_some]
    obtain ⟨G', e9, fg'⟩ := in_f1 (P := P) (W := W) (z := z) (b := G1 150 10) (x := 0) (FG_sk (FG_sk (FG_sk fg)))
    exact ⟨G', e9, Or.inl ⟨w, p, T1, fg'.mono (by decide), eT, fx⟩⟩
