/-! PLAIN: the head of a loop -/
theorem FG_word {n : Int} {f : Int → Int} {k w p : Int} {G : St} (h : FG n f k w p G) (hk : k ≤ 7000) : Rd_word 75 G = some (0, skC n f G) := by
  have hF := FG_F h
  obtain ⟨a, b, c', d, e, g, hh, i1, i2, i3, i4, i, j, l, m⟩ := h
  rw [Rd_word_e 5 (by decide) (by decide) a b (by omega), if_neg hF]
theorem lf_3 {n : Int} {f : Int → Int} {k w p z a : Int} {G : St} (h : FG n f k w p G) (hk : k ≤ 6000) {α : Type} (K : Int → St → Option α) : ∃ z20 G21, (bd (Cd_add 17 0 a 0 G) fun _ G19 => bd (Cd_add 18 z a 0 G19) fun z20 G21 => K z20 G21) = K z20 G21 ∧ 0 ≤ z20 ∧ z20 < 12000 ∧ FG n f (k + 2) w p G21 := by
  have h1 := FG_add h 17 0 a 0
  have s := h1.2.2.2
  have h2 := FG_add h1 18 z a 0
  rw [FG_add_e h (by omega) 0 a 0 (by decide) (by decide), bd_some, FG_add_e h1 (by omega) z a 0 (by decide) (by decide), bd_some]
  exact ⟨_, _, rfl, s.1, by omega, h2.mono (by omega)⟩
theorem lf_2 {n : Int} {f : Int → Int} {k w p z a : Int} {G : St} (h : FG n f k w p G) (hk : k ≤ 5000) {α : Type} (K : Int → St → Option α) : ∃ z20 G21, (bd (Cd_add 17 0 a 0 G) fun _ G13 => bd (Rd_word 75 G13) fun _ G15 => bd (Rd_exprO G15) fun _ G17 => bd (Cd_add 17 0 a 0 G17) fun _ G19 => bd (Cd_add 18 z a 0 G19) fun z20 G21 => K z20 G21) = K z20 G21 ∧ 0 ≤ z20 ∧ z20 < 12000 ∧ FG n f (k + 3) w p G21 := by
  have h1 := FG_add h 17 0 a 0
  rw [FG_add_e h (by omega) 0 a 0 (by decide) (by decide), bd_some, FG_word h1 (by omega), bd_some, fx_expr (FG_sk h1), bd_some]
  obtain ⟨z20, G21, e, a0, a1, fg⟩ := lf_3 (k := k + 1) (z := z) (a := a) (FG_sk h1) (by omega) K
  exact ⟨z20, G21, e, a0, a1, fg.mono (by omega)⟩
theorem tf_2 {P W a z : Int} {T : St} (h : T 100 7 ≠ 0) : Tw_forStatement_b71 P W a z T = some (0, T) := by
  unfold Tw_forStatement_b71 Tw_forStatement_b95 Tw_forStatement_b106
  rw [if_neg h, if_neg h, if_neg h]
/-- both ends of a loop were read -/
def HF (n : Int) (f : Int → Int) (P W a z pl z6 k8 : Int) (G T G7 T7 : St) : Prop :=
  PR n f G7 T7 ∧ SB G7 T7 ∧ VQ G7 T7 ∧ (G7 150 3 = G 150 3 ∧ T7 100 20 = T 100 20 ∧ T7 100 26 = T 100 26) ∧ tb T T7 ∧ (∀ o k, (o = 128 ∨ o = 129) → T7 o k = T o k) ∧ T7 100 30 = T 100 30 ∧ agC G G7 0 (G 110 4) ∧
  (G7 111 (G 110 4) = 6 ∧ G7 113 (G 110 4) = a ∧ T7 115 (T 100 13) = 20 ∧ T7 118 (T 100 13) = a) ∧ (G7 111 (G 110 4 + 1) = 16 ∧ G7 112 (G 110 4 + 1) = z ∧ G7 113 (G 110 4 + 1) = pl ∧ T7 115 (T 100 13 + 1) = 38 ∧ T7 116 (T 100 13 + 1) = z ∧ T7 118 (T 100 13 + 1) = pl) ∧
  WF P W G7 T7 0 (G 110 4 + 2) z6 (T 100 13 + 2) k8 0 0 31 ∧ (G7 111 z6 = 17 ∧ T7 115 k8 = 41) ∧ WF P W G7 T7 0 (z6 + 1) (G7 110 4 - 2) (k8 + 1) (T7 100 13 - 2) 0 0 31 ∧ (G7 111 (G7 110 4 - 2) = 17 ∧ T7 115 (T7 100 13 - 2) = 41) ∧ (G7 111 (G7 110 4 - 1) = 18 ∧ G7 112 (G7 110 4 - 1) = z ∧ G7 113 (G7 110 4 - 1) = a) ∧ (T7 115 (T7 100 13 - 1) = 39 ∧ T7 116 (T7 100 13 - 1) = z ∧ T7 118 (T7 100 13 - 1) = a) ∧
  (G 150 2 < G7 150 2 ∧ T 100 6 < T7 100 6 ∧ G7 110 4 + 2 * G 150 2 + 4 ≤ G 110 4 + 2 * G7 150 2 ∧ T7 100 13 + 4 * T 100 6 + 8 ≤ T 100 13 + 4 * T7 100 6)
/-- from the sign = on -/
theorem fo_1 {n : Int} {f : Int → Int} {P W a z : Int} {G T : St} (hP : PR n f G T) (sl1 : G 110 4 ≤ 2 * G 150 2 + 1) (sl2 : T 100 13 + 2 * T 100 20 + 4 * T 100 26 ≤ 4 * T 100 6 + 2) {α : Type} (K : Int → St → Option α) :
    ∃ z20 G21, (bd (Rd_sign 61 G) fun _ G9 => bd (Rd_exprO G9) fun _ G11 => bd (Cd_add 17 0 a 0 G11) fun _ G13 => bd (Rd_word 75 G13) fun _ G15 => bd (Rd_exprO G15) fun _ G17 => bd (Cd_add 17 0 a 0 G17) fun _ G19 => bd (Cd_add 18 z a 0 G19) fun z20 G21 => K z20 G21) = K z20 G21 ∧ 0 ≤ z20 ∧ z20 < 12000 ∧
      ((∃ w p T', FG n f 2410 w p G21 ∧ (bd (Tw_sign 61 T) fun _ G11 => if (G11 100 7) = 0 then (bd (Tw_expression P W G11) fun _ G25 => Tw_forStatement_b71 P W a z G25) else (Tw_forStatement_b71 P W a z G11)) = some (0, T') ∧ FX w p T') ∨
       ∃ T7 z6 k8, (bd (Tw_sign 61 T) fun _ G11 => if (G11 100 7) = 0 then (bd (Tw_expression P W G11) fun _ G25 => Tw_forStatement_b71 P W a z G25) else (Tw_forStatement_b71 P W a z G11)) = (bd (Tw_openBlock 3 (T7 100 13 - 1) T7) fun _ G17 => some (0, G17)) ∧ z20 = G21 110 4 - 1 ∧ PR n f G21 T7 ∧ (G21 150 3 = G 150 3 ∧ T7 100 20 = T 100 20 ∧ T7 100 26 = T 100 26) ∧ tb T T7 ∧ (∀ o k, (o = 128 ∨ o = 129) → T7 o k = T o k) ∧ (T7 100 30 = T 100 30 ∧ T7 100 29 = T 100 29 ∧ G21 150 5 = G 150 5 ∧ G21 150 4 = G 150 4) ∧ agC G G21 0 (G 110 4) ∧
        WF P W G21 T7 0 (G 110 4) z6 (T 100 13) k8 0 0 31 ∧ (G21 111 z6 = 17 ∧ T7 115 k8 = 41) ∧ WF P W G21 T7 0 (z6 + 1) (G21 110 4 - 2) (k8 + 1) (T7 100 13 - 2) 0 0 31 ∧ (G21 111 (G21 110 4 - 2) = 17 ∧ T7 115 (T7 100 13 - 2) = 41) ∧ (G21 111 (G21 110 4 - 1) = 18 ∧ G21 112 (G21 110 4 - 1) = z ∧ G21 113 (G21 110 4 - 1) = a) ∧ (T7 115 (T7 100 13 - 1) = 39 ∧ T7 116 (T7 100 13 - 1) = z ∧ T7 118 (T7 100 13 - 1) = a) ∧
        (G 150 2 < G21 150 2 ∧ T 100 6 < T7 100 6 ∧ G21 110 4 + 2 * G 150 2 + 3 ≤ G 110 4 + 2 * G21 150 2 ∧ T7 100 13 + 4 * T 100 6 + 6 ≤ T 100 13 + 4 * T7 100 6)) := by
  have N := hP.nums
  have g := sk_ge n f (G 150 2)
  have g' := sk_ge n f (T 100 6)
  obtain ⟨Ga, Ta, e1, e2, R⟩ := P_sign (c := 61) (by decide) hP
  rw [e1, bd_some, e2, bd_some]
  rcases R with ⟨r1, pa, r3, r4⟩ | ⟨w, p, fg, fx⟩
  · have lt := lkF_lt (sg_1 r1).1 (by decide)
    obtain ⟨b, hb⟩ : ∃ b, b = sk n f (G 150 2) + 1 := ⟨_, rfl⟩
    rw [← hb] at r3 r4
    have sGa := CS_at G b
    have sTa := TS_at T b
    rw [← r3] at sGa
    rw [← r4] at sTa
    have kTa : ∀ o k, o ≠ 100 → Ta o k = T o k := fun o k h => by rw [r4]; exact up_o _ h
    have Na := pa.nums
    have vra : Ta 100 30 = T 100 30 := sTa.1 _ _ (by simp [fS])
    have via : Ta 100 29 = T 100 29 := sTa.1 _ _ (by simp [fS])
    have gra : Ga 150 5 = G 150 5 := sGa.1 _ _ (by simp [fS])
    have gia : Ga 150 4 = G 150 4 := sGa.1 _ _ (by simp [fS])
    obtain ⟨a1, a2, a3, a4, a5⟩ := sGa
    obtain ⟨b1, b2, b3, b4, b5, b6, b7⟩ := sTa
    rw [if_pos Na.2.2.2.2.2.2]
    obtain ⟨G5, e5, R⟩ := ex_ok (P := P) (W := W) pa
    rw [e5, bd_some]
    rcases R with ⟨w, p, T', fg, lx, fx⟩ | ⟨T5, lx, L3⟩
    · obtain ⟨z20, G21, e6, q0, q1, fg'⟩ := lf_2 (z := z) (a := a) fg (by decide) K
      exact ⟨z20, G21, e6, q0, q1, Or.inl ⟨w, p, T', fg'.mono (by decide), by rw [lx, bd_some, tf_2 fx.ne], fx⟩⟩
    · have fr := fr_Tw_expression P W Ta (0, T5) lx
      have vr5 : T5 100 30 = T 100 30 := by rw [show T5 100 30 = Ta 100 30 from fr _ _ (by simp [fS])]; exact vra
      have vi5 : T5 100 29 = T 100 29 := by rw [show T5 100 29 = Ta 100 29 from fr _ _ (by simp [fS])]; exact via
      have bk5 : ∀ o k, (o = 128 ∨ o = 129) → T5 o k = T o k := fun o k h => by rw [show T5 o k = Ta o k from fr o k (by rcases h with h | h <;> subst h <;> simp [fS])]; exact kTa o k (by omega)
      have fr8 := fr_Rd_exprO Ga (0, G5) e5
      have gr5 : G5 150 5 = G 150 5 := by rw [show G5 150 5 = Ga 150 5 from fr8 _ _ (by simp [fS])]; exact gra
      have gi5 : G5 150 4 = G 150 4 := by rw [show G5 150 4 = Ga 150 4 from fr8 _ _ (by simp [fS])]; exact gia
      clear fr fr8
      obtain ⟨q1, q2, q3, q4, q5, q6, q7, q8, q9, q10, q11, q12⟩ := L3
      have N5 := q1.nums
      have lw5 := wf_le q7
      obtain ⟨X, eT⟩ : ∃ X, X = (bd (Tw_expression P W Ta) fun _ G25 => Tw_forStatement_b71 P W a z G25) := ⟨_, rfl⟩
      rw [← eT]
      unfold Tw_forStatement_b71 at eT
      rw [lx, bd_some, if_pos N5.2.2.2.2.2.2, Tw_put_e (by omega) (by omega), bd_some] at eT
      rw [Cd_add_e (by omega) (by omega) (by decide) (by decide), bd_some]
      have s6 := CS_ad G5 17 0 a 0
      have cv6 := adC_v G5 17 0 a 0
      generalize adC G5 17 0 a 0 = G6 at s6 cv6 ⊢
      have t6 := TS_ad T5 41 0 0 a
      have tv6 := adT_v T5 41 0 0 a
      have kt6 : ∀ o k, 119 < o → adT T5 41 0 0 a o k = T5 o k := fun o k h => adT_o (by omega) (by omega)
      generalize adT T5 41 0 0 a = T6 at t6 tv6 kt6 eT
      have p6 : PR n f G6 T6 := q1.mv s6 t6 (by omega) (by omega) (by omega) (by omega) N5.1.2.2.2.2 (by omega) (by omega) (by omega) (by omega) (by omega) (by omega) (by omega) (by omega) (by omega)
      have vr6 : T6 100 30 = T 100 30 := by rw [t6.1 _ _ (by simp [fS])]; exact vr5
      have vi6 : T6 100 29 = T 100 29 := by rw [t6.1 _ _ (by simp [fS])]; exact vi5
      have gr6 : G6 150 5 = G 150 5 := by rw [s6.1 _ _ (by simp [fS])]; exact gr5
      have gi6 : G6 150 4 = G 150 4 := by rw [s6.1 _ _ (by simp [fS])]; exact gi5
      obtain ⟨c1, c2, c3, c4, c5⟩ := s6
      obtain ⟨d1, d2, d3, d4, d5, d6, d7⟩ := t6
      obtain ⟨Gb, Tb, e6, e7, R⟩ := P_word (w := 75) 5 (by decide) (by decide) p6
      rw [e6, bd_some]
      rw [e7, bd_some] at eT
      unfold Tw_forStatement_b95 at eT
      have N6 := p6.nums
      have g6 := sk_ge n f (G6 150 2)
      have g6' := sk_ge n f (T6 100 6)
      rcases R with ⟨r1', pb, r3', r4'⟩ | ⟨w, p, fg, fx⟩
      · have il := iw_lt r1' (by decide)
        have sl : swl 5 = 2 := by decide
        rw [sl] at r3' r4'
        obtain ⟨b', hb'⟩ : ∃ b', b' = sk n f (G6 150 2) + (2 : Nat) := ⟨_, rfl⟩
        rw [← hb'] at r3' r4'
        have sGb := CS_at G6 b'
        have sTb := TS_at T6 b'
        rw [← r3'] at sGb
        rw [← r4'] at sTb
        have kTb : ∀ o k, o ≠ 100 → Tb o k = T6 o k := fun o k h => by rw [r4']; exact up_o _ h
        have Nb := pb.nums
        have vrb : Tb 100 30 = T 100 30 := by rw [sTb.1 _ _ (by simp [fS])]; exact vr6
        have vib : Tb 100 29 = T 100 29 := by rw [sTb.1 _ _ (by simp [fS])]; exact vi6
        have grb : Gb 150 5 = G 150 5 := by rw [sGb.1 _ _ (by simp [fS])]; exact gr6
        have gib : Gb 150 4 = G 150 4 := by rw [sGb.1 _ _ (by simp [fS])]; exact gi6
        obtain ⟨f1, f2, f3, f4, f5⟩ := sGb
        obtain ⟨h1, h2, h3, h4, h5, h6, h7⟩ := sTb
        rw [if_pos Nb.2.2.2.2.2.2] at eT
        obtain ⟨G8, e8, R⟩ := ex_ok (P := P) (W := W) pb
        rw [e8, bd_some]
        rcases R with ⟨w, p, T', fg, lx8, fx⟩ | ⟨T8, lx8, L8⟩
        · unfold Tw_forStatement_b106 at eT
          rw [lx8, bd_some, if_neg fx.ne] at eT
          obtain ⟨z20, G21, e9, q0, q1', fg'⟩ := lf_3 (z := z) (a := a) fg (by decide) K
          exact ⟨z20, G21, e9, q0, q1', Or.inl ⟨w, p, T', fg'.mono (by decide), eT, fx⟩⟩
        · have fr := fr_Tw_expression P W Tb (0, T8) lx8
          have vr8 : T8 100 30 = T 100 30 := by rw [show T8 100 30 = Tb 100 30 from fr _ _ (by simp [fS])]; exact vrb
          have vi8 : T8 100 29 = T 100 29 := by rw [show T8 100 29 = Tb 100 29 from fr _ _ (by simp [fS])]; exact vib
          have bk8 : ∀ o k, (o = 128 ∨ o = 129) → T8 o k = T o k := fun o k h => by rw [show T8 o k = Tb o k from fr o k (by rcases h with h | h <;> subst h <;> simp [fS]), kTb o k (by omega), kt6 o k (by omega), bk5 o k h]
          have fr8 := fr_Rd_exprO Gb (0, G8) e8
          have gr8 : G8 150 5 = G 150 5 := by rw [show G8 150 5 = Gb 150 5 from fr8 _ _ (by simp [fS])]; exact grb
          have gi8 : G8 150 4 = G 150 4 := by rw [show G8 150 4 = Gb 150 4 from fr8 _ _ (by simp [fS])]; exact gib
          clear fr fr8
          obtain ⟨l1, l2, l3, l4, l5, l6, l7, l8, l9, l10, l11, l12⟩ := L8
          have N8 := l1.nums
          have lw8 := wf_le l7
          unfold Tw_forStatement_b106 at eT
          rw [lx8, bd_some, if_pos N8.2.2.2.2.2.2, Tw_put_e (by omega) (by omega), bd_some] at eT
          rw [Cd_add_e (by omega) (by omega) (by decide) (by decide), bd_some]
          have s9 := CS_ad G8 17 0 a 0
          have cv9 := adC_v G8 17 0 a 0
          generalize adC G8 17 0 a 0 = G9 at s9 cv9 ⊢
          have t9 := TS_ad T8 41 0 0 a
          have tv9 := adT_v T8 41 0 0 a
          have kt9 : ∀ o k, 119 < o → adT T8 41 0 0 a o k = T8 o k := fun o k h => adT_o (by omega) (by omega)
          generalize adT T8 41 0 0 a = T9 at t9 tv9 kt9 eT
          have z9 := s9.2.2.1
          have m9 := t9.2.2.1
          rw [Cd_add_e (by omega) (by omega) (by decide) (by decide), bd_some]
          rw [Tw_put_e (by omega) (by omega), bd_some] at eT
          have s10 := s9.nad (by omega) 18 z a 0
          have cv10 := adC_v G9 18 z a 0
          have ka10 : ∀ o k, 111 ≤ o → o ≤ 114 → k < G9 110 4 → adC G9 18 z a 0 o k = G9 o k := fun o k q1 q2 q3 => adC_o (by omega) (by omega)
          generalize adC G9 18 z a 0 = G21 at s10 cv10 ka10 ⊢
          have t10 := t9.nad (by omega) (Int.le_refl _) 39 z 0 a
          have tv10 := adT_v T9 39 z 0 a
          have kt10 : ∀ o k, 119 < o → adT T9 39 z 0 a o k = T9 o k := fun o k h => adT_o (by omega) (by omega)
          have kb10 : ∀ o k, 115 ≤ o → o ≤ 119 → k < T9 100 13 → adT T9 39 z 0 a o k = T9 o k := fun o k q1 q2 q3 => adT_o (by omega) (by omega)
          rw [m9] at eT
          generalize adT T9 39 z 0 a = T7 at t10 tv10 kt10 kb10 eT
          have p10 : PR n f G21 T7 := l1.mv s10 t10 (by omega) (by omega) (by omega) (by omega) N8.1.2.2.2.2 (by omega) (by omega) (by omega) (by omega) (by omega) (by omega) (by omega) (by omega) (by omega)
          have vr10 : T7 100 30 = T 100 30 := by rw [t10.1 _ _ (by simp [fS])]; exact vr8
          have vi10 : T7 100 29 = T 100 29 := by rw [t10.1 _ _ (by simp [fS])]; exact vi8
          have gr10 : G21 150 5 = G 150 5 := by rw [s10.1 _ _ (by simp [fS])]; exact gr8
          have gi10 : G21 150 4 = G 150 4 := by rw [s10.1 _ _ (by simp [fS])]; exact gi8
          obtain ⟨m1, m2, m3, m4, m5⟩ := s10
          obtain ⟨o1, o2, o3, o4, o5, o6, o7⟩ := t10
          have zz1 : G21 110 4 - 1 = G9 110 4 := by omega
          have zz2 : G21 110 4 - 2 = G8 110 4 := by omega
          have mm1 : T7 100 13 - 1 = T8 100 13 + 1 := by omega
          have mm2 : T7 100 13 - 2 = T8 100 13 := by omega
          have aC : agC G5 G21 0 (G5 110 4) := (((c5.tr f5 (by omega) (by omega)).tr l6 (by omega) (by omega)).tr m5 (by omega) (by omega))
          have aT : tb T5 T7 := (((d7.tr h7 (by omega) (by omega)).tr l5 (by omega) (by omega)).tr o7 (by omega) (by omega))
          have aC6 : agC G6 G21 0 (G6 110 4) := ((f5.tr l6 (by omega) (by omega)).tr m5 (by omega) (by omega))
          have aT6 : tb T6 T7 := ((h7.tr l5 (by omega) (by omega)).tr o7 (by omega) (by omega))
          refine ⟨_, G21, rfl, by omega, by omega, Or.inr ⟨T7, G5 110 4, T5 100 13, by rw [mm1]; exact eT, by omega, p10, ⟨by omega, by omega, by omega⟩, ((b7.tr q5 (by omega) (by omega)).tr aT (by omega) (by omega)), ?_, ⟨vr10, vi10, gr10, gi10⟩, ((a5.tr q6 (by omega) (by omega)).tr aC (by omega) (by omega)), ?_, ⟨?_, ?_⟩, ?_, ⟨?_, ?_⟩, ⟨?_, ?_, ?_⟩, ⟨?_, ?_, ?_⟩, by omega, by omega, by omega, by omega⟩⟩
          · intro o k h
            rw [kt10 o k (by omega), kt9 o k (by omega), bk8 o k h]
          · have w := (q7.cg (G1 := G21) (T1 := T7)).2.2 (aC.mono (by omega) (by omega)) (aT.1.mono (by omega) (by omega))
            rw [a3, b3] at w
            exact w.mono (by omega)
          · rw [aC6 _ _ (by decide) (by decide) (by omega) (by omega)]; exact cv6.1
          · rw [aT6.1 _ _ (by decide) (by omega) (by omega)]; exact tv6.1
          · have w := (l7.cg (G1 := G21) (T1 := T7)).2.2 (m5.mono (by omega) (by omega)) (o7.1.mono (by omega) (by omega))
            rw [f3, c3, h3, d3] at w
            rw [zz2, mm2]
            exact w.mono (by omega)
          · rw [zz2, ka10 _ _ (by decide) (by decide) (by omega)]; exact cv9.1
          · rw [mm2, kb10 _ _ (by decide) (by decide) (by omega)]; exact tv9.1
          · rw [zz1]; exact cv10.1
          · rw [zz1]; exact cv10.2.1
          · rw [zz1]; exact cv10.2.2.1
          · rw [mm1, ← m9]; exact tv10.1
          · rw [mm1, ← m9]; exact tv10.2.1
          · rw [mm1, ← m9]; exact tv10.2.2.2
      · unfold Tw_forStatement_b106 at eT
        rw [if_neg fx.ne, if_neg fx.ne] at eT
        rw [fx_expr fg, bd_some]
        obtain ⟨z20, G21, e9, q0, q1', fg'⟩ := lf_3 (z := z) (a := a) fg (by decide) K
        exact ⟨z20, G21, e9, q0, q1', Or.inl ⟨w, p, Tb, fg'.mono (by decide), eT, fx⟩⟩
  · rw [if_neg fx.ne, tf_2 fx.ne, fx_expr fg, bd_some]
    obtain ⟨z20, G21, e6, q0, q1, fg'⟩ := lf_2 (z := z) (a := a) fg (by decide) K
    exact ⟨z20, G21, e6, q0, q1, Or.inl ⟨w, p, Ta, fg'.mono (by decide), rfl, fx⟩⟩
