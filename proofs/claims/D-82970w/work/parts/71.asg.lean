/-! PLAIN: assignments -/
/-- the counts at a statement's begin -/
def SB (G T : St) : Prop := G 110 4 ≤ 2 * G 150 2 ∧ T 100 13 + 2 * T 100 20 + 4 * T 100 26 ≤ 4 * T 100 6
/-- a statement was read in both -/
def OKS (n : Int) (f : Int → Int) (P W : Int) (G T G' T1 : St) (x y : Int) : Prop :=
  PR n f G' T1 ∧ T1 100 20 = T 100 20 ∧ T1 100 26 = T 100 26 ∧ G' 150 3 = G 150 3 ∧ tb T T1 ∧ agC G G' 0 (G 110 4) ∧ WF P W G' T1 2 (G 110 4) (G' 110 4) (T 100 13) (T1 100 13) x y (G 150 3) ∧ T 100 13 < T1 100 13 ∧ G 150 2 < G' 150 2 ∧ (G' 110 4 + 2 * G 150 2 ≤ G 110 4 + 2 * G' 150 2 ∧ T1 100 13 + 4 * T 100 6 ≤ T 100 13 + 4 * T1 100 6)
theorem fx_expr {n : Int} {f : Int → Int} {k w p : Int} {G : St} (h : FG n f k w p G) : Rd_exprO G = some (0, G) := f_expr h 599
theorem FX.ne {w p : Int} {T : St} (h : FX w p T) : T 100 7 ≠ 0 := by have h1 := h.1; have h2 := h.2.2; omega
theorem FX.d {w p : Int} {T : St} (h : FX w p T) (v : Int) : FX w p (up T 100 19 v) := ⟨by rw [up_k _ (by decide)]; exact h.1, by rw [up_k _ (by decide)]; exact h.2.1, h.2.2⟩
theorem ag_t2 {n : Int} {f : Int → Int} {k w p z a x : Int} {G : St} (h : FG n f k w p G) (hk : k ≤ 6000) : ∃ G', (bd (Rd_sign 59 G) fun _ G14 => Rd_assignment_b176 (if x = 0 then 0 else 1) a z 12 G14) = some (0, G') ∧ FG n f (k + 1) w p G' := by
  rw [FG_sign h (by omega) (by decide), bd_some]
  unfold Rd_assignment_b176
  rw [FG_add_e (FG_sk h) (by omega) z a _ (by decide) (by decide), bd_some]
  exact ⟨_, rfl, FG_add (FG_sk h) _ _ _ _⟩
theorem ag_t1 {n : Int} {f : Int → Int} {k w p z a x : Int} {G : St} (h : FG n f k w p G) (hk : k ≤ 6000) : ∃ G', Rd_assignment_b141 z a x G = some (0, G') ∧ FG n f (k + 1) w p G' := by
  unfold Rd_assignment_b141
  rw [FG_sign h (by omega) (by decide), bd_some, fx_expr (FG_sk h), bd_some]
  exact ag_t2 (FG_sk h) hk
theorem ta_f {P W a z x : Int} {T : St} (h : T 100 7 ≠ 0) : Tw_assignment_b115 P W a z x T = some (0, T) := by
  unfold Tw_assignment_b115 Tw_assignment_b128 Tw_assignment_b139
  rw [if_neg h, if_neg h, if_neg h]
/-- `= e ;` -/
theorem ag_ok {n : Int} {f : Int → Int} {P W z a x : Int} {G T : St} (hP : PR n f G T) : ∃ G', Rd_assignment_b141 z a x G = some (0, G') ∧ ((∃ w p T', FG n f 2402 w p G' ∧ Tw_assignment_b115 P W a z x T = some (0, T') ∧ FX w p T') ∨ ∃ Ga Ta G5 T5 T' b c, Tw_assignment_b115 P W a z x T = some (0, T') ∧ CS G Ga b (G 110 4) (G 150 3) ∧ TS T Ta b (T 100 13) (T 100 19) (T 100 20) ∧ OKX n f P W Ga Ta G5 T5 ∧ CS G5 G' c (G5 110 4 + 1) (G5 150 3) ∧ TS T5 T' c (T5 100 13 + 2) (T5 100 19) (T5 100 20) ∧ G 150 2 < b ∧ T 100 6 < b ∧ G5 150 2 < c ∧ T5 100 6 < c ∧ c ≤ n ∧ (G' 111 (G5 110 4) = 12 ∧ G' 112 (G5 110 4) = z ∧ G' 114 (G5 110 4) = (if x = 0 then 0 else 1)) ∧ T' 115 (T5 100 13) = (if x = 0 then 32 else 34) ∧ T' 116 (T5 100 13) = z ∧ T' 115 (T5 100 13 + 1) = 21) := by
  have N := hP.nums
  have g := sk_ge n f (G 150 2)
  have g' := sk_ge n f (T 100 6)
  unfold Rd_assignment_b141
  obtain ⟨Ga, Ta, e1, e2, R⟩ := P_sign (c := 61) (by decide) hP
  rw [e1, bd_some]
  have t1 : Tw_assignment_b115 P W a z x T = Tw_assignment_b128 P W a z x Ta := by
    unfold Tw_assignment_b115
    rw [if_pos N.2.2.2.2.2.2, e2, bd_some]
  rcases R with ⟨r1, pa, r3, r4⟩ | ⟨w, p, fg, fx⟩
  · have lt := lkF_lt (sg_1 r1).1 (by decide)
    have sGa := CS_at G (sk n f (G 150 2) + 1)
    have sTa := TS_at T (sk n f (G 150 2) + 1)
    rw [← r3] at sGa
    rw [← r4] at sTa
    have Na := pa.nums
    have a1 := sGa.2.1
    have a2 := sGa.2.2.1
    have a3 := sGa.2.2.2.1
    have b1 := sTa.2.1
    have b2 := sTa.2.2.1
    have b3 := sTa.2.2.2.1
    have b4 := sTa.2.2.2.2.1
    have b5 := sTa.2.2.2.2.2.1
    obtain ⟨G5, e5, R⟩ := ex_ok (P := P) (W := W) pa
    rw [e5, bd_some]
    rcases R with ⟨w, p, T', fg, lx, fx⟩ | ⟨T5, lx, L3⟩
    · obtain ⟨G', e6, fg'⟩ := ag_t2 (z := z) (a := a) (x := x) fg (by decide)
      refine ⟨G', e6, Or.inl ⟨w, p, T', fg'.mono (by decide), ?_, fx⟩⟩
      rw [t1]
      unfold Tw_assignment_b128 Tw_assignment_b139
      rw [if_pos Na.2.2.2.2.2.2, lx, bd_some, if_neg fx.ne]
    · have q := L3
      obtain ⟨q1, q2, q3, q4, q5, q6, q7, q8, q9, q10, q11, q12⟩ := q
      have N5 := q1.nums
      have h5 := sk_ge n f (G5 150 2)
      have h5' := sk_ge n f (T5 100 6)
      have s1 := TS_ad T5 (if x = 0 then 32 else 34) z 0 a
      have v1 := adT_v T5 (if x = 0 then 32 else 34) z 0 a
      have t2 : Tw_assignment_b115 P W a z x T = (bd (Tw_sign 59 (adT T5 (if x = 0 then 32 else 34) z 0 a)) fun _ G14 => bd (Tw_put 21 0 0 a G14) fun _ G16 => some (0, G16)) := by
        rw [t1]
        unfold Tw_assignment_b128 Tw_assignment_b139 Tw_assignment_b159
        rw [if_pos Na.2.2.2.2.2.2, lx, bd_some, if_pos N5.2.2.2.2.2.2, Tw_put_e (by omega) (by omega), bd_some]
      generalize adT T5 (if x = 0 then 32 else 34) z 0 a = T6 at s1 v1 t2
      have p6 : PR n f G5 T6 := q1.mv (CS.rf G5) s1 (by omega) (by omega) (by omega) (by omega) N5.1.2.2.2.2 (by omega) (by omega) (by omega) (by omega) (by omega) (by omega) (by omega) (by omega) (by omega)
      obtain ⟨G7, T7, e7, e8, R⟩ := P_sign (c := 59) (by decide) p6
      rw [e7, bd_some]
      rw [e8, bd_some] at t2
      have fr := fr_Tw_sign 59 T6 (0, T7) e8
      have tm : T7 100 13 = T6 100 13 := fr _ _ (by simp [fS])
      clear fr
      have m6 := s1.2.2.1
      rw [Tw_put_e (by omega) (by omega), bd_some] at t2
      rcases R with ⟨r1', p7, r3', r4'⟩ | ⟨w, p, fg, fx⟩
      · have lt' := lkF_lt (sg_1 r1').1 (by decide)
        have sG7 := CS_at G5 (sk n f (G5 150 2) + 1)
        rw [← r3'] at sG7
        have sT7 := s1.nat (by omega) (Int.le_refl _) (sk n f (G5 150 2) + 1)
        rw [← r4'] at sT7
        have c1 := sG7.nad (Int.le_refl _) 12 z a (if x = 0 then 0 else 1)
        have z7 := sG7.2.2.1
        have cv := adC_v G7 12 z a (if x = 0 then 0 else 1)
        rw [z7] at cv
        unfold Rd_assignment_b176
        rw [Cd_add_e (by omega) (by omega) (by decide) (by decide), bd_some]
        have d1 := sT7.nad (by omega) (Int.le_refl _) 21 0 0 a
        have dv := adT_v T7 21 0 0 a
        rw [tm, m6] at dv
        rw [show T5 100 13 + 1 + 1 = T5 100 13 + 2 by omega] at d1
        have k7 : ∀ o, o = 115 ∨ o = 116 → adT T7 21 0 0 a o (T5 100 13) = T6 o (T5 100 13) := fun o ho => by
          rw [adT_o (by omega) (by omega), r4', up_o _ (by omega)]
        refine ⟨_, rfl, Or.inr ⟨Ga, Ta, G5, T5, _, _, _, t2, sGa, sTa, L3, c1, d1, by omega, by omega, by omega, by rw [N5.1.2.2.2.2]; omega, by omega, ⟨cv.1, cv.2.1, cv.2.2.2⟩, ?_, ?_, dv.1⟩⟩
        · rw [k7 _ (by decide)]; exact v1.1
        · rw [k7 _ (by decide)]; exact v1.2.1
      · unfold Rd_assignment_b176
        rw [FG_add_e fg (by decide) z a _ (by decide) (by decide), bd_some]
        exact ⟨_, rfl, Or.inl ⟨w, p, _, (FG_add fg _ _ _ _).mono (by decide), t2, fx_ad fx _ _ _ _⟩⟩
  · rw [fx_expr fg, bd_some]
    obtain ⟨G', e6, fg'⟩ := ag_t2 (z := z) (a := a) (x := x) fg (by decide)
    refine ⟨G', e6, Or.inl ⟨w, p, Ta, fg'.mono (by decide), ?_, fx⟩⟩
    rw [t1]
    unfold Tw_assignment_b128 Tw_assignment_b139
    rw [if_neg fx.ne, if_neg fx.ne]
