/-! PLAIN: items: outputs and inputs -/
/-- between two items -/
def II (n : Int) (f : Int → Int) (P W : Int) (G T : St) : Prop := PR n f G T ∧ SB G T ∧ VQ G T ∧ (T 100 20 = 0 ∧ T 100 26 = 0 ∧ G 150 3 = 0) ∧ ∃ z, z ≤ G 150 2 ∧ WF P W G T 4 0 (G 110 4) 0 (T 100 13) (T 100 30) (T 100 29) z
theorem out_f {n : Int} {f : Int → Int} {k w p : Int} {G : St} (h : FG n f k w p G) (hk : k ≤ 6000) : ∃ G', (bd (Rd_sign 59 G) fun _ G7 => bd (Cd_add 5 0 (G7 150 2) 0 G7) fun _ G9 => some ((0 : Int), G9)) = some (0, G') ∧ FG n f (k + 1) w p G' := by
  rw [FG_sign h (by omega) (by decide), bd_some, FG_add_e (FG_sk h) (by omega) 0 _ 0 (by decide) (by decide), bd_some]
  exact ⟨_, rfl, FG_add (FG_sk h) _ _ _ _⟩
theorem it_out {n : Int} {f : Int → Int} {P W a : Int} {G T : St} (hI : II n f P W G T) (ea : G 150 2 = a) (et : T 100 6 = a) (an : a + 6 ≤ n) : ∃ G', Rd_output G = some (0, G') ∧ ((∃ w p T', FG n f 2420 w p G' ∧ Tw_outputItem P W a T = some (0, T') ∧ FX w p T') ∨ ∃ T', Tw_outputItem P W a T = some (0, T') ∧ II n f P W G' T' ∧ a < G' 150 2) := by
  obtain ⟨hP, hS, hV, ⟨hw, hb, hdp⟩, zz, hz, hW⟩ := hI
  have N := hP.nums
  unfold SB at hS
  have lwI := wf_le hW
  unfold Rd_output
  rw [ea, Cd_add_e (by omega) (by omega) (by decide) (by decide), bd_some]
  have sA := CS_ad G 4 0 a 0
  have cv := adC_v G 4 0 a 0
  generalize adC G 4 0 a 0 = GA at sA cv ⊢
  rw [ea] at sA
  rw [sA.2.1, ckI_p (by omega) (by omega), tk_e]
  have s0 := sA.nat (by omega) (a + 6)
  have k0 : ∀ o k, o ≠ 150 → up GA 150 2 (a + 6) o k = GA o k := fun o k h => up_o _ h
  generalize up GA 150 2 (a + 6) = G0 at s0 k0 ⊢
  have eT : Tw_outputItem P W a T = Tw_outputItem P W a T := rfl
  conv at eT => rhs; unfold Tw_outputItem
  have t1 := TS_at T (a + 6)
  rw [et, ckI_p (by omega) (by omega), tk_e, Tw_put_e (by rw [t1.2.2.1]; omega) (by rw [t1.2.2.1]; omega), bd_some] at eT
  have t0 := t1.nad (Int.le_refl _) (Int.le_refl _) 20 0 0 a
  have v0 := adT_v (up T 100 6 (a + 6)) 20 0 0 a
  rw [t1.2.2.1] at v0
  generalize adT (up T 100 6 (a + 6)) 20 0 0 a = T0 at t0 v0 eT
  have p0 : PR n f G0 T0 := hP.mv s0 t0 (by omega) (by omega) (by omega) (by omega) rfl (by omega) (by omega) (by omega) (by omega) (by omega) (by omega) (by omega) (by omega) (by omega)
  have vr0 : T0 100 30 = T 100 30 := t0.1 _ _ (by simp [fS])
  have vi0 : T0 100 29 = T 100 29 := t0.1 _ _ (by simp [fS])
  have gr0 : G0 150 5 = G 150 5 := s0.1 _ _ (by simp [fS])
  have gi0 : G0 150 4 = G 150 4 := s0.1 _ _ (by simp [fS])
  obtain ⟨a1, a2, a3, a4, a5⟩ := s0
  obtain ⟨b1, b2, b3, b4, b5, b6, b7⟩ := t0
  obtain ⟨G5, e5, R⟩ := ex_ok (P := P) (W := W) p0
  rw [e5, bd_some]
  rcases R with ⟨w, p, T', fg, lx, fx⟩ | ⟨T5, lx, L3⟩
  · obtain ⟨G', e6, fg'⟩ := out_f fg (by decide)
    rw [lx, bd_some, if_neg fx.ne] at eT
    exact ⟨G', e6, Or.inl ⟨w, p, T', fg'.mono (by decide), eT, fx⟩⟩
  · have fr := fr_Tw_expression P W T0 (0, T5) lx
    have vr5 : T5 100 30 = T 100 30 := by rw [show T5 100 30 = T0 100 30 from fr _ _ (by simp [fS])]; exact vr0
    have vi5 : T5 100 29 = T 100 29 := by rw [show T5 100 29 = T0 100 29 from fr _ _ (by simp [fS])]; exact vi0
    have fr8 := fr_Rd_exprO G0 (0, G5) e5
    have gr5 : G5 150 5 = G 150 5 := by rw [show G5 150 5 = G0 150 5 from fr8 _ _ (by simp [fS])]; exact gr0
    have gi5 : G5 150 4 = G 150 4 := by rw [show G5 150 4 = G0 150 4 from fr8 _ _ (by simp [fS])]; exact gi0
    clear fr fr8
    obtain ⟨q1, q2, q3, q4, q5, q6, q7, q8, q9, q10, q11, q12⟩ := L3
    have N5 := q1.nums
    have lw5 := wf_le q7
    rw [lx, bd_some, if_pos N5.2.2.2.2.2.2, Tw_put_e (by omega) (by omega), bd_some] at eT
    have t6 := TS_ad T5 30 0 0 a
    have v6 := adT_v T5 30 0 0 a
    generalize adT T5 30 0 0 a = T6 at t6 v6 eT
    have p6 : PR n f G5 T6 := q1.mv (CS.rf G5) t6 (by omega) (by omega) (by omega) (by omega) N5.1.2.2.2.2 (by omega) (by omega) (by omega) (by omega) (by omega) (by omega) (by omega) (by omega) (by omega)
    obtain ⟨G7, T7, e7, e8, R⟩ := P_sign (c := 59) (by decide) p6
    have fr := fr_Tw_sign 59 T6 (0, T7) e8
    have tm : T7 100 13 = T6 100 13 := fr _ _ (by simp [fS])
    clear fr
    have m6 := t6.2.2.1
    rw [e8, bd_some, Tw_put_e (by omega) (by omega), bd_some] at eT
    rw [e7, bd_some]
    have h5 := sk_ge n f (G5 150 2)
    have h5' := sk_ge n f (T5 100 6)
    rcases R with ⟨r1, p7, r3, r4⟩ | ⟨w, p, fg, fx⟩
    · have lt := lkF_lt (sg_1 r1).1 (by decide)
      obtain ⟨c, hc⟩ : ∃ c, c = sk n f (G5 150 2) + 1 := ⟨_, rfl⟩
      rw [← hc] at r3 r4
      have s7 := CS_at G5 c
      rw [← r3] at s7
      have z7 := s7.2.2.1
      have a7 := s7.2.1
      rw [a7, Cd_add_e (by omega) (by omega) (by decide) (by decide), bd_some]
      have s8 := s7.nad (Int.le_refl _) 5 0 c 0
      have cv8 := adC_v G7 5 0 c 0
      rw [z7] at cv8
      generalize adC G7 5 0 c 0 = G' at s8 cv8 ⊢
      have t7 := t6.nat (by omega) (Int.le_refl _) c
      rw [← r4] at t7
      have t8 := t7.nad (by omega) (Int.le_refl _) 21 0 0 a
      have v8 := adT_v T7 21 0 0 a
      rw [tm, m6] at v8
      have k8 : adT T7 21 0 0 a 115 (T5 100 13) = 30 := by rw [adT_o (by omega) (by omega), r4, up_o _ (by decide)]; exact v6.1
      generalize adT T7 21 0 0 a = T' at t8 v8 k8 eT
      have pr : PR n f G' T' := q1.mv s8 t8 (by omega) (by omega) (by omega) (by omega) rfl (by omega) (by omega) (by omega) (by omega) (by omega) (by omega) (by omega) (by omega) (by omega)
      have vr : T' 100 30 = T 100 30 := by rw [t8.1 _ _ (by simp [fS])]; exact vr5
      have vi : T' 100 29 = T 100 29 := by rw [t8.1 _ _ (by simp [fS])]; exact vi5
      have gr : G' 150 5 = G 150 5 := by rw [s8.1 _ _ (by simp [fS])]; exact gr5
      have gi : G' 150 4 = G 150 4 := by rw [s8.1 _ _ (by simp [fS])]; exact gi5
      obtain ⟨c1, c2, c3, c4, c5⟩ := s8
      obtain ⟨d1, d2, d3, d4, d5, d6, d7⟩ := t8
      have ag : agC G0 G' 0 (G0 110 4) := q6.tr c5 (by omega) (by omega)
      have at' : tb T0 T' := q5.tr d7 (by omega) (by omega)
      refine ⟨G', rfl, Or.inr ⟨T', eT, ⟨pr, ⟨by omega, by omega⟩, hV.tr gr gi vr vi, ⟨by omega, by omega, by omega⟩, c, by omega, ?_⟩, by omega⟩⟩
      have w0 := (hW.cg (G1 := G') (T1 := T')).2.2 ((a5.tr ag (by omega) (by omega)).mono (by omega) (by omega)) ((b7.tr at' (by omega) (by omega)).1.mono (by omega) (by omega))
      have w1 := (q7.cg (G1 := G') (T1 := T')).2.2 (c5.mono (by omega) (by omega)) (d7.1.mono (by omega) (by omega))
      rw [a3, b3] at w1
      rw [c3, d3, vr, vi, show T5 100 13 + 1 + 1 = T5 100 13 + 2 by omega]
      refine wf_ito P W _ _ _ _ _ _ _ _ _ _ _ _ (31 - G0 150 3) w0 (by omega) ?_ ?_ ?_ w1 (by omega) cv8.1 k8 v8.1
      · rw [ag _ _ (by decide) (by decide) (by omega) (by omega), k0 _ _ (by decide)]; exact cv.1
      · rw [at'.1 _ _ (by decide) (by omega) (by omega)]; exact v0.1
      · rw [at'.1 _ _ (by decide) (by omega) (by omega), ag _ _ (by decide) (by decide) (by omega) (by omega), k0 _ _ (by decide), v0.2.2.2, cv.2.2.1]
    · rw [FG_add_e fg (by decide) 0 _ 0 (by decide) (by decide), bd_some]
      exact ⟨_, rfl, Or.inl ⟨w, p, _, (FG_add fg _ _ _ _).mono (by decide), eT, fx_ad fx _ _ _ _⟩⟩
