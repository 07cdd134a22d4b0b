/-! PLAIN: blocks -/
theorem PR.kb {n : Int} {f : Int → Int} {G T G' T' : St} {a s d a' m d' w bl : Int} (h : PR n f G T) (x1 : kC G G') (x2 : G' 150 2 = a) (x3 : G' 110 4 = s) (x4 : G' 150 3 = d) (y1 : kT T T') (y2 : T' 100 6 = a') (y3 : T' 100 13 = m) (y4 : T' 100 19 = d') (y5 : T' 100 20 = w) (y6 : T' 100 26 = bl)
    (q1 : G 150 2 ≤ a) (q2 : a ≤ n) (q3 : T 100 6 ≤ a') (q4 : a' ≤ n) (q5 : sk n f a = sk n f a') (q6 : d = d') (q7 : 0 ≤ d) (q8 : d ≤ 30) (q9 : 0 ≤ s) (q10 : s ≤ 2 * a + 2) (q11 : 0 ≤ m) (q12 : 0 ≤ w) (q15 : 0 ≤ bl) (q13 : bl ≤ d') (q14 : m + 2 * w + 4 * bl ≤ 4 * a' + 4) : PR n f G' T' := by
  refine h.st x1 y1 ?_ ?_ ?_ ?_ ?_ ?_ ?_ ?_ <;> simp only [x2, x3, x4, y2, y3, y4, y5, y6]
  · exact q1
  · exact q2
  · exact q3
  · exact q4
  · exact q5
  · exact ⟨q6, q7, q8⟩
  · exact ⟨q9, q10⟩
  · exact ⟨q11, q12, q15, q13, q14⟩
/-- a block is opened in the twin -/
def obT (T : St) (b kk idx : Int) : St := up (up (up (up (up T 100 19 (T 100 19 + 1)) 100 6 (b + 1)) 128 (T 100 26) kk) 129 (T 100 26) idx) 100 26 (T 100 26 + 1)
theorem obT_s (T : St) (b kk idx : Int) : kT T (obT T b kk idx) ∧ obT T b kk idx 100 6 = b + 1 ∧ obT T b kk idx 100 13 = T 100 13 ∧ obT T b kk idx 100 19 = T 100 19 + 1 ∧ obT T b kk idx 100 20 = T 100 20 ∧ obT T b kk idx 100 26 = T 100 26 + 1 ∧ obT T b kk idx 128 (T 100 26) = kk ∧ obT T b kk idx 129 (T 100 26) = idx ∧ bk T (obT T b kk idx) (T 100 26) ∧ tb T (obT T b kk idx) ∧ obT T b kk idx 100 30 = T 100 30 ∧ obT T b kk idx 100 29 = T 100 29 := by
  unfold obT
  refine ⟨((((kT_up (Or.inr (by decide)) _ _).tr (kT_up (Or.inr (by decide)) _ _)).tr (kT_up (Or.inl (by decide)) _ _)).tr (kT_up (Or.inl (by decide)) _ _)).tr (kT_up (Or.inr (by decide)) _ _), ?_, ?_, ?_, ?_, up_s _ _ _ _, ?_, ?_, ?_, ⟨?_, ?_⟩, ?_, ?_⟩
  · rw [up_k _ (by decide), up_o _ (by decide), up_o _ (by decide), up_s]
  · rw [up_k _ (by decide), up_o _ (by decide), up_o _ (by decide), up_k _ (by decide), up_k _ (by decide)]
  · rw [up_k _ (by decide), up_o _ (by decide), up_o _ (by decide), up_k _ (by decide), up_s]
  · rw [up_k _ (by decide), up_o _ (by decide), up_o _ (by decide), up_k _ (by decide), up_k _ (by decide)]
  · rw [up_o _ (by decide), up_o _ (by decide), up_s]
  · rw [up_o _ (by decide), up_s]
  · intro o k h1 h2 h3
    rw [up_o _ (by omega), up_ap, if_neg (by omega), up_ap, if_neg (by omega), up_o _ (by omega), up_o _ (by omega)]
  · intro o k h1 h2 h3
    rw [up_o _ (by omega), up_o _ (by omega), up_o _ (by omega), up_o _ (by omega), up_o _ (by omega)]
  · intro o k h1 h2 h3
    rw [up_o _ (by omega), up_o _ (by omega), up_o _ (by omega), up_o _ (by omega), up_o _ (by omega)]
  · rw [up_k _ (by decide), up_o _ (by decide), up_o _ (by decide), up_k _ (by decide), up_k _ (by decide)]
  · rw [up_k _ (by decide), up_o _ (by decide), up_o _ (by decide), up_k _ (by decide), up_k _ (by decide)]
theorem ob_e {n : Int} {f : Int → Int} {G T : St} {b kk idx : Int} (hP : PR n f G T) (hb : sk n f (T 100 6) = b) : (lkF n f b ≠ 123 → ∃ T', Tw_openBlock kk idx T = some (0, T') ∧ FX 1 b T') ∧ (lkF n f b = 123 → T 100 19 = 30 → ∃ T', Tw_openBlock kk idx T = some (0, T') ∧ FX 3 b T') ∧ (lkF n f b = 123 → T 100 19 ≠ 30 → Tw_openBlock kk idx T = some (0, obT (skT n f T) b kk idx)) := by
  have N := hP.nums
  have g := sk_ge n f (T 100 6)
  have g2 := sk_le (f := f) N.1.2.2.2.1
  rw [hb] at g g2
  have sT := TS_sk n f T
  rw [hb] at sT
  have F := ts_F hP sT
  unfold Tw_openBlock
  rw [Tw_gap_e hP.1.2.1 (by omega) (by omega), bd_some, show up T 100 6 (sk n f (T 100 6)) = skT n f T from rfl]
  have dS : skT n f T 100 19 = T 100 19 := sT.2.2.2.1
  have bS : skT n f T 100 26 = T 100 26 := sT.2.2.2.2.2.1
  generalize skT n f T = S at sT F dS bS ⊢
  have aS := sT.2.1
  rw [Tw_isSign_e F.2 (by omega) (by omega) 123, bd_some, aS, sg_c (by decide) (by decide)]
  refine ⟨?_, ?_, ?_⟩
  · intro h
    rw [if_neg h, if_pos rfl, Tw_fail_e F.1, bd_some]
    exact ⟨_, rfl, FX_fT _ (by decide)⟩
  · intro h dp
    rw [if_pos h, if_neg (by decide), Tw_deeper_f (by omega) F.1, bd_some]
    have e1 : up (fT 3 b S) 100 19 31 100 6 = b := by simp [fT, up_ap, aS]
    have e2 : up (fT 3 b S) 100 19 31 100 26 = T 100 26 := by simp [fT, up_ap, bS]
    have e3 : up (fT 3 b S) 100 19 31 100 7 = 3 := by simp [fT, up_ap]
    have e4 : up (fT 3 b S) 100 19 31 100 8 = b := by simp [fT, up_ap]
    generalize up (fT 3 b S) 100 19 31 = Y at e1 e2 e3 e4 ⊢
    have f1 : ∀ k, k ≠ 6 → up Y 100 6 (b + 1) 100 k = Y 100 k := fun k h => up_k _ h
    rw [e1, ckI_p (by omega) (by omega), tk_e]
    generalize up Y 100 6 (b + 1) = Z at f1 ⊢
    have z1 := f1 26 (by decide)
    rw [z1, e2, ckB_p (by omega) (by omega), tk_e, up_o _ (show (100 : Int) ≠ 128 by decide), z1, e2, ckB_p (by omega) (by omega), tk_e, up_o _ (show (100 : Int) ≠ 129 by decide), up_o _ (show (100 : Int) ≠ 128 by decide), z1, e2, ckI_p (by omega) (by omega), tk_e]
    refine ⟨_, rfl, ?_, ?_, by decide⟩
    · rw [up_k _ (by decide), up_o _ (by decide), up_o _ (by decide), f1 _ (by decide)]; exact e3
    · rw [up_k _ (by decide), up_o _ (by decide), up_o _ (by decide), f1 _ (by decide)]; exact e4
  · intro h dp
    have e1 : up S 100 19 (S 100 19 + 1) 100 6 = b := by rw [up_k _ (by decide)]; exact aS
    have e2 : ∀ v, up (up S 100 19 (S 100 19 + 1)) 100 6 v 100 26 = S 100 26 := fun v => by rw [up_k _ (by decide), up_k _ (by decide)]
    unfold obT
    rw [if_pos h, if_neg (by decide), Tw_deeper_e (by omega) (by omega) (by omega), bd_some, e1, ckI_p (by omega) (by omega), tk_e, e2, ckB_p (by omega) (by omega), tk_e, up_o _ (show (100 : Int) ≠ 128 by decide), e2, ckB_p (by omega) (by omega), tk_e, up_o _ (show (100 : Int) ≠ 129 by decide), up_o _ (show (100 : Int) ≠ 128 by decide), e2, ckI_p (by omega) (by omega), tk_e]
theorem BlockOK_s {n : Int} {f : Int → Int} {P W : Int} {d : Nat} (hd : (d : Int) ≤ 600) (hSt : StmtOK n f P W d) : BlockOK n f P W (d + 1) := by
  intro G T kk idx hP hS hV hkk hA
  have N := hP.nums
  show ∃ G', Rd_block (RS d) G = some (0, G') ∧ _
  obtain ⟨b, hbb⟩ : ∃ b, sk n f (G 150 2) = b := ⟨_, rfl⟩
  have hbT : sk n f (T 100 6) = b := by rw [← N.1.2.2.2.2, hbb]
  have gb := sk_ge n f (G 150 2)
  have gb1 := sk_ge n f (T 100 6)
  have gb2 := sk_le (f := f) N.1.2.1
  rw [hbb] at gb gb2
  rw [hbT] at gb1
  unfold AS at hA
  unfold SB at hS
  obtain ⟨o1, o2, o3⟩ := ob_e (kk := kk) (idx := idx) hP hbT
  have sS := CS_sk n f G
  rw [hbb] at sS
  have F := cs_F hP sS
  unfold Rd_block
  rw [Rd_skip_e hP.1.1 (by omega), bd_some, show up G 150 2 (sk n f (G 150 2)) = skC n f G from rfl]
  generalize skC n f G = GS at sS F ⊢
  have aS := sS.2.1
  rw [Ft_is_0 F.1, bd_some, if_pos rfl, Rd_look_e F.2 (by omega) (by omega) (Int.le_refl 0) (by decide), bd_some, aS, Int.add_zero]
  by_cases c123 : lkF n f b = 123
  · rw [if_pos c123]
    have lt := lkF_lt c123 (by decide)
    by_cases dp : G 150 3 = 30
    · obtain ⟨T', e1, fx⟩ := o2 c123 (by omega)
      rw [dp] at sS
      obtain ⟨GB, e2, fg1, eat⟩ := en_f (p := b) hP sS (by omega) (by omega) (by omega) (by omega)
      have fg2 := FG_at fg1 (x := GB 150 2 + 1) (by omega) (by omega)
      rw [e2, bd_some, ckI_p (by omega) (by omega), tk_e, FG_add_e fg2 (by decide) 0 _ 0 (by decide) (by decide), bd_some]
      obtain ⟨G', e3, fg3⟩ := bl_lf (FG_add fg2 20 0 (up GB 150 2 (GB 150 2 + 1) 150 2) 0) (by decide) (RS d)
      exact ⟨G', e3, Or.inl ⟨3, b, T', fg3.mono (by unfold FKd; omega), by rw [e1, bd_some, Lp_flt (by have h1 := fx.1; have h2 := fx.2.2; omega)], fx⟩⟩
    · have dS := sS.2.2.2.1
      have eat : up GS 150 3 (GS 150 3 + 1) 150 2 = b := by rw [up_k _ (by decide)]; exact aS
      rw [Rd_enter_e (by omega) (by omega) (by omega), bd_some, eat, ckI_p (by omega) (by omega), tk_e, up_s]
      have s1 := (sS.ndeep (Int.le_refl _) (GS 150 3 + 1)).nat (Int.le_refl _) (b + 1)
      generalize up (up GS 150 3 (GS 150 3 + 1)) 150 2 (b + 1) = G1 at s1 ⊢
      rw [dS] at s1
      have z1 := s1.2.2.1
      rw [Cd_add_e (by omega) (by omega) (by decide) (by decide), bd_some]
      have s2 := s1.nad (Int.le_refl _) 20 0 (b + 1) 0
      have cv := adC_v G1 20 0 (b + 1) 0
      rw [z1] at cv
      generalize adC G1 20 0 (b + 1) 0 = Ga at s2 cv ⊢
      have e1 := o3 c123 (by omega)
      have sT := TS_sk n f T
      rw [hbT] at sT
      have vS : skT n f T 100 30 = T 100 30 := skT_k _ _ _ _ (by decide)
      have viS : skT n f T 100 29 = T 100 29 := skT_k _ _ _ _ (by decide)
      have kS : ∀ o k, o ≠ 100 → skT n f T o k = T o k := fun o k q => skT_o _ _ _ _ q
      generalize skT n f T = S at sT e1 vS viS kS
      obtain ⟨y1, y2, y3, y4, y5, y6, y7⟩ := sT
      obtain ⟨u1, u2, u3, u4, u5, u6, u7, u8, u9, u10, u11, u12⟩ := obT_s S b kk idx
      generalize obT S b kk idx = Ta at u1 u2 u3 u4 u5 u6 u7 u8 u9 u10 u11 u12 e1
      rw [y6] at u6 u7 u8 u9
      obtain ⟨x1, x2, x3, x4, x5⟩ := s2
      have pa : PR n f Ga Ta := hP.kb x1 x2 x3 x4 (y1.tr u1) u2 (by rw [u3, y3]) (by rw [u4, y4]) (by rw [u5, y5]) u6 (by omega) (by omega) (by omega) (by omega) rfl (by omega) (by omega) (by omega) (by omega) (by omega) (by omega) (by omega) (by omega) (by omega) (by omega)
      have gv : Ga 150 5 = G 150 5 := x1 _ _ (by simp [fS])
      have gi : Ga 150 4 = G 150 4 := x1 _ _ (by simp [fS])
      have hI : BI n f P W kk idx G T Ga Ta := by
        refine ⟨pa, ⟨by omega, by omega⟩, hV.tr gv gi (by rw [u11, vS]) (by rw [u12, viS]), x4, by omega, u6, u7, u8, ?_, y7.tr u10 (by omega) (by omega), x5, cv.1, by omega, ⟨by omega, by omega⟩, ?_⟩
        · intro o k h1 h2 h3
          rw [u9 o k h1 h2 h3]; exact kS o k (by omega)
        · rw [x3, u3, y3, u11, vS]
          exact wf_seq0 P W _ _ _ _ _ _
      obtain ⟨G', e2, R⟩ := bl_loop hd hSt hP hkk (by unfold AS; omega) (by omega) ((n - Ga 150 2).toNat + 1) Ga Ta hI (by omega)
      refine ⟨G', e2, ?_⟩
      rw [e1, bd_some]
      exact R
  · obtain ⟨T', e1, fx⟩ := o1 c123
    rw [if_neg c123, Rd_bad_e F.1, bd_some, aS]
    exact ⟨_, rfl, Or.inl ⟨1, b, T', (FG_cs hP sS (by omega) (by omega) (by omega) (by omega) (by omega) (by omega) (by decide)).mono (by unfold FKd; omega), by rw [e1, bd_some, Lp_flt (by have h1 := fx.1; have h2 := fx.2.2; omega)], fx⟩⟩
