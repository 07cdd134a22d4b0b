/-! PLAIN: the arguments of a call, one behind the other -/
theorem FG_114 {n : Int} {f : Int → Int} {k w p : Int} {G : St} (h : FG n f k w p G) (i v : Int) : FG n f k w p (up G 114 i v) := by
  obtain ⟨a, b, c, d, e, g, hh, i1, i2, i3, i4, i', j, l, m⟩ := h
  have u : ∀ o k, o ≠ 114 → up G 114 i v o k = G o k := fun o k q => up_o _ q
  refine ⟨a.cg (u _ _ (by decide)) (funext fun _ => u _ _ (by decide)), ?_, ?_, ?_, ?_, ?_, ?_, ?_, ?_, ?_, ?_, ?_, ?_, l, m⟩ <;> rw [u _ _ (by decide)] <;> assumption
theorem call_t2 {n : Int} {f : Int → Int} {k w p z a hi g : Int} {G : St} (h : FG n f k w p G) (hk : k ≤ 6000) (i0 : 0 ≤ hi) (i1 : hi < 12000) : ∃ G', (ckI ((G 150 3) - 1) <| tk (up G 150 3 ((G 150 3) - 1)) fun G10 => ckB hi 12000 <| tk (up G10 114 hi g) fun G11 => bd (Cd_add 30 z a g G11) fun _ G13 => some ((0 : Int), G13)) = some (0, G') ∧ FG n f (k + 2) w p G' := by
  rw [fl_up h hk, ckB_p i0 i1, tk_e]
  have h1 := FG_114 (FG_deep h (x := G 150 3 - 1) (by omega) (by omega)) hi g
  rw [FG_add_e h1 (by omega) z a g (by decide) (by decide), bd_some]
  exact ⟨_, rfl, (FG_add h1 _ _ _ _).mono (by omega)⟩
theorem call_t {n : Int} {f : Int → Int} {k w p z a hi g : Int} {G : St} (h : FG n f k w p G) (hk : k ≤ 6000) (i0 : 0 ≤ hi) (i1 : hi < 12000) (Rf : Nat → List Int → St → Option (Int × St)) : ∃ G', Rd_call_b133 Rf z a hi g G = some (0, G') ∧ FG n f (k + 2) w p G' := by
  unfold Rd_call_b133
  rw [FG_sign h (by omega) (by decide), bd_some]
  exact call_t2 (FG_sk h) hk i0 i1
theorem l51_0 {z a hi g : Int} {G : St} (Rf : Nat → List Int → St → Option (Int × St)) : Rd_call_l51 Rf z a hi g 0 G = Rd_call_b133 Rf z a hi g G := by
  rw [Rd_call_l51_eq]
  unfold Rd_call_s51
  rw [if_pos rfl]
  cases Rd_call_b133 Rf z a hi g G <;> rfl
theorem opn_s {n : Int} {f : Int → Int} {b c : Int} (h : lkF n f b = c) (hc : c = 41 ∨ c = 44 ∨ c = 93 ∨ c = 58 ∨ c = 59 ∨ c = 123) : opn n f b = 0 ∧ sg n f b 63 = 0 := by
  have h2 : sg n f b 63 = 0 := by rw [sg_c (by decide) (by decide), if_neg (by omega)]
  refine ⟨?_, h2⟩
  unfold opn
  rw [h]
  rcases hc with q | q | q | q | q | q <;> subst q <;> simp [oprF, prF]
/-- the end of a call in the component -/
theorem call_e {z a hi g b : Int} {n : Int} {f : Int → Int} {G : St} (hC : CT n f G) (hF : G 130 0 = 0) (hb : sk n f (G 150 2) = b) (a0 : 0 ≤ G 150 2) (b1 : b ≤ n) (d0 : -1000 ≤ G 150 3) (d1 : G 150 3 ≤ 1000) (s0 : 0 ≤ hi) (s1 : hi < G 110 4) (s2 : G 110 4 < 12000) (c41 : lkF n f b = 41) (Rf : Nat → List Int → St → Option (Int × St)) : ∃ G', Rd_call_b133 Rf z a hi g G = some (0, G') ∧ kC G G' ∧ G' 150 2 = b + 1 ∧ G' 110 4 = G 110 4 + 1 ∧ G' 150 3 = G 150 3 - 1 ∧ (∀ o k, 111 ≤ o → o ≤ 114 → ¬ (o = 114 ∧ k = hi) → 0 ≤ k → k < G 110 4 → G' o k = G o k) ∧ G' 114 hi = g ∧ (G' 111 (G 110 4) = 30 ∧ G' 112 (G 110 4) = z ∧ G' 113 (G 110 4) = a ∧ G' 114 (G 110 4) = g) := by
  have hn := hC.2.2.1
  have g0 := sk_ge n f (G 150 2)
  unfold Rd_call_b133
  rw [Rd_sign_e (c := 41) (by decide) hC a0 (by omega), bd_some, if_pos hF, hb, sg_c (by decide) (by decide), if_pos c41, if_pos rfl]
  have x1 := CS_at G (b + 1)
  generalize up G 150 2 (b + 1) = X1 at x1 ⊢
  have d1' := x1.2.2.2.1
  have x2 := x1.ndeep (Int.le_refl _) (X1 150 3 - 1)
  rw [ckI_p (by omega) (by omega), tk_e]
  generalize up X1 150 3 (X1 150 3 - 1) = X2 at x2 ⊢
  obtain ⟨y1, y2, y3, y4, y5⟩ := x2
  rw [ckB_p s0 (by omega), tk_e]
  have z1 : kC G (up X2 114 hi g) := y1.tr (kC_up (Or.inl (by decide)) _ _)
  have z2 : up X2 114 hi g 150 2 = b + 1 := by rw [up_o _ (by decide)]; exact y2
  have z3 : up X2 114 hi g 110 4 = G 110 4 := by rw [up_o _ (by decide)]; exact y3
  have z4 : up X2 114 hi g 150 3 = G 150 3 - 1 := by rw [up_o _ (by decide), y4, d1']
  have z5 : ∀ o k, 111 ≤ o → o ≤ 114 → ¬ (o = 114 ∧ k = hi) → 0 ≤ k → k < G 110 4 → up X2 114 hi g o k = G o k := fun o k q1 q2 q3 q4 q5 => by rw [up_ap, if_neg q3]; exact y5 o k q1 q2 q4 q5
  have z6 : up X2 114 hi g 114 hi = g := up_s _ _ _ _
  generalize up X2 114 hi g = X3 at z1 z2 z3 z4 z5 z6 ⊢
  rw [Cd_add_e (by omega) (by omega) (by decide) (by decide), bd_some]
  have cv := adC_v X3 30 z a g
  rw [z3] at cv
  exact ⟨_, rfl, z1.tr (kC_ad _ _ _ _ _), by rw [adC_o (by omega) (by omega)]; exact z2, by rw [adC_s, z3], by rw [adC_o (by omega) (by omega)]; exact z4, fun o k q1 q2 q3 q4 q5 => by rw [adC_o (by omega) (by omega)]; exact z5 o k q1 q2 q3 q4 q5, by rw [adC_o (by omega) (by omega)]; exact z6, cv⟩
theorem call_loop {n : Int} {f : Int → Int} {P W : Int} {e : Nat} (hd : (e : Int) ≤ 600) (hE : ExprOK n f P W e) {G1 T1 : St} {base z a : Int} (hP : PR n f G1 T1) (h0 : 0 ≤ base) (hb : base ≤ T1 100 20) (hA : AD (G1 150 3) ≤ e + 3) :
    ∀ (k : Nat) (g : Int) (Gk Tk : St), CI n f P W G1 T1 z a g Gk Tk → (n - Gk 150 2).toNat < k → ∃ G', Rd_call_l51 (RE e) z a (G1 110 4) g 1 Gk = some (0, G') ∧ (FLX n f (4 * e + 4) P W base G' Tk ∨ ∃ T6, Lx P W base 1 Tk = KS P W base T6 ∧ OKX n f P W G1 T1 G' T6) := by
  intro k
  induction k with
  | zero => intro g Gk Tk _ hk; omega
  | succ k ih =>
    intro g Gk Tk hI hk
    obtain ⟨pk, i2, i3, i4, i5, i6, ⟨i7, i8, i9⟩, ⟨j1, j2, j3, j4⟩, iW, ⟨w1, w2, w3, w4⟩, ⟨g0, g1⟩, n1, n2⟩ := hI
    have N1 := hP.nums
    have Nk := pk.nums
    have lw := wf_le iW
    unfold AD at hA
    have wk : Tk 100 20 - 1 = T1 100 20 := by omega
    rw [Rd_call_l51_eq]
    unfold Rd_call_s51
    rw [if_neg (by decide), Ft_is_0 Nk.2.2.2.2.2.1, bd_some, if_pos rfl]
    obtain ⟨G5, e5, R⟩ := hE Gk Tk base pk h0 (by omega) (Or.inr ⟨by rw [wk, w1]; decide, by rw [wk, w1]; decide⟩) (by unfold AD; omega)
    rw [e5, bd_some]
    rcases R with ⟨w, p, T', fg, lx', fx⟩ | ⟨T1', T5, L1, L2, L3, L4, L5, L6⟩
    · have fa := FG_add fg 29 z a g
      rw [FG_add_e fg (by omega) z a g (by decide) (by decide), bd_some, ckI_p (by omega) (by omega), Ft_is_1 (FG_F fa), bd_some, if_neg (by decide)]
      unfold Rd_call_b113
      rw [if_pos rfl]
      obtain ⟨G', e6, fg'⟩ := call_t (z := z) (a := a) (hi := G1 110 4) (g := g + 1) fa (by omega) (by omega) (by omega) (RE e)
      exact ⟨G', (l51_0 (RE e)).trans e6, Or.inl ⟨w, p, T', fg'.mono (by omega), lx', fx⟩⟩
    · have L3' := L3
      obtain ⟨q1, q2, q3, q4, q5, q6, q7, q8, q9, q10, q11, q12⟩ := L3'
      have N5 := q1.nums
      have l5 := wf_le q7
      have tw : ∀ o, (o = 122 ∨ o = 123 ∨ o = 124 ∨ o = 125) → T5 o (T1 100 20) = Tk o (T1 100 20) := fun o ho => q5.2 o _ ho (by omega) (by omega)
      have tp1 := (tw 122 (by decide)).trans w1
      have tp2 := (tw 123 (by decide)).trans w2
      have tp3 := (tw 124 (by decide)).trans w3
      have tp4 := (tw 125 (by decide)).trans w4
      have w5 : T5 100 20 - 1 = T1 100 20 := by omega
      obtain ⟨b, hbb⟩ : ∃ b, b = sk n f (G5 150 2) := ⟨_, rfl⟩
      rw [← hbb] at L5 L6
      have e6 : sk n f (T5 100 6) = b := by rw [hbb, N5.1.2.2.2.2]
      have g5 := sk_ge n f (T5 100 6)
      have g6 := sk_ge n f (G5 150 2)
      have g7 := sk_le (f := f) N5.1.2.1
      have lc := Lx_cl (P := P) (W := W) L4 (by omega) (by omega) e6 L5 L6 L2 (TB_of q1) (Or.inr ⟨by rw [w5, tp1]; decide, by rw [w5, tp1]; decide⟩) h0
      have sM := TS_md T5 b 0
      have FM := ts_F q1 sM
      have bM := TB_md (TB_of q1) b 0
      have mo : ∀ o k, 115 ≤ o → md T5 b 0 o k = T5 o k := fun o k q => md_o (by omega)
      have mwn : md T5 b 0 100 25 = 0 := up_s _ _ _ _
      generalize md T5 b 0 = M at lc sM FM bM mo mwn
      obtain ⟨m1, m2, m3, m4, m5, m6, m7⟩ := sM
      have wM : M 100 20 - 1 = T1 100 20 := by omega
      have k1 : M 123 (T1 100 20) = T1 100 13 + 1 := (mo _ _ (by decide)).trans tp2
      have k2 : M 125 (T1 100 20) = g := (mo _ _ (by decide)).trans tp4
      have k3 : M 124 (T1 100 20) = a := (mo _ _ (by decide)).trans tp3
      have bb := b51_7 (base := base) FM.2 m2 (by omega) (by omega) bM FM.1 (by omega) h0 (by rw [wM]; exact (mo _ _ (by decide)).trans tp1) (by rw [wM, k1]; omega) (by rw [wM, k1]; omega) (by rw [wM, k2]; omega) (by rw [wM, k2]; omega)
      rw [wM, k1, k2] at bb
      rw [bb] at lc
      rw [Cd_add_e (by omega) (by omega) (by decide) (by decide), bd_some, ckI_p (by omega) (by omega)]
      have sA := CS_ad G5 29 z a g
      have cv := adC_v G5 29 z a g
      have FA := cs_F q1 sA
      generalize adC G5 29 z a g = GA at sA cv FA ⊢
      obtain ⟨x1, x2, x3, x4, x5⟩ := sA
      rw [Ft_is_0 FA.1, bd_some, if_pos rfl, Rd_isSign_e FA.2 (by omega) (by omega) 44, bd_some, x2, ← hbb]
      have sS := (show CS G5 GA _ _ _ from ⟨x1, x2, x3, x4, x5⟩).nsk (by omega) n f
      rw [← hbb] at sS
      have cS : ∀ o k, o ≠ 150 → skC n f GA o k = GA o k := fun o k q => skC_o _ _ _ _ q
      have FS := cs_F q1 sS
      generalize skC n f GA = GS at sS cS FS ⊢
      by_cases c44 : lkF n f b = 44
      · rw [if_pos c44] at lc
        rw [if_pos c44, if_neg (by decide)]
        have lt := lkF_lt c44 (by decide)
        unfold Rd_call_b113
        have sa := sS.2.1
        rw [if_neg (by decide), sa, ckI_p (by omega) (by omega), tk_e]
        have sN := sS.nat (by omega) (b + 1)
        have cN : ∀ o k, o ≠ 150 → up GS 150 2 (b + 1) o k = GA o k := fun o k q => by rw [up_o _ q]; exact cS o k q
        generalize up GS 150 2 (b + 1) = GN at sN cN ⊢
        obtain ⟨c1, c2, c3, c4, c5, c6, c7, c8, c9, c10, c11⟩ := cmT_s (T := M) (T1 100 13 + 1)
        generalize cmT M (T1 100 13 + 1) = TN at c1 c2 c3 c4 c5 c6 c7 c8 c9 c10 c11 lc
        have lc2 : Lx P W base 0 T1' = Lx P W base 1 TN := by rw [lc, bd_some, c11]; rfl
        rw [wM] at c7 c8
        rw [k2] at c8
        have pN : PR n f GN TN := q1.kv sN (m1.tr c1) (by rw [c2, m2]) (by rw [c3, m3]) (by rw [c4, m4]) (by rw [c5, m5]) (by rw [c6, m6]) (by omega) (by omega) (by omega) (by omega) rfl (by omega) (by omega) (by omega) (by omega) (by omega) (by omega) (by omega) (by omega) (by omega)
        obtain ⟨y1, y2, y3, y4, y5⟩ := sN
        have tN : ∀ o k, 115 ≤ o → ¬ (o = 125 ∧ k = T1 100 20) → k < T5 100 13 ∨ 119 < o → TN o k = T5 o k := fun o k r1 r2 r3 => by rw [c7 o k r1 r2 (by omega)]; exact mo o k r1
        have tb5 : tb T1 T5 := i5.tr q5 (by omega) (by omega)
        have a5 : agC G1 G5 0 (G1 110 4) := i6.tr q6 (by omega) (by omega)
        have r5 : ∀ o, 111 ≤ o → o ≤ 114 → GN o (G1 110 4) = Gk o (G1 110 4) := fun o r1 r2 => by rw [y5 o _ r1 r2 (by omega) (by omega), q6 o _ r1 r2 (by omega) (by omega)]
        have s5 : ∀ o k, 115 ≤ o → o ≤ 118 → 0 ≤ k → k < Tk 100 13 → TN o k = Tk o k := fun o k r1 r2 r3 r4 => by rw [tN o k r1 (by omega) (by omega), q5.1 o k (by omega) r3 r4]
        have aw := arg_wf (G' := GN) (T' := TN) iW L3 (by omega) g0 (by omega) (by omega) (y5.mono (by omega) (Int.le_refl _)) (fun o k r1 r2 r3 => tN o k (by omega) (by omega) (Or.inl r3)) (by rw [cN _ _ (by decide)]; exact cv.1) (by rw [cN _ _ (by decide)]; exact cv.2.1) (by rw [cN _ _ (by decide)]; exact cv.2.2.2) (by rw [← m3]; exact c9) (by rw [← m3, c10]; omega)
        have hI' : CI n f P W G1 T1 z a (g + 1) GN TN := by
          refine ⟨pN, by omega, by omega, by omega, ⟨?_, ?_⟩, ?_, ⟨?_, ?_, ?_⟩, ⟨?_, ?_, ?_, ?_⟩, ?_, ⟨?_, ?_, ?_, c8⟩, ⟨by omega, by omega⟩, by omega, by omega⟩
          · intro o k r1 r2 r3
            rw [tN o k (by omega) (by omega) (by omega), tb5.1 o k r1 r2 r3]
          · intro o k r1 r2 r3
            rw [tN o k (by omega) (by omega) (by omega), tb5.2 o k r1 r2 r3]
          · exact a5.tr y5 (by omega) (by omega)
          · rw [r5 _ (by decide) (by decide)]; exact i7
          · rw [r5 _ (by decide) (by decide)]; exact i8
          · rw [r5 _ (by decide) (by decide)]; exact i9
          · rw [s5 _ _ (by decide) (by decide) (by omega) (by omega)]; exact j1
          · rw [s5 _ _ (by decide) (by decide) (by omega) (by omega)]; exact j2
          · rw [s5 _ _ (by decide) (by decide) (by omega) (by omega)]; exact j3
          · rw [s5 _ _ (by decide) (by decide) (by omega) (by omega)]; exact j4
          · rw [y3, c3, m3]; exact aw
          · rw [tN _ _ (by decide) (by omega) (by omega)]; exact tp1
          · rw [tN _ _ (by decide) (by omega) (by omega)]; exact tp2
          · rw [tN _ _ (by decide) (by omega) (by omega)]; exact tp3
        obtain ⟨G', e7, R⟩ := ih (g + 1) GN TN hI' (by omega)
        refine ⟨G', e7, ?_⟩
        rcases R with ⟨w, p, T', fg, lx', fx⟩ | ⟨T6, M1, M2⟩
        · exact Or.inl ⟨w, p, T', fg, by rw [L1, lc2, lx'], fx⟩
        · exact Or.inr ⟨T6, by rw [L1, lc2, M1], M2⟩
      · rw [if_neg c44] at lc
        rw [if_neg c44, if_pos rfl]
        unfold Rd_call_b113
        rw [if_pos rfl]
        show ∃ G', Rd_call_l51 (RE e) z a (G1 110 4) (g + 1) 0 GS = some (0, G') ∧ _
        rw [l51_0]
        obtain ⟨x1', x2', x3', x4', x5'⟩ := sS
        by_cases c41 : lkF n f b = 41
        · rw [if_pos c41] at lc
          have lt := lkF_lt c41 (by decide)
          have bbs : sk n f b = b := by rw [hbb, sk_sk]
          obtain ⟨G', e7, f1, f2, f3, f4, f5, f6, f7⟩ := call_e (z := z) (a := a) (hi := G1 110 4) (g := g + 1) FS.2 FS.1 (by rw [x2']; exact bbs) (by omega) (by omega) (by omega) (by omega) (by omega) (by omega) (by omega) c41 (RE e)
          rw [x3'] at f3 f5 f7
          obtain ⟨c1, c2, c3, c4, c5, c6, c7, c8, c9, c10, c11, c12⟩ := caT_s (T := M) (hd := T1 100 13 + 1) (g := g + 1) (l := 0) (by rw [wM]; exact k1) (by omega) (Or.inl rfl)
          generalize caT M (g + 1) 0 = TN at c1 c2 c3 c4 c5 c6 c7 c8 c9 c10 c11 c12 lc
          have c9' := c9 rfl
          rw [wM, k3] at c11
          refine ⟨G', e7, Or.inr ⟨TN, ?_, ?_⟩⟩
          · rw [L1, lc]
            unfold KS
            exact so_go (by rw [c12]; exact mwn)
          · have tN : ∀ o k, 115 ≤ o → ¬ (o = 117 ∧ k = T1 100 13 + 1) → k < T5 100 13 ∨ 119 < o → TN o k = T5 o k := fun o k r1 r2 r3 => by rw [c7 o k r1 r2 (by omega)]; exact mo o k r1
            have tb5 : tb T1 T5 := i5.tr q5 (by omega) (by omega)
            have gN : ∀ o k, 111 ≤ o → o ≤ 114 → ¬ (o = 114 ∧ k = G1 110 4) → 0 ≤ k → k < G5 110 4 → G' o k = G5 o k := fun o k r1 r2 r3 r4 r5 => by rw [f5 o k r1 r2 r3 r4 (by omega), x5' o k r1 r2 r4 r5]
            have gR : ∀ o, 111 ≤ o → o ≤ 113 → G' o (G1 110 4) = Gk o (G1 110 4) := fun o r1 r2 => by rw [gN o _ r1 (by omega) (by omega) (by omega) (by omega), q6 o _ r1 (by omega) (by omega) (by omega)]
            have gA : ∀ o, 111 ≤ o → o ≤ 114 → G' o (G5 110 4) = GA o (G5 110 4) := fun o r1 r2 => by rw [f5 o _ r1 r2 (by omega) (by omega) (by omega)]; exact cS o _ (by omega)
            have s5 : ∀ o k, 115 ≤ o → o ≤ 118 → ¬ (o = 117 ∧ k = T1 100 13 + 1) → 0 ≤ k → k < Tk 100 13 → TN o k = Tk o k := fun o k r1 r2 r0 r3 r4 => by rw [tN o k r1 r0 (by omega), q5.1 o k (by omega) r3 r4]
            have aw := arg_wf (G' := G') (T' := TN) iW L3 (by omega) g0 (by omega) (by omega) (fun o k r1 r2 r3 r4 => gN o k r1 r2 (by omega) (by omega) r4) (fun o k r1 r2 r3 => tN o k (by omega) (by omega) (Or.inl r3)) (by rw [gA _ (by decide) (by decide)]; exact cv.1) (by rw [gA _ (by decide) (by decide)]; exact cv.2.1) (by rw [gA _ (by decide) (by decide)]; exact cv.2.2.2) (by rw [← m3]; exact c9'.1) (by rw [← m3, c9'.2]; omega)
            have pr : PR n f G' TN := q1.kk (x1'.tr f1) f2 f3 (by rw [f4, x4']) (m1.tr c1) (by rw [c2, m2]) c3 (by rw [c4, m4]) (by rw [c5, m5]) (by rw [c6, m6]) (by omega) (by omega) (by omega) (by omega) rfl (by omega) (by omega) (by omega) (by omega) (by omega) (by omega) (by omega) (by omega) (by omega)
            refine call_fin (Gk := Gk) (Tk := Tk) (z := z) (a := a) (g := g + 1) (j := G5 110 4 + 1) (q := T5 100 13 + 1) hP ?_ ⟨?_, ?_⟩ i6 pr (by omega) (by omega) (by omega) f3 (by omega) (by omega) (by omega) (by omega) ?_ ?_ ?_ f6 ?_ ?_ ?_ c8 ?_ aw f7.1 f7.2.1 f7.2.2.1 f7.2.2.2 ?_ ?_
            · intro o k r1 r2 r3 r4
              rw [gN o k r1 r2 (by omega) r3 (by omega), q6 o k r1 r2 r3 (by omega)]
            · intro o k r1 r2 r3
              rw [tN o k (by omega) (by omega) (by omega), tb5.1 o k r1 r2 r3]
            · intro o k r1 r2 r3
              rw [tN o k (by omega) (by omega) (by omega), tb5.2 o k r1 r2 r3]
            · rw [gR _ (by decide) (by decide)]; exact i7
            · rw [gR _ (by decide) (by decide)]; exact i8
            · rw [gR _ (by decide) (by decide)]; exact i9
            · rw [s5 _ _ (by decide) (by decide) (by omega) (by omega) (by omega)]; exact j1
            · rw [s5 _ _ (by decide) (by decide) (by omega) (by omega) (by omega)]; exact j2
            · rw [s5 _ _ (by decide) (by decide) (by omega) (by omega) (by omega)]; exact j3
            · rw [s5 _ _ (by decide) (by decide) (by omega) (by omega) (by omega)]; exact j4
            · rw [show T5 100 13 + 1 = M 100 13 + 1 - 0 by omega]; exact c10
            · rw [show T5 100 13 + 1 = M 100 13 + 1 - 0 by omega]; exact c11
        · rw [if_neg c41] at lc
          have fg0 : FG n f 0 1 b (fC 1 b (skC n f GS)) := by
            have sZ := (show CS G5 GS _ _ _ from ⟨x1', x2', x3', x4', x5'⟩).nsk (by omega) n f
            exact FG_cs q1 sZ (by rw [hbb, sk_sk]; omega) (by rw [hbb, sk_sk]; omega) (by omega) (by omega) (by omega) (by omega) (by decide)
          unfold Rd_call_b133
          rw [Rd_sign_e (c := 41) (by decide) FS.2 (by omega) (by omega), bd_some, if_pos FS.1, x2', show sk n f b = b by rw [hbb, sk_sk], sg_c (by decide) (by decide), if_neg c41, if_neg (by decide)]
          obtain ⟨G', e7, fg'⟩ := call_t2 (z := z) (a := a) (hi := G1 110 4) (g := g + 1) fg0 (by omega) (by omega) (by omega)
          obtain ⟨T', lf, fx⟩ := Lx_fx (P := P) (W := W) (base := base) (w := fT 1 b M 100 25) (x := 1) (FX_fT (p := b) M (show (0 : Int) < 1 by decide))
          exact ⟨G', e7, Or.inl ⟨1, b, T', fg'.mono (by omega), by rw [L1, lc, bd_some]; exact lf, fx⟩⟩
