/-! PLAIN: statements and blocks: what is said of them -/
noncomputable def Lp (P W : Int) (T : St) : Option (Int × St) := Tw_program_l42 P W 1 T
noncomputable def KB (P W : Int) (T : St) : Option (Int × St) := bd (Tw_closeBlock_l220 P W T) fun _ T' => Lp P W T'
/-- the blocks that were open are open -/
def bk (T T1 : St) (m : Int) : Prop := ∀ o k, (o = 128 ∨ o = 129) → 0 ≤ k → k < m → T1 o k = T o k
theorem bk.tr {T T1 T2 : St} {m m' : Int} (h : bk T T1 m) (h2 : bk T1 T2 m') (hm : m ≤ m') : bk T T2 m := fun o k a b c => (h2 o k a b (by omega)).trans (h o k a b c)
def OKZ (n : Int) (f : Int → Int) (P W : Int) (G T G' T1 : St) : Prop := OKS n f P W G T G' T1 (T 100 30) (T1 100 30) ∧ VQ G' T1 ∧ bk T T1 (T 100 26)
def FLP (n : Int) (f : Int → Int) (k : Int) (G' : St) (r : Option (Int × St)) : Prop := ∃ w p T', FG n f k w p G' ∧ r = some (0, T') ∧ FX w p T'
def AS (D : Int) : Int := 4 * (31 - D)
def FKd (d : Nat) : Int := 2500 + 5 * d
def StmtOK (n : Int) (f : Int → Int) (P W : Int) (d : Nat) : Prop := ∀ (G T : St) (a : Int), PR n f G T → SB G T → VQ G T → G 150 2 = a → T 100 6 = a → sk n f a = a → (a < n ∨ 0 < T 100 26) → (lkF n f a ≠ 125 ∨ T 100 26 = 0) → (T 100 26 = 0 ∨ T 128 (T 100 26 - 1) ≠ 12) → (0 < T 100 26 ∨ (iw n f a 0 = 0 ∧ iw n f a 3 = 0 ∧ iw n f a 8 = 0)) → AS (G 150 3) + 3 ≤ d → ∃ G', RS d 0 [] G = some (0, G') ∧ (FLP n f (FKd d) G' (Lp P W T) ∨ ∃ T1, Lp P W T = Lp P W T1 ∧ OKZ n f P W G T G' T1)
/-- the inside of a block was read, and its end is here -/
def BK (n : Int) (f : Int → Int) (P W kk idx : Int) (G T Gb T1 G' : St) (b : Int) : Prop :=
  PR n f Gb T1 ∧ SB Gb T1 ∧ VQ Gb T1 ∧ (Gb 150 2 = b ∧ T1 100 6 = b ∧ lkF n f b = 125) ∧ Gb 150 3 = G 150 3 + 1 ∧ T1 100 20 = T 100 20 ∧ T1 100 26 = T 100 26 + 1 ∧ T1 128 (T 100 26) = kk ∧ T1 129 (T 100 26) = idx ∧ bk T T1 (T 100 26) ∧ tb T T1 ∧ agC G Gb 0 (G 110 4) ∧ Gb 111 (G 110 4) = 20 ∧ G 150 2 < b ∧ T 100 6 < b ∧ (Gb 110 4 + 2 * G 150 2 + 1 ≤ G 110 4 + 2 * b ∧ T1 100 13 + 4 * T 100 6 + 4 ≤ T 100 13 + 4 * b) ∧
  WF P W Gb T1 3 (G 110 4 + 1) (Gb 110 4) (T 100 13) (T1 100 13) (T 100 30) (T1 100 30) (G 150 3 + 1) ∧ G' = adC (up (up Gb 150 2 (b + 1)) 150 3 (G 150 3)) 21 0 (b + 1) 0
def BlockOK (n : Int) (f : Int → Int) (P W : Int) (d : Nat) : Prop := ∀ (G T : St) (kk idx : Int), PR n f G T → SB G T → VQ G T → kk ≠ 12 → AS (G 150 3) + 1 ≤ d → ∃ G', RS d 1 [] G = some (0, G') ∧ (FLP n f (FKd d) G' (bd (Tw_openBlock kk idx T) fun _ T' => Lp P W T') ∨ ∃ Gb T1 b, (bd (Tw_openBlock kk idx T) fun _ T' => Lp P W T') = (bd (Tw_closeBlock P W T1) fun _ T' => Lp P W T') ∧ BK n f P W kk idx G T Gb T1 G' b)
def CondOK (n : Int) (f : Int → Int) (P W : Int) (d : Nat) : Prop := ∀ (G T : St) (a : Int), PR n f G T → SB G T → VQ G T → G 150 2 = a → T 100 6 = a → sk n f a = a → iw n f a 6 = 1 → AS (G 150 3) + 2 ≤ d → ∃ G', RS d 2 [] G = some (0, G') ∧ (FLP n f (FKd d) G' (bd (Tw_ifStatement P W a T) fun _ T' => Lp P W T') ∨ ∃ T1, (bd (Tw_ifStatement P W a T) fun _ T' => Lp P W T') = KB P W T1 ∧ OKZ n f P W G T G' T1)
def LoopOK (n : Int) (f : Int → Int) (P W : Int) (d : Nat) : Prop := ∀ (G T : St) (a : Int), PR n f G T → SB G T → VQ G T → G 150 2 = a → T 100 6 = a → sk n f a = a → iw n f a 4 = 1 → AS (G 150 3) + 2 ≤ d → ∃ G', RS d 3 [] G = some (0, G') ∧ (FLP n f (FKd d) G' (bd (Tw_forStatement P W a T) fun _ T' => Lp P W T') ∨ ∃ T1, (bd (Tw_forStatement P W a T) fun _ T' => Lp P W T') = Lp P W T1 ∧ OKZ n f P W G T G' T1)
theorem Lp_flt {P W : Int} {T : St} (h : T 100 7 ≠ 0) : Lp P W T = some (0, T) := by
  unfold Lp
  rw [Tw_program_l42_eq]
  unfold Tw_program_s42
  rw [if_neg (by decide), if_neg h]
  rfl
theorem l42_0 {P W : Int} {T : St} : Tw_program_l42 P W 0 T = some (0, T) := by
  rw [Tw_program_l42_eq]
  unfold Tw_program_s42
  rw [if_pos rfl]
  rfl
/-- the twin at a statement's begin -/
theorem Lp_e {n : Int} {f : Int → Int} {P W a : Int} {T : St} (hT : TT n f T) (ha : T 100 6 = a) (a0 : 0 ≤ a) (a1 : a ≤ n) (hsk : sk n f a = a) (hF : T 100 7 = 0) : Lp P W T = (if a = n then (if 0 < T 100 26 then some (0, fT 1 a T) else some (0, T)) else if lkF n f a = 125 ∧ 0 < T 100 26 then (bd (Tw_closeBlock P W T) fun _ T' => Lp P W T') else (Tw_program_b117 P W 1 a T).bind (lk (fun s => Tw_program_l42 P W s.1 s.2) some)) := by
  have hn := hT.2.2.1
  have ht := hT.1
  conv => lhs; unfold Lp
  rw [Tw_program_l42_eq]
  unfold Tw_program_s42 Tw_program_b89
  rw [if_neg (by decide), if_pos hF, Tw_gap_e hT (by omega) (by omega), bd_some, ha, hsk, up_id' ha.symm, ha, ht]
  by_cases c : a = n
  · rw [if_pos c, if_pos c]
    by_cases c2 : 0 < T 100 26
    · rw [if_pos c2, if_pos c2, Tw_fail_e hF, bd_some]
      exact l42_0
    · rw [if_neg c2, if_neg c2]
      exact l42_0
  · rw [if_neg c, if_neg c, Tw_isSign_e hT (by omega) (by omega) 125, bd_some, ha, sg_c (by decide) (by decide)]
    by_cases c3 : lkF n f a = 125
    · rw [if_pos c3, if_neg (by decide)]
      by_cases c4 : 0 < T 100 26
      · rw [if_pos c4, if_pos ⟨c3, c4⟩, bd_bind]
        rfl
      · rw [if_neg c4, if_neg (fun q => c4 q.2)]
    · rw [if_neg c3, if_pos rfl, if_neg (fun q => c3 q.1)]
theorem Lp_sk {n : Int} {f : Int → Int} {P W : Int} {T : St} (hT : TT n f T) (a0 : 0 ≤ T 100 6) (a1 : T 100 6 ≤ n) (hF : T 100 7 = 0) : Lp P W T = Lp P W (skT n f T) := by
  have g := sk_ge n f (T 100 6)
  have g2 := sk_le (f := f) a1
  unfold Lp
  rw [Tw_program_l42_eq, Tw_program_l42_eq]
  unfold Tw_program_s42
  rw [if_neg (show ¬ (1 : Int) = 0 by decide), if_neg (show ¬ (1 : Int) = 0 by decide), if_pos hF, if_pos (by rw [skT_k _ _ _ _ (by decide)]; exact hF), Tw_gap_e hT a0 a1, Tw_gap_e (skT_TT hT) (by rw [skT_at]; omega) (by rw [skT_at]; omega), show up (skT n f T) 100 6 (sk n f (skT n f T 100 6)) = skT n f (skT n f T) from rfl, skT_skT]
  rfl
theorem SB.skp {n : Int} {f : Int → Int} {G T : St} (h : SB G T) : SB (skC n f G) (skT n f T) := by
  unfold SB at *
  have g := sk_ge n f (G 150 2)
  have g' := sk_ge n f (T 100 6)
  rw [skC_at, skT_at, skC_o _ _ _ _ (by decide), skT_k _ _ _ _ (by decide), skT_k _ _ _ _ (by decide), skT_k _ _ _ _ (by decide)]
  omega
theorem VQ.skp {n : Int} {f : Int → Int} {G T : St} (h : VQ G T) : VQ (skC n f G) (skT n f T) := h.tr (skC_k _ _ _ _ (by decide)) (skC_k _ _ _ _ (by decide)) (skT_k _ _ _ _ (by decide)) (skT_k _ _ _ _ (by decide))
theorem PR.skp {n : Int} {f : Int → Int} {G T : St} (h : PR n f G T) : PR n f (skC n f G) (skT n f T) := by
  have N := h.nums
  have g := sk_ge n f (G 150 2)
  have g1 := sk_ge n f (T 100 6)
  have g2 := sk_le (f := f) N.1.2.1
  have g3 := sk_le (f := f) N.1.2.2.2.1
  exact h.mv (CS_sk n f G) (TS_sk n f T) (by omega) (by omega) (by omega) (by omega) (by rw [N.1.2.2.2.2]) (by omega) (by omega) (by omega) (by omega) (by omega) (by omega) (by omega) (by omega) (by omega)
/-- the end of a block, behind a fault -/
theorem bl_f {n : Int} {f : Int → Int} {k w p : Int} {G : St} (h : FG n f k w p G) (hk : k ≤ 5500) (Rf : Nat → List Int → St → Option (Int × St)) : ∃ G', Rd_block_b91 Rf G = some (0, G') ∧ FG n f (k + 3) w p G' := by
  have nn := h.num
  have h1 := FG_at (h.mono (show k ≤ k + 1 by omega)) (x := G 150 2 + 1) (by omega) (by omega)
  have h2 := FG_deep h1 (x := up G 150 2 (G 150 2 + 1) 150 3 - 1) (by omega) (by omega)
  unfold Rd_block_b91
  rw [ckI_p (by omega) (by omega), tk_e, fl_up h1 (by omega), FG_add_e h2 (by omega) 0 _ 0 (by decide) (by decide), bd_some]
  exact ⟨_, rfl, (FG_add h2 _ _ _ _).mono (by omega)⟩
theorem bl_lf {n : Int} {f : Int → Int} {k w p : Int} {G : St} (h : FG n f k w p G) (hk : k ≤ 5500) (Rf : Nat → List Int → St → Option (Int × St)) : ∃ G', Rd_block_l65 Rf G = some (0, G') ∧ FG n f (k + 3) w p G' := by
  obtain ⟨G', e, fg⟩ := bl_f h hk Rf
  refine ⟨G', ?_, fg⟩
  rw [Rd_block_l65_eq]
  unfold Rd_block_s65
  rw [Ft_is_1 (FG_F h), bd_some, if_neg (by decide), e]
  rfl
/-- between two statements of a block -/
def BI (n : Int) (f : Int → Int) (P W kk idx : Int) (G T Gk Tk : St) : Prop :=
  PR n f Gk Tk ∧ SB Gk Tk ∧ VQ Gk Tk ∧ Gk 150 3 = G 150 3 + 1 ∧ Tk 100 20 = T 100 20 ∧ Tk 100 26 = T 100 26 + 1 ∧ Tk 128 (T 100 26) = kk ∧ Tk 129 (T 100 26) = idx ∧ bk T Tk (T 100 26) ∧ tb T Tk ∧ agC G Gk 0 (G 110 4) ∧ Gk 111 (G 110 4) = 20 ∧ sk n f (G 150 2) < Gk 150 2 ∧ (Gk 110 4 + 2 * G 150 2 + 1 ≤ G 110 4 + 2 * Gk 150 2 ∧ Tk 100 13 + 4 * T 100 6 + 4 ≤ T 100 13 + 4 * Tk 100 6) ∧
  WF P W Gk Tk 3 (G 110 4 + 1) (Gk 110 4) (T 100 13) (Tk 100 13) (T 100 30) (Tk 100 30) (G 150 3 + 1)
theorem bl_loop {n : Int} {f : Int → Int} {P W : Int} {d : Nat} (hd : (d : Int) ≤ 600) (hSt : StmtOK n f P W d) {G T : St} {kk idx : Int} (hP : PR n f G T) (hkk : kk ≠ 12) (hA : AS (G 150 3) ≤ d) (d30 : G 150 3 + 1 ≤ 30) :
    ∀ (k : Nat) (Gk Tk : St), BI n f P W kk idx G T Gk Tk → (n - Gk 150 2).toNat < k → ∃ G', Rd_block_l65 (RS d) Gk = some (0, G') ∧ (FLP n f (FKd (d + 1)) G' (Lp P W Tk) ∨ ∃ Gb T1 b, Lp P W Tk = (bd (Tw_closeBlock P W T1) fun _ T' => Lp P W T') ∧ BK n f P W kk idx G T Gb T1 G' b) := by
  intro k
  induction k with
  | zero => intro Gk Tk _ hk; omega
  | succ k ih =>
    intro Gk Tk hI hk
    obtain ⟨p1, i2, i3, i4, i5, i6, i7, i8, i9, i10, i11, i12, i13, i14, i15⟩ := hI
    have s1 := sk_ge n f (G 150 2)
    have s2 := sk_ge n f (T 100 6)
    have N := p1.nums
    have N0 := hP.nums
    have s3 := N0.1.2.2.2.2
    have lw := wf_le i15
    rw [Rd_block_l65_eq]
    unfold Rd_block_s65
    rw [Ft_is_0 N.2.2.2.2.2.1, bd_some, if_pos rfl, Rd_isSign_e p1.1.1 (by omega) (by omega) 125, bd_some]
    obtain ⟨b, hbb⟩ : ∃ b, sk n f (Gk 150 2) = b := ⟨_, rfl⟩
    have hbT : sk n f (Tk 100 6) = b := by rw [← N.1.2.2.2.2, hbb]
    have gb := sk_ge n f (Gk 150 2)
    have gb1 := sk_ge n f (Tk 100 6)
    have gb2 := sk_le (f := f) N.1.2.1
    rw [hbb] at gb gb2 ⊢
    rw [hbT] at gb1
    have hsk : sk n f b = b := by rw [← hbb, sk_sk]
    have lsk := Lp_sk (P := P) (W := W) p1.1.2.1 (by omega) (by omega) N.2.2.2.2.2.2
    have p2 := p1.skp
    have sb2 := i2.skp (n := n) (f := f)
    have vq2 := i3.skp (n := n) (f := f)
    have sC := CS_sk n f Gk
    have sT := TS_sk n f Tk
    have tF := ts_F p1 sT
    rw [hbb] at sC
    rw [hbT] at sT
    have cC : ∀ o k, o ≠ 150 → skC n f Gk o k = Gk o k := fun o k q => skC_o _ _ _ _ q
    have cT : ∀ o k, o ≠ 100 → skT n f Tk o k = Tk o k := fun o k q => skT_o _ _ _ _ q
    have vT : skT n f Tk 100 30 = Tk 100 30 := skT_k _ _ _ _ (by decide)
    generalize skC n f Gk = GS at p2 sb2 vq2 sC cC ⊢
    generalize skT n f Tk = TS' at p2 sb2 vq2 sT cT vT tF lsk
    obtain ⟨c1, c2, c3, c4, c5⟩ := sC
    obtain ⟨d1, d2, d3, d4, d5, d6, d7⟩ := sT
    have bk0 : bk T TS' (T 100 26) := fun o k h1 h2 h3 => by rw [cT o k (by omega)]; exact i9 o k h1 h2 h3
    have wf0 : WF P W GS TS' 3 (G 110 4 + 1) (GS 110 4) (T 100 13) (TS' 100 13) (T 100 30) (TS' 100 30) (G 150 3 + 1) := by
      rw [c3, d3, vT]
      exact (i15.cg (G1 := GS) (T1 := TS')).2.2 (c5.mono (by omega) (by omega)) (d7.1.mono (by omega) (by omega))
    by_cases c125 : lkF n f b = 125
    · rw [if_pos c125, if_neg (by decide)]
      have lt := lkF_lt c125 (by decide)
      have le := Lp_e (P := P) (W := W) tF.2 d2 (by omega) (by omega) hsk tF.1
      rw [if_neg (by omega), if_pos ⟨c125, by omega⟩] at le
      unfold Rd_block_b91
      have eat : up GS 150 2 (b + 1) 150 3 = G 150 3 + 1 := by rw [up_k _ (by decide)]; omega
      have ea2 : up (up GS 150 2 (b + 1)) 150 3 (G 150 3) 150 2 = b + 1 := by rw [up_k _ (by decide), up_s]
      have ez2 : up (up GS 150 2 (b + 1)) 150 3 (G 150 3) 110 4 = GS 110 4 := by rw [up_o _ (by decide), up_o _ (by decide)]
      rw [c2, ckI_p (by omega) (by omega), tk_e, eat, ckI_p (by omega) (by omega), tk_e, show G 150 3 + 1 - 1 = G 150 3 by omega, ea2, Cd_add_e (by omega) (by omega) (by decide) (by decide), bd_some]
      refine ⟨_, rfl, Or.inr ⟨GS, TS', b, by rw [lsk, le], p2, sb2, vq2, ⟨c2, d2, c125⟩, by omega, by omega, by omega, ?_, ?_, bk0, ?_, ?_, ?_, by omega, by omega, ⟨by omega, by omega⟩, wf0, rfl⟩⟩
      · rw [cT _ _ (by decide)]; exact i7
      · rw [cT _ _ (by decide)]; exact i8
      · exact i10.tr d7 (by omega) (by omega)
      · exact i11.tr c5 (by omega) (by omega)
      · rw [cC _ _ (by decide)]; exact i12
    · rw [if_neg c125, if_pos rfl]
      obtain ⟨G5, e5, R⟩ := hSt GS TS' b p2 sb2 vq2 c2 d2 hsk (Or.inr (by omega)) (Or.inl c125) (Or.inr (by rw [d6, i6, show T 100 26 + 1 - 1 = T 100 26 by omega, cT _ _ (by decide), i7]; exact hkk)) (Or.inl (by omega)) (by unfold AS at *; omega)
      rw [e5, bd_some]
      rcases R with ⟨w, p, T', fg, lx, fx⟩ | ⟨T5, lx, ⟨o1, o2, o3, o4, o5, o6, o7, o8, o9, o10⟩, vq5, bk5⟩
      · obtain ⟨G', e6, fg'⟩ := bl_lf fg (by unfold FKd; omega) (RS d)
        exact ⟨G', e6, Or.inl ⟨w, p, T', fg'.mono (by unfold FKd; omega), by rw [lsk, lx], fx⟩⟩
      · have lw5 := wf_le o7
        have N5 := o1.nums
        have hI : BI n f P W kk idx G T G5 T5 := by
          refine ⟨o1, ⟨by unfold SB at sb2; omega, by unfold SB at sb2; omega⟩, vq5, by omega, by omega, by omega, ?_, ?_, ?_, ?_, ?_, ?_, by omega, ⟨by omega, by omega⟩, ?_⟩
          · rw [bk5 _ _ (by decide) (by omega) (by omega), cT _ _ (by decide)]; exact i7
          · rw [bk5 _ _ (by decide) (by omega) (by omega), cT _ _ (by decide)]; exact i8
          · exact bk0.tr bk5 (by omega)
          · exact (i10.tr d7 (by omega) (by omega)).tr o5 (by omega) (by omega)
          · exact (i11.tr c5 (by omega) (by omega)).tr o6 (by omega) (by omega)
          · rw [o6 _ _ (by decide) (by decide) (by omega) (by omega), cC _ _ (by decide)]; exact i12
          · have w1 := (wf0.cg (G1 := G5) (T1 := T5)).2.2 (o6.mono (by omega) (by omega)) (o5.1.mono (by omega) (by omega))
            rw [show GS 150 3 = G 150 3 + 1 by omega] at o7
            exact wf_seq P W _ _ _ _ _ _ _ _ _ _ _ _ w1 o7
        obtain ⟨G', e6, R⟩ := ih G5 T5 hI (by omega)
        refine ⟨G', e6, ?_⟩
        rcases R with ⟨w, p, T', fg, lx', fx⟩ | ⟨Gb, T1, b', lx', hB⟩
        · exact Or.inl ⟨w, p, T', fg, by rw [lsk, lx, lx'], fx⟩
        · exact Or.inr ⟨Gb, T1, b', by rw [lsk, lx, lx'], hB⟩
