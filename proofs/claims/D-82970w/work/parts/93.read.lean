/-! PLAIN: the whole program is read alike -/
theorem II.skp {n : Int} {f : Int → Int} {P W : Int} {G T : St} (h : II n f P W G T) : II n f P W (skC n f G) (skT n f T) := by
  obtain ⟨hP, hS, hV, ⟨hw, hb, hdp⟩, zz, hz, hW⟩ := h
  have g := sk_ge n f (G 150 2)
  have lw := wf_le hW
  have s := CS_sk n f G
  have t := TS_sk n f T
  refine ⟨hP.skp, hS.skp, hV.skp, ⟨by rw [t.2.2.2.2.1]; exact hw, by rw [t.2.2.2.2.2.1]; exact hb, by rw [s.2.2.2.1]; exact hdp⟩, zz, by rw [skC_at]; omega, ?_⟩
  rw [s.2.2.1, t.2.2.1, skT_k _ _ _ _ (by decide), skT_k _ _ _ _ (by decide)]
  exact (hW.cg (G1 := skC n f G) (T1 := skT n f T)).2.2 s.2.2.2.2 t.2.2.2.2.2.2.1
theorem it_all {n : Int} {f : Int → Int} {P W a : Int} {G T : St} (P1 : 1 ≤ P) (P2 : P ≤ 100) (hI : II n f P W G T) (ea : G 150 2 = a) (et : T 100 6 = a) (hsk : sk n f a = a) (an : a < n) : ∃ G', Rd_item P W G = some (0, G') ∧ (FLP n f 5600 G' (Lp P W T) ∨ ∃ T1, Lp P W T = Lp P W T1 ∧ II n f P W G' T1 ∧ a < G' 150 2) := by
  have hI' := hI
  obtain ⟨hP, hS, hV, ⟨hw, hb, hdp⟩, zz, hz, hW⟩ := hI'
  have N := hP.nums
  have lwI := wf_le hW
  have wC : ∀ (i : Nat) (w : Int), i < 13 → w = 70 + i → Rd_isWord w G = some (iw n f a i, G) := fun i w h1 h2 => by rw [Rd_isWord_e hP.1.1 (by omega) (by omega) i h1 h2, ea]
  have wT : ∀ (i : Nat) (w : Int), i < 13 → w = 70 + i → Tw_isWord w T = some (iw n f a i, T) := fun i w h1 h2 => by rw [Tw_isWord_e hP.1.2.1 (by omega) (by omega) i h1 h2, et]
  have le := Lp_e (P := P) (W := W) hP.1.2.1 et (by omega) (by omega) hsk N.2.2.2.2.2.2
  rw [if_neg (by omega), if_neg (by omega)] at le
  have wl := we_le (n := n) (f := f) (a := a) (by omega)
  unfold Rd_item
  rw [wC 0 70 (by decide) (by decide), bd_some]
  rcases iw_r n f a 0 with w0 | w0
  · rw [w0, if_pos rfl, wC 3 73 (by decide) (by decide), bd_some]
    rcases iw_r n f a 3 with w3 | w3
    · rw [w3, if_pos rfl, wC 8 78 (by decide) (by decide), bd_some]
      rcases iw_r n f a 8 with w8 | w8
      · rw [w8, if_pos rfl]
        obtain ⟨hSt, _⟩ := all_stmt n f P W 600 (by decide)
        obtain ⟨G', e1, R⟩ := hSt G T a hP hS hV ea et hsk (Or.inl an) (Or.inr hb) (Or.inl hb) (Or.inr ⟨w0, w3, w8⟩) (by unfold AS; omega)
        have e1' : Rd_statementO G = some (0, G') := e1
        refine ⟨G', by rw [e1', bd_some], ?_⟩
        rcases R with ⟨w, p, T', fg, lx, fx⟩ | ⟨T1, lx, ⟨o1, o2, o3, o4, o5, o6, o7, o8, o9, o10, o11⟩, vq, ob⟩
        · exact Or.inl ⟨w, p, T', fg.mono (by unfold FKd; omega), lx, fx⟩
        · have fr := fr_Rd_statementO G (0, G') e1'
          have gi : G' 150 4 = G 150 4 := fr _ _ (by simp [fS])
          have lw := wf_le o7
          have vi : T1 100 29 = T 100 29 := by
            unfold VQ at hV vq
            omega
          unfold SB at hS
          refine Or.inr ⟨T1, lx, ⟨o1, ⟨by omega, by omega⟩, vq, ⟨by omega, by omega, by omega⟩, G' 150 2, Int.le_refl _, ?_⟩, by omega⟩
          have w1 := (hW.cg (G1 := G') (T1 := T1)).2.2 o6 (o5.1.mono (by omega) (by omega))
          rw [hdp] at o7
          rw [vi]
          exact wf_its P W _ _ _ _ _ _ _ _ _ _ _ _ _ w1 o7 (by omega)
      · rw [w8, if_neg (by decide)]
        have il := iw_lt w8 (by decide)
        have sl : swl 8 = 6 := by decide
        have b117 : Tw_program_b117 P W 1 a T = (bd (Tw_outputItem P W a T) fun _ G20 => some (Sum.inl ((1 : Int), G20))) := by
          unfold Tw_program_b117 Tw_program_b196 Tw_program_b221
          rw [wT 2 72 (by decide) (by decide), bd_some, iw_x w8 (j := 2) (by decide) (by decide) (by decide), if_pos rfl, wT 6 76 (by decide) (by decide), bd_some, iw_x w8 (j := 6) (by decide) (by decide) (by decide), if_pos rfl, wT 4 74 (by decide) (by decide), bd_some, iw_x w8 (j := 4) (by decide) (by decide) (by decide), if_pos rfl, if_pos hb, wT 0 70 (by decide) (by decide), bd_some, w0, if_pos rfl, if_pos hb, wT 3 73 (by decide) (by decide), bd_some, w3, if_pos rfl, if_pos hb, wT 8 78 (by decide) (by decide), bd_some, w8, if_neg (by decide)]
        rw [b117, bd_bind] at le
        have le2 : Lp P W T = bd (Tw_outputItem P W a T) fun _ T' => Lp P W T' := le
        obtain ⟨G', e1, R⟩ := it_out hI ea et (by omega)
        refine ⟨G', by rw [e1, bd_some], ?_⟩
        rcases R with ⟨w, p, T', fg, lx, fx⟩ | ⟨T', lx, ok, lt⟩
        · exact Or.inl ⟨w, p, T', fg.mono (by decide), by rw [le2, lx, bd_some, Lp_flt fx.ne], fx⟩
        · exact Or.inr ⟨T', by rw [le2, lx, bd_some], ok, lt⟩
    · rw [w3, if_neg (by decide)]
      have il := iw_lt w3 (by decide)
      have sl : swl 3 = 3 := by decide
      have b117 : Tw_program_b117 P W 1 a T = (bd (Tw_defItem P W a T) fun _ G20 => some (Sum.inl ((1 : Int), G20))) := by
        unfold Tw_program_b117 Tw_program_b196
        rw [wT 2 72 (by decide) (by decide), bd_some, iw_x w3 (j := 2) (by decide) (by decide) (by decide), if_pos rfl, wT 6 76 (by decide) (by decide), bd_some, iw_x w3 (j := 6) (by decide) (by decide) (by decide), if_pos rfl, wT 4 74 (by decide) (by decide), bd_some, iw_x w3 (j := 4) (by decide) (by decide) (by decide), if_pos rfl, if_pos hb, wT 0 70 (by decide) (by decide), bd_some, w0, if_pos rfl, if_pos hb, wT 3 73 (by decide) (by decide), bd_some, w3, if_neg (by decide)]
      rw [b117, bd_bind] at le
      have le2 : Lp P W T = bd (Tw_defItem P W a T) fun _ T' => Lp P W T' := le
      obtain ⟨G', e1, R⟩ := it_def hI ea et (by omega)
      refine ⟨G', by rw [e1, bd_some], ?_⟩
      rcases R with ⟨w, p, T', fg, lx, fx⟩ | ⟨T', lx, ok, lt⟩
      · exact Or.inl ⟨w, p, T', fg.mono (by decide), by rw [le2, lx, bd_some, Lp_flt fx.ne], fx⟩
      · exact Or.inr ⟨T', by rw [le2, lx, bd_some], ok, lt⟩
  · rw [w0, if_neg (by decide)]
    have il := iw_lt w0 (by decide)
    have sl : swl 0 = 5 := by decide
    have b117 : Tw_program_b117 P W 1 a T = (bd (Tw_inputItem P W a T) fun _ G20 => some (Sum.inl ((1 : Int), G20))) := by
      unfold Tw_program_b117
      rw [wT 2 72 (by decide) (by decide), bd_some, iw_x w0 (j := 2) (by decide) (by decide) (by decide), if_pos rfl, wT 6 76 (by decide) (by decide), bd_some, iw_x w0 (j := 6) (by decide) (by decide) (by decide), if_pos rfl, wT 4 74 (by decide) (by decide), bd_some, iw_x w0 (j := 4) (by decide) (by decide) (by decide), if_pos rfl, if_pos hb, wT 0 70 (by decide) (by decide), bd_some, w0, if_neg (by decide)]
    rw [b117, bd_bind] at le
    have le2 : Lp P W T = bd (Tw_inputItem P W a T) fun _ T' => Lp P W T' := le
    obtain ⟨G', e1, R⟩ := it_in P1 P2 hI ea et (by omega)
    refine ⟨G', by rw [e1, bd_some], ?_⟩
    rcases R with ⟨w, p, T', fg, lx, fx⟩ | ⟨T', lx, ok, lt⟩
    · exact Or.inl ⟨w, p, T', fg.mono (by decide), by rw [le2, lx, bd_some, Lp_flt fx.ne], fx⟩
    · exact Or.inr ⟨T', by rw [le2, lx, bd_some], ok, lt⟩
theorem rl_f {n : Int} {f : Int → Int} {P W k w p : Int} {G : St} (h : FG n f k w p G) (hk : k ≤ 6000) : ∃ G', Rd_read_l40 P W G = some (0, G') ∧ FG n f (k + 1) w p G' := by
  have e72 : Rd_read_b72 P W G = some (0, adC G 60 0 (G 150 1) 0) := by
    unfold Rd_read_b72
    rw [FG_add_e h (by omega) 0 _ 0 (by decide) (by decide), bd_some]
  refine ⟨_, ?_, FG_add h 60 0 (G 150 1) 0⟩
  rw [Rd_read_l40_eq]
  unfold Rd_read_s40
  rw [Ft_is_1 (FG_F h), bd_some, if_neg (show ¬ (1 : Int) = 0 by decide), ite_self, e72]
  rfl
/-- the readers' main loops -/
theorem rl_ok {n : Int} {f : Int → Int} {P W : Int} (P1 : 1 ≤ P) (P2 : P ≤ 100) : ∀ (k : Nat) (G T : St), II n f P W G T → G 150 2 = sk n f (G 150 2) → (n - G 150 2).toNat < k → ∃ G', Rd_read_l40 P W G = some (0, G') ∧ (FLP n f 5700 G' (Lp P W T) ∨ ∃ G0 T', Lp P W T = some (0, T') ∧ II n f P W G0 T' ∧ G0 150 2 = n ∧ G' = adC G0 60 0 n 0) := by
  intro k
  induction k with
  | zero => intro G T _ _ hk; omega
  | succ k ih =>
    intro G T hI hs hk
    have hP := hI.1
    have N := hP.nums
    have hI2 := hI.skp
    have lsk := Lp_sk (P := P) (W := W) hP.1.2.1 (by omega) (by omega) N.2.2.2.2.2.2
    rw [skC_fix hs.symm] at hI2
    have sT := TS_sk n f T
    have aT : skT n f T 100 6 = G 150 2 := by rw [skT_at, ← N.1.2.2.2.2, ← hs]
    generalize skT n f T = S at hI2 lsk sT aT
    have hP2 := hI2.1
    have N2 := hP2.nums
    have hn := hP.1.1.1
    rw [Rd_read_l40_eq]
    unfold Rd_read_s40
    rw [hn]
    by_cases c : G 150 2 < n
    · rw [if_pos c, Ft_is_0 N.2.2.2.2.2.1, bd_some, if_pos rfl]
      obtain ⟨G1, e1, R⟩ := it_all P1 P2 hI2 rfl aT hs.symm c
      rw [e1, bd_some]
      rcases R with ⟨w, p, T', fg, lx, fx⟩ | ⟨T1, lx, hI3, lt⟩
      · rw [Rd_skip_e fg.1 fg.2.1, bd_some, show up G1 150 2 (sk n f (G1 150 2)) = skC n f G1 from rfl]
        obtain ⟨G', e2, fg'⟩ := rl_f (P := P) (W := W) (FG_sk fg) (by decide)
        exact ⟨G', e2, Or.inl ⟨w, p, T', fg'.mono (by decide), by rw [lsk, lx], fx⟩⟩
      · have N3 := hI3.1.nums
        rw [Rd_skip_e hI3.1.1.1 (by omega), bd_some, show up G1 150 2 (sk n f (G1 150 2)) = skC n f G1 from rfl]
        have hI4 := hI3.skp
        have lsk3 := Lp_sk (P := P) (W := W) hI3.1.1.2.1 (by omega) (by omega) N3.2.2.2.2.2.2
        have a4 := skC_at n f G1
        have g1 := sk_ge n f (G1 150 2)
        have N4 := hI4.1.nums
        obtain ⟨G', e2, R⟩ := ih (skC n f G1) (skT n f T1) hI4 (by rw [a4, sk_sk]) (by omega)
        refine ⟨G', e2, ?_⟩
        rcases R with ⟨w, p, T', fg, lx', fx⟩ | ⟨G0, T', lx', r⟩
        · exact Or.inl ⟨w, p, T', fg, by rw [lsk, lx, lsk3, lx'], fx⟩
        · exact Or.inr ⟨G0, T', by rw [lsk, lx, lsk3, lx'], r⟩
    · rw [if_neg c]
      have an : G 150 2 = n := by omega
      have le := Lp_e (P := P) (W := W) hP2.1.2.1 aT (by omega) (by omega) hs.symm N2.2.2.2.2.2.2
      have hb := hI2.2.2.2.1.2.1
      rw [if_pos an, if_neg (by omega)] at le
      have hS := hI.2.1
      unfold SB at hS
      have e72 : Rd_read_b72 P W G = some (0, adC G 60 0 n 0) := by
        unfold Rd_read_b72
        rw [Cd_add_e (by omega) (by omega) (by decide) (by decide), bd_some, hn]
      refine ⟨_, ?_, Or.inr ⟨G, S, by rw [lsk, le], hI2, an, rfl⟩⟩
      rw [e72]
      rfl
