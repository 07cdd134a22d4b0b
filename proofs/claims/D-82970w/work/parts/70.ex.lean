/-! PLAIN: an expression in a statement -/
theorem okx_md {n : Int} {f : Int → Int} {P W b : Int} {G T G2 T2 : St} (h : OKX n f P W G T G2 T2) (hb : b = sk n f (T2 100 6)) (t0 : 0 ≤ T 100 13) : OKX n f P W G T G2 (md T2 b 0) := by
  obtain ⟨p1, p2, p3, p4, p5, p6, p7, p8, p9, p10, p11, p12⟩ := h
  have ht := TS_md T2 b 0
  have mo : ∀ o k, 115 ≤ o → md T2 b 0 o k = T2 o k := fun o k q => md_o (by omega)
  generalize md T2 b 0 = M at ht mo ⊢
  have N := p1.nums
  have l1 := wf_le p7
  have g := sk_ge n f (T2 100 6)
  have g2 := sk_le (f := f) N.1.2.2.2.1
  rw [← hb] at g g2
  have pr : PR n f G2 M := p1.mv (CS.rf G2) ht (by omega) (by omega) (by omega) (by omega) (by rw [hb, sk_sk]; exact N.1.2.2.2.2) (by omega) (by omega) (by omega) (by omega) (by omega) (by omega) (by omega) (by omega) (by omega)
  obtain ⟨c1, c2, c3, c4, c5, c6, c7⟩ := ht
  refine ⟨pr, by omega, by omega, p4, p5.tr c7 (by omega) (by omega), p6, ?_, ?_, by omega, p10, p11, by omega⟩
  · rw [c3]
    exact (p7.cg (G1 := G2) (T1 := M)).2.2 (fun _ _ _ _ _ _ => rfl) (c7.1.mono (by omega) (by omega))
  · rw [c3, mo _ _ (by decide)]; exact p8
theorem ex_ok {n : Int} {f : Int → Int} {P W : Int} {G T : St} (hP : PR n f G T) : ∃ G', Rd_exprO G = some (0, G') ∧ ((∃ w p T', FG n f 2400 w p G' ∧ Tw_expression P W T = some (0, T') ∧ FX w p T') ∨ ∃ T', Tw_expression P W T = some (0, T') ∧ OKX n f P W G T G' T') := by
  have N := hP.nums
  obtain ⟨_, _, hE⟩ := all_expr n f P W 600 (by decide)
  obtain ⟨G', e, R⟩ := hE G T (T 100 20) hP (by omega) (Int.le_refl _) (Or.inl rfl) (by unfold AD; omega)
  refine ⟨G', e, ?_⟩
  have eT : Tw_expression P W T = Lx P W (T 100 20) 1 T := rfl
  rcases R with ⟨w, p, T', fg, lx', fx⟩ | ⟨T1, T2, L1, L2, L3, L4, L5, L6⟩
  · exact Or.inl ⟨w, p, T', fg.mono (by decide), by rw [eT]; exact lx', fx⟩
  · refine Or.inr ⟨md T2 (sk n f (T2 100 6)) 0, ?_, okx_md L3 rfl (by omega)⟩
    have q1 := L3.1
    have q2 := L3.2.1
    have N2 := q1.nums
    have hc := Lx_cl (P := P) (W := W) L4 (by omega) (by omega) rfl (by rw [← N2.1.2.2.2.2]; exact L5) (by rw [← N2.1.2.2.2.2]; exact L6) L2 (TB_of q1) (Or.inl (by omega)) (by omega)
    have mw : md T2 (sk n f (T2 100 6)) 0 100 20 = T 100 20 := by rw [md_o (by omega)]; exact q2
    have b51 : Tw_closes_b51 (T 100 20) 0 (md T2 (sk n f (T2 100 6)) 0) = some (0, md T2 (sk n f (T2 100 6)) 0) := by
      unfold Tw_closes_b51
      rw [if_pos mw, ckB_p (by decide) (by decide)]
    rw [eT, L1, hc, b51, bd_some, if_pos rfl, Lx_end, up_id' mw.symm]
