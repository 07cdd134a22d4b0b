set_option maxRecDepth 100000
/-! FRAMES: what a pure function leaves as it is -/
def fS (L : List Int) (K : List (Int × Int)) (o k : Int) : Prop := o ∈ L ∨ (o, k) ∈ K
def fq (S : Int → Int → Prop) (G G' : St) : Prop := ∀ o k, ¬ S o k → G' o k = G o k
def Fr {ρ : Type} (S : Int → Int → Prop) (G : St) (pj : ρ → St) (r : Option ρ) : Prop := ∀ q, r = some q → fq S G (pj q)
theorem fq_rf {S : Int → Int → Prop} {G : St} : fq S G G := fun _ _ _ => rfl
theorem fq_tr {S : Int → Int → Prop} {G G1 G2 : St} (h : fq S G G1) (h2 : fq S G1 G2) : fq S G G2 := fun o k hs => (h2 o k hs).trans (h o k hs)
theorem fq_mono {S S' : Int → Int → Prop} {G G1 : St} (h : fq S G G1) (hs : ∀ o k, S o k → S' o k) : fq S' G G1 := fun o k q => h o k (fun w => q (hs o k w))
theorem fq_up {S : Int → Int → Prop} {G G1 : St} {o k v : Int} (hs : S o k) (h : fq S G G1) : fq S G (up G1 o k v) := fun o' k' q => by
  rw [← h o' k' q]
  show (if _ then _ else _) = _
  rw [if_neg]
  rintro ⟨rfl, rfl⟩
  exact q hs
theorem fq_upL {L : List Int} {K : List (Int × Int)} {G G1 : St} {o k v : Int} (hs : L.contains o = true) (h : fq (fS L K) G G1) : fq (fS L K) G (up G1 o k v) := fq_up (Or.inl (List.contains_iff_mem.mp hs)) h
theorem fq_upK {L : List Int} {K : List (Int × Int)} {G G1 : St} {o k v : Int} (hs : K.contains (o, k) = true) (h : fq (fS L K) G G1) : fq (fS L K) G (up G1 o k v) := fq_up (Or.inr (List.contains_iff_mem.mp hs)) h
theorem fq_acp {L : List Int} {K : List (Int × Int)} {G G1 : St} {o sp o1 dp n : Int} (hs : L.contains o1 = true) (h : fq (fS L K) G G1) : fq (fS L K) G (acp G1 o sp o1 dp n) := fun o' k' q => by
  rw [← h o' k' q]
  unfold acp
  rw [uq_o]
  intro e
  exact q (Or.inl (e ▸ List.contains_iff_mem.mp hs))
theorem fS_mono {L L' : List Int} {K K' : List (Int × Int)} (h1 : L.all (fun o => L'.contains o) = true) (h2 : K.all (fun e => K'.contains e) = true) : ∀ o k, fS L K o k → fS L' K' o k := by
  intro o k h
  rcases h with h | h
  · exact Or.inl (List.contains_iff_mem.mp (List.all_eq_true.mp h1 o h))
  · exact Or.inr (List.contains_iff_mem.mp (List.all_eq_true.mp h2 _ h))
section FRM
variable {ρ σ : Type} {S S' : Int → Int → Prop} {G G1 : St} {pj : ρ → St} {r : Option ρ}
theorem frN : Fr S G pj none := fun _ h => nomatch h
theorem frS {q : ρ} (h : fq S G (pj q)) : Fr S G pj (some q) := fun _ e => by cases e; exact h
theorem frTk {k : St → Option ρ} (h : fq S G G1) (hk : ∀ G2, fq S G G2 → Fr S G pj (k G2)) : Fr S G pj (tk G1 k) := hk G1 h
theorem frVl {x : Int} {k : Int → Option ρ} (hk : ∀ z, Fr S G pj (k z)) : Fr S G pj (vl x k) := hk x
theorem frBd {c : Option (Int × St)} {k : Int → St → Option ρ} (hc : Fr S' G1 (fun q => q.2) c) (hS : ∀ o k, S' o k → S o k) (h : fq S G G1) (hk : ∀ z G2, fq S G G2 → Fr S G pj (k z G2)) : Fr S G pj (bd c k) := by
  intro q e
  cases hcc : c with
  | none => rw [hcc] at e; exact nomatch (show (none : Option ρ) = some q from e)
  | some p =>
    rw [hcc] at e
    exact hk p.1 p.2 (fq_tr h (fq_mono (hc p hcc) hS)) q e
theorem frT (hc : Fr S' G1 pj r) (hS : ∀ o k, S' o k → S o k) (h : fq S G G1) : Fr S G pj r := fun q e => fq_tr h (fq_mono (hc q e) hS)
theorem frCI {x : Int} (h : Fr S G pj r) : Fr S G pj (ckI x r) := by unfold ckI; split; exact h; exact frN
theorem frCL {x : Int} (h : Fr S G pj r) : Fr S G pj (ckL x r) := by unfold ckL; split; exact h; exact frN
theorem frCB {x y : Int} (h : Fr S G pj r) : Fr S G pj (ckB x y r) := by unfold ckB; split; exact h; exact frN
theorem frCD {x y : Int} (h : Fr S G pj r) : Fr S G pj (ckD x y r) := by unfold ckD; split; exact h; exact frN
theorem frCA {x y z : Int} (h : Fr S G pj r) : Fr S G pj (ckA x y z r) := by unfold ckA; split; exact h; exact frN
theorem frCQ {x y : Int} {k : Int → Option ρ} (h : ∀ z, Fr S G pj (k z)) : Fr S G pj (ckQ x y k) := by unfold ckQ; split; exact h _; exact frN
theorem frIf {c : Prop} [Decidable c] {a b : Option ρ} (h1 : Fr S G pj a) (h2 : Fr S G pj b) : Fr S G pj (if c then a else b) := by split; exact h1; exact h2
theorem frEx {pi : σ → St} (h : Fr S G pj r) : Fr S G (Sum.elim pi pj) (ex r) := by
  intro q e
  cases r with
  | none => exact nomatch (show (none : Option (σ ⊕ ρ)) = some q from e)
  | some p => cases e; exact h p rfl
theorem frSw {x : Int} {d : Option ρ} : ∀ {l : List (Int × Option ρ)}, (∀ e ∈ l, Fr S G pj e.2) → Fr S G pj d → Fr S G pj (sw x l d)
  | [], _, hd => hd
  | (c, r) :: t, hl, hd => by
    show Fr S G pj (if x = c then r else sw x t d)
    exact frIf (hl _ List.mem_cons_self) (frSw (fun e he => hl e (List.mem_cons_of_mem _ he)) hd)
theorem frSwt {x : Int} {d : Option ρ} : ∀ {l : List (Option ρ)} {lo : Int}, (∀ e ∈ l, Fr S G pj e) → Fr S G pj d → Fr S G pj (swt x lo l d)
  | [], _, _, hd => hd
  | r :: t, lo, hl, hd => by
    show Fr S G pj (if x = lo then r else swt x (lo + 1) t d)
    exact frIf (hl _ List.mem_cons_self) (frSwt (fun e he => hl e (List.mem_cons_of_mem _ he)) hd)
theorem frWn {step : σ → Option (σ ⊕ ρ)} {pi : σ → St} (h : ∀ s, Fr S (pi s) (Sum.elim pi pj) (step s)) : ∀ n s, Fr S (pi s) pj (whn step n s) := by
  intro n
  induction n with
  | zero => intro s q e; exact nomatch (show (none : Option ρ) = some q from e)
  | succ n ih =>
    intro s q e
    cases hs : step s with
    | none => rw [whn, hs] at e; exact nomatch (show (none : Option ρ) = some q from e)
    | some v =>
      have h1 := h s v hs
      rw [whn, hs] at e
      cases v with
      | inl s2 => exact fq_tr h1 (ih s2 q e)
      | inr p => cases e; exact h1
theorem frWh {step : σ → Option (σ ⊕ ρ)} {pi : σ → St} {s : σ} (h : ∀ s, Fr S (pi s) (Sum.elim pi pj) (step s)) : Fr S (pi s) pj (wh step s) := by
  intro q e
  obtain ⟨n, hn⟩ := wh_some.mp e
  exact frWn h n s q hn
end FRM

theorem fr_Ho_feed_s3 (x1 : Int) (x2 : Int) (x3 : Int) (x4 : Int) (x5 : Int) (x6 : Int) (G : St) : Fr (fS [101] []) G (Sum.elim (fun q => q.2) (fun q => q.2)) (Ho_feed_s3 x1 x2 x3 x4 x5 x6 G) := by
  unfold Ho_feed_s3
  exact frIf (frCI (frCI (frCB (frCB (frTk (fq_upL rfl fq_rf) (fun G1 hG1 => frCI (frCB (frCB (frTk (fq_upL rfl hG1) (fun G2 hG2 => frCI (frCB (frCB (frTk (fq_upL rfl hG2) (fun G3 hG3 => frCI (frCB (frCB (frTk (fq_upL rfl hG3) (fun G4 hG4 => frCI (frCB (frCB (frTk (fq_upL rfl hG4) (fun G5 hG5 => frCI (frS hG5))))))))))))))))))))))) (frEx (frS fq_rf))
theorem fr_Ho_feed_l3 (x1 : Int) (x2 : Int) (x3 : Int) (x4 : Int) (x5 : Int) (x6 : Int) (G : St) : Fr (fS [101] []) G (fun q => q.2) (Ho_feed_l3 x1 x2 x3 x4 x5 x6 G) := frWh (pi := fun (s : (Int × St)) => s.2) (fun (s : (Int × St)) => fr_Ho_feed_s3 x1 x2 x3 x4 x5 s.1 s.2)
theorem fr_Ho_feed (x1 : Int) (x2 : Int) (x3 : Int) (x4 : Int) (x5 : Int) (G : St) : Fr (fS [101] []) G (fun q => q.2) (Ho_feed x1 x2 x3 x4 x5 G) := by
  unfold Ho_feed
  exact frT (fr_Ho_feed_l3 _ _ _ _ _ _ _) (fS_mono rfl rfl) fq_rf
theorem fr_Ho_end_s112 (x2 : Int) (G : St) : Fr (fS [101] []) G (Sum.elim (fun q => q.2) (fun q => q.2)) (Ho_end_s112 x2 G) := by
  unfold Ho_end_s112
  exact frIf (frCB (frCB (frTk (fq_upL rfl fq_rf) (fun G3 hG3 => frCI (frS hG3))))) (frEx (frS fq_rf))
theorem fr_Ho_end_l112 (x2 : Int) (G : St) : Fr (fS [101] []) G (fun q => q.2) (Ho_end_l112 x2 G) := frWh (pi := fun (s : (Int × St)) => s.2) (fun (s : (Int × St)) => fr_Ho_end_s112 s.1 s.2)
theorem fr_Ho_end_b77 (x1 : Int) (x2 : Int) (G : St) : Fr (fS [] []) G (Sum.elim (fun q => q.2) (fun q => q.2)) (Ho_end_b77 x1 x2 G) := by
  unfold Ho_end_b77
  exact frCI (frS fq_rf)
theorem fr_Ho_end_b53 (x1 : Int) (x2 : Int) (G : St) : Fr (fS [] []) G (Sum.elim (fun q => q.2) (fun q => q.2)) (Ho_end_b53 x1 x2 G) := by
  unfold Ho_end_b53
  exact frCB (frIf (frT (fr_Ho_end_b77 _ _ _) (fS_mono rfl rfl) fq_rf) (frCB (frIf (frT (fr_Ho_end_b77 _ _ _) (fS_mono rfl rfl) fq_rf) (frEx (frS fq_rf)))))
theorem fr_Ho_end_s26 (x1 : Int) (x2 : Int) (G : St) : Fr (fS [101, 102] [(100, 4)]) G (Sum.elim (fun q => q.2) (fun q => q.2)) (Ho_end_s26 x1 x2 G) := by
  unfold Ho_end_s26
  exact frIf (frCB (frIf (frT (fr_Ho_end_b53 _ _ _) (fS_mono rfl rfl) fq_rf) (frCB (frIf (frT (fr_Ho_end_b53 _ _ _) (fS_mono rfl rfl) fq_rf) (frT (fr_Ho_end_b77 _ _ _) (fS_mono rfl rfl) fq_rf))))) (frEx (frCA (frCA (frTk (fq_acp rfl fq_rf) (fun G1 hG1 => frCI (frTk (fq_upK rfl hG1) (fun G2 hG2 => frT (fr_Ho_end_l112 _ _) (fS_mono rfl rfl) hG2)))))))
theorem fr_Ho_end_l26 (x1 : Int) (x2 : Int) (G : St) : Fr (fS [101, 102] [(100, 4)]) G (fun q => q.2) (Ho_end_l26 x1 x2 G) := frWh (pi := fun (s : (Int × St)) => s.2) (fun (s : (Int × St)) => fr_Ho_end_s26 x1 s.1 s.2)
theorem fr_Ho_end (x1 : Int) (G : St) : Fr (fS [101, 102] [(100, 4)]) G (fun q => q.2) (Ho_end x1 G) := by
  unfold Ho_end
  exact frIf (frS fq_rf) (frIf (frS fq_rf) (frCI (frIf (frS fq_rf) (frT (fr_Ho_end_l26 _ _ _) (fS_mono rfl rfl) fq_rf))))
theorem fr_Bd_constant_b32 (P W : Int) (x2 : Int) (x4 : Int) (s0 : Int) (s1 : Int) (G : St) : Fr (fS [205] []) G (Sum.elim (fun q => q.2) (fun q => q.2)) (Bd_constant_b32 P W x2 x4 s0 s1 G) := by
  unfold Bd_constant_b32
  exact frCB (frTk (fq_upL rfl fq_rf) (fun G1 hG1 => frCI (frS hG1)))
theorem fr_Bd_constant_s3 (P W : Int) (x2 : Int) (x4 : Int) (G : St) : Fr (fS [205] []) G (Sum.elim (fun q => q.2) (fun q => q.2)) (Bd_constant_s3 P W x2 x4 G) := by
  unfold Bd_constant_s3
  exact frIf (frT (fr_Bd_constant_b32 _ _ _ _ _ _ _) (fS_mono rfl rfl) fq_rf) (frEx (frS fq_rf))
theorem fr_Bd_constant_l3 (P W : Int) (x2 : Int) (x4 : Int) (G : St) : Fr (fS [205] []) G (fun q => q.2) (Bd_constant_l3 P W x2 x4 G) := frWh (pi := fun (s : (Int × St)) => s.2) (fun (s : (Int × St)) => fr_Bd_constant_s3 P W x2 s.1 s.2)
theorem fr_Bd_constant (P W : Int) (x2 : Int) (G : St) : Fr (fS [205] []) G (fun q => q.2) (Bd_constant P W x2 G) := by
  unfold Bd_constant
  exact frT (fr_Bd_constant_l3 _ _ _ _ _) (fS_mono rfl rfl) fq_rf
theorem fr_Ft_set (x1 : Int) (x2 : Int) (G : St) : Fr (fS [] [(130, 0), (130, 1)]) G (fun q => q.2) (Ft_set x1 x2 G) := by
  unfold Ft_set
  exact frIf (frTk (fq_upK rfl fq_rf) (fun G1 hG1 => frTk (fq_upK rfl hG1) (fun G2 hG2 => frS hG2))) (frS fq_rf)
theorem fr_Bd_count_b22 (G : St) : Fr (fS [] [(180, 8)]) G (fun q => q.2) (Bd_count_b22 G) := by
  unfold Bd_count_b22
  exact frCI (frTk (fq_upK rfl fq_rf) (fun G1 hG1 => frS hG1))
theorem fr_Bd_count (G : St) : Fr (fS [] [(130, 0), (130, 1), (180, 8)]) G (fun q => q.2) (Bd_count G) := by
  unfold Bd_count
  exact frIf (frBd (fr_Ft_set _ _ _) (fS_mono rfl rfl) fq_rf (fun _ G3 hG3 => frT (fr_Bd_count_b22 _) (fS_mono rfl rfl) hG3)) (frT (fr_Bd_count_b22 _) (fS_mono rfl rfl) fq_rf)
theorem fr_Bd_bits (P W : Int) (x1 : Int) (G : St) : Fr (fS [] []) G (fun q => q.2) (Bd_bits P W x1 G) := by
  unfold Bd_bits
  exact frS fq_rf
theorem fr_Bd_inputWord_s2 (P W : Int) (x1 : Int) (x2 : Int) (x3 : Int) (G : St) : Fr (fS [205] []) G (Sum.elim (fun q => q.2) (fun q => q.2)) (Bd_inputWord_s2 P W x1 x2 x3 G) := by
  unfold Bd_inputWord_s2
  exact frIf (frCB (frCI (frCI (frCB (frTk (fq_upL rfl fq_rf) (fun G1 hG1 => frCI (frS hG1))))))) (frEx (frS fq_rf))
theorem fr_Bd_inputWord_l2 (P W : Int) (x1 : Int) (x2 : Int) (x3 : Int) (G : St) : Fr (fS [205] []) G (fun q => q.2) (Bd_inputWord_l2 P W x1 x2 x3 G) := frWh (pi := fun (s : (Int × St)) => s.2) (fun (s : (Int × St)) => fr_Bd_inputWord_s2 P W x1 x2 s.1 s.2)
theorem fr_Bd_inputWord (P W : Int) (x1 : Int) (x2 : Int) (G : St) : Fr (fS [205] []) G (fun q => q.2) (Bd_inputWord P W x1 x2 G) := by
  unfold Bd_inputWord
  exact frT (fr_Bd_inputWord_l2 _ _ _ _ _ _) (fS_mono rfl rfl) fq_rf
theorem fr_Bd_fetch (P W : Int) (x1 : Int) (x2 : Int) (x3 : Int) (G : St) : Fr (fS [205] []) G (fun q => q.2) (Bd_fetch P W x1 x2 x3 G) := by
  unfold Bd_fetch
  exact frIf (frCI (frCA (frCA (frTk (fq_acp rfl fq_rf) (fun G1 hG1 => frS hG1))))) (frBd (fr_Bd_inputWord _ _ _ _ _) (fS_mono rfl rfl) fq_rf (fun _ G3 hG3 => frS hG3))
theorem fr_Ci_levelOf (x1 : Int) (G : St) : Fr (fS [] []) G (fun q => q.2) (Ci_levelOf x1 G) := by
  unfold Ci_levelOf
  exact frCI (frIf (frS fq_rf) (frCD (frCI (frCB (frS fq_rf)))))
theorem fr_Ci_gate_b113 (x4 : Int) (s0 : Int) (s1 : Int) (G : St) : Fr (fS [] [(140, 4), (140, 5), (140, 7)]) G (fun q => q.2) (Ci_gate_b113 x4 s0 s1 G) := by
  unfold Ci_gate_b113
  exact frCI (frTk (fq_upK rfl fq_rf) (fun G10 hG10 => frTk (fq_upK rfl hG10) (fun G11 hG11 => frCI (frTk (fq_upK rfl hG11) (fun G12 hG12 => frCI (frCI (frCI (frS hG12))))))))
theorem fr_Ci_gate_b47 (x1 : Int) (x2 : Int) (x3 : Int) (x4 : Int) (G : St) : Fr (fS [141, 142, 143, 144] [(140, 4), (140, 5), (140, 7)]) G (fun q => q.2) (Ci_gate_b47 x1 x2 x3 x4 G) := by
  unfold Ci_gate_b47
  exact frIf (frCB (frTk (fq_upL rfl fq_rf) (fun G6 hG6 => frCB (frTk (fq_upL rfl hG6) (fun G7 hG7 => frCB (frCB (frTk (fq_upL rfl hG7) (fun G8 hG8 => frCB (frCB (frTk (fq_upL rfl hG8) (fun G9 hG9 => frT (fr_Ci_gate_b113 _ _ _ _) (fS_mono rfl rfl) hG9))))))))))) (frS fq_rf)
theorem fr_Ci_gate_b42 (x1 : Int) (x2 : Int) (x3 : Int) (x4 : Int) (G : St) : Fr (fS [141, 142, 143, 144] [(140, 4), (140, 5), (140, 7), (140, 8)]) G (fun q => q.2) (Ci_gate_b42 x1 x2 x3 x4 G) := by
  unfold Ci_gate_b42
  exact frCB (frTk (fq_upK rfl fq_rf) (fun G5 hG5 => frT (fr_Ci_gate_b47 _ _ _ _ _) (fS_mono rfl rfl) hG5))
theorem fr_Ci_gate_b22 (x1 : Int) (x2 : Int) (x3 : Int) (s0 : Int) (s1 : Int) (G : St) : Fr (fS [141, 142, 143, 144] [(140, 4), (140, 5), (140, 7), (140, 8)]) G (fun q => q.2) (Ci_gate_b22 x1 x2 x3 s0 s1 G) := by
  unfold Ci_gate_b22
  exact frCI (frIf (frT (fr_Ci_gate_b42 _ _ _ _ _) (fS_mono rfl rfl) fq_rf) (frIf (frT (fr_Ci_gate_b42 _ _ _ _ _) (fS_mono rfl rfl) fq_rf) (frT (fr_Ci_gate_b47 _ _ _ _ _) (fS_mono rfl rfl) fq_rf)))
theorem fr_Ci_gate (x1 : Int) (x2 : Int) (x3 : Int) (G : St) : Fr (fS [141, 142, 143, 144] [(140, 4), (140, 5), (140, 7), (140, 8)]) G (fun q => q.2) (Ci_gate x1 x2 x3 G) := by
  unfold Ci_gate
  exact frBd (fr_Ci_levelOf _ _) (fS_mono rfl rfl) fq_rf (fun _ G2 hG2 => frBd (fr_Ci_levelOf _ _) (fS_mono rfl rfl) hG2 (fun _ G4 hG4 => frT (fr_Ci_gate_b22 _ _ _ _ _ _) (fS_mono rfl rfl) hG4))
theorem fr_Ci_and_b8 (x1 : Int) (x2 : Int) (G : St) : Fr (fS [] []) G (fun q => q.2) (Ci_and_b8 x1 x2 G) := by
  unfold Ci_and_b8
  exact frS fq_rf
theorem fr_Ci_and (x1 : Int) (x2 : Int) (G : St) : Fr (fS [141, 142, 143, 144] [(140, 4), (140, 5), (140, 7), (140, 8)]) G (fun q => q.2) (Ci_and x1 x2 G) := by
  unfold Ci_and
  exact frIf (frT (fr_Ci_and_b8 _ _ _) (fS_mono rfl rfl) fq_rf) (frIf (frT (fr_Ci_and_b8 _ _ _) (fS_mono rfl rfl) fq_rf) (frCD (frCD (frIf (frS fq_rf) (frBd (fr_Ci_gate _ _ _ _) (fS_mono rfl rfl) fq_rf (fun _ G2 hG2 => frS hG2))))))
theorem fr_Ci_xor_b8 (x1 : Int) (x2 : Int) (G : St) : Fr (fS [] []) G (fun q => q.2) (Ci_xor_b8 x1 x2 G) := by
  unfold Ci_xor_b8
  exact frIf (frS fq_rf) (frS fq_rf)
theorem fr_Ci_xor (x1 : Int) (x2 : Int) (G : St) : Fr (fS [141, 142, 143, 144] [(140, 4), (140, 5), (140, 7), (140, 8)]) G (fun q => q.2) (Ci_xor x1 x2 G) := by
  unfold Ci_xor
  exact frIf (frT (fr_Ci_xor_b8 _ _ _) (fS_mono rfl rfl) fq_rf) (frIf (frT (fr_Ci_xor_b8 _ _ _) (fS_mono rfl rfl) fq_rf) (frCD (frCD (frIf (frS fq_rf) (frBd (fr_Ci_gate _ _ _ _) (fS_mono rfl rfl) fq_rf (fun _ G2 hG2 => frS hG2))))))
theorem fr_Wo_equal_b116 (P W : Int) (x6 : Int) (x7 : Int) (x8 : Int) (s0 : Int) (s1 : Int) (G : St) : Fr (fS [211] []) G (Sum.elim (fun q => q.2.2) (Sum.elim (fun q => q.2) (fun q => q.2))) (Wo_equal_b116 P W x6 x7 x8 s0 s1 G) := by
  unfold Wo_equal_b116
  exact frCB (frTk (fq_upL rfl fq_rf) (fun G1 hG1 => frCI (frCI (frS hG1))))
theorem fr_Wo_equal_s61 (P W : Int) (x6 : Int) (x7 : Int) (x8 : Int) (G : St) : Fr (fS [141, 142, 143, 144, 211] [(140, 4), (140, 5), (140, 7), (140, 8)]) G (Sum.elim (fun q => q.2.2) (Sum.elim (fun q => q.2) (fun q => q.2))) (Wo_equal_s61 P W x6 x7 x8 G) := by
  unfold Wo_equal_s61
  exact frIf (frCI (frIf (frCB (frCI (frCB (frBd (fr_Ci_and _ _ _) (fS_mono rfl rfl) fq_rf (fun _ G3 hG3 => frT (fr_Wo_equal_b116 _ _ _ _ _ _ _ _) (fS_mono rfl rfl) hG3))))) (frCB (frT (fr_Wo_equal_b116 _ _ _ _ _ _ _ _) (fS_mono rfl rfl) fq_rf)))) (frEx (frS fq_rf))
theorem fr_Wo_equal_l61 (P W : Int) (x6 : Int) (x7 : Int) (x8 : Int) (G : St) : Fr (fS [141, 142, 143, 144, 211] [(140, 4), (140, 5), (140, 7), (140, 8)]) G (Sum.elim (fun q => q.2) (fun q => q.2)) (Wo_equal_l61 P W x6 x7 x8 G) := frWh (pi := fun (s : (Int × Int × St)) => s.2.2) (fun (s : (Int × Int × St)) => fr_Wo_equal_s61 P W x6 s.1 s.2.1 s.2.2)
theorem fr_Wo_equal_s49 (P W : Int) (x6 : Int) (G : St) : Fr (fS [141, 142, 143, 144, 211] [(140, 4), (140, 5), (140, 7), (140, 8)]) G (Sum.elim (fun q => q.2) (fun q => q.2)) (Wo_equal_s49 P W x6 G) := by
  unfold Wo_equal_s49
  exact frIf (frT (fr_Wo_equal_l61 _ _ _ _ _ _) (fS_mono rfl rfl) fq_rf) (frEx (frCB (frS fq_rf)))
theorem fr_Wo_equal_l49 (P W : Int) (x6 : Int) (G : St) : Fr (fS [141, 142, 143, 144, 211] [(140, 4), (140, 5), (140, 7), (140, 8)]) G (fun q => q.2) (Wo_equal_l49 P W x6 G) := frWh (pi := fun (s : (Int × St)) => s.2) (fun (s : (Int × St)) => fr_Wo_equal_s49 P W s.1 s.2)
theorem fr_Wo_equal_s3 (P W : Int) (x1 : Int) (x2 : Int) (x3 : Int) (x4 : Int) (x5 : Int) (x6 : Int) (G : St) : Fr (fS [141, 142, 143, 144, 211] [(140, 4), (140, 5), (140, 7), (140, 8)]) G (Sum.elim (fun q => q.2) (fun q => q.2)) (Wo_equal_s3 P W x1 x2 x3 x4 x5 x6 G) := by
  unfold Wo_equal_s3
  exact frIf (frCI (frCB (frCI (frCB (frBd (fr_Ci_xor _ _ _) (fS_mono rfl rfl) fq_rf (fun _ G5 hG5 => frCB (frTk (fq_upL rfl hG5) (fun G6 hG6 => frCI (frS hG6))))))))) (frEx (frT (fr_Wo_equal_l49 _ _ _ _) (fS_mono rfl rfl) fq_rf))
theorem fr_Wo_equal_l3 (P W : Int) (x1 : Int) (x2 : Int) (x3 : Int) (x4 : Int) (x5 : Int) (x6 : Int) (G : St) : Fr (fS [141, 142, 143, 144, 211] [(140, 4), (140, 5), (140, 7), (140, 8)]) G (fun q => q.2) (Wo_equal_l3 P W x1 x2 x3 x4 x5 x6 G) := frWh (pi := fun (s : (Int × St)) => s.2) (fun (s : (Int × St)) => fr_Wo_equal_s3 P W x1 x2 x3 x4 x5 s.1 s.2)
theorem fr_Wo_equal (P W : Int) (x1 : Int) (x2 : Int) (x3 : Int) (x4 : Int) (x5 : Int) (G : St) : Fr (fS [141, 142, 143, 144, 211] [(140, 4), (140, 5), (140, 7), (140, 8)]) G (fun q => q.2) (Wo_equal P W x1 x2 x3 x4 x5 G) := by
  unfold Wo_equal
  exact frT (fr_Wo_equal_l3 _ _ _ _ _ _ _ _ _) (fS_mono rfl rfl) fq_rf
theorem fr_Bd_isElement_b22 (P W : Int) (x1 : Int) (x2 : Int) (G : St) : Fr (fS [141, 142, 143, 144, 205, 211] [(140, 4), (140, 5), (140, 7), (140, 8)]) G (fun q => q.2) (Bd_isElement_b22 P W x1 x2 G) := by
  unfold Bd_isElement_b22
  exact frBd (fr_Bd_constant _ _ _ _) (fS_mono rfl rfl) fq_rf (fun _ G2 hG2 => frBd (fr_Wo_equal _ _ _ _ _ _ _ _) (fS_mono rfl rfl) hG2 (fun _ G4 hG4 => frS hG4))
theorem fr_Bd_isElement (P W : Int) (x1 : Int) (x2 : Int) (G : St) : Fr (fS [141, 142, 143, 144, 205, 211] [(140, 4), (140, 5), (140, 7), (140, 8)]) G (fun q => q.2) (Bd_isElement P W x1 x2 G) := by
  unfold Bd_isElement
  exact frIf (frIf (frT (fr_Bd_isElement_b22 _ _ _ _ _) (fS_mono rfl rfl) fq_rf) (frS fq_rf)) (frT (fr_Bd_isElement_b22 _ _ _ _ _) (fS_mono rfl rfl) fq_rf)
theorem fr_Bd_needBelow (x1 : Int) (x3 : Int) (x4 : Int) (G : St) : Fr (fS [] [(130, 0), (130, 1)]) G (fun q => q.2) (Bd_needBelow x1 x3 x4 G) := by
  unfold Bd_needBelow
  exact frIf (frS fq_rf) (frBd (fr_Ft_set _ _ _) (fS_mono rfl rfl) fq_rf (fun _ G2 hG2 => frS hG2))
theorem fr_Bd_place (P W : Int) (x1 : Int) (G : St) : Fr (fS [] []) G (fun q => q.2) (Bd_place P W x1 G) := by
  unfold Bd_place
  exact frCI (frCI (frS fq_rf))
theorem fr_Bd_push (P W : Int) (x1 : Int) (x2 : Int) (x3 : Int) (G : St) : Fr (fS [181] [(180, 6)]) G (fun q => q.2) (Bd_push P W x1 x2 x3 G) := by
  unfold Bd_push
  exact frCI (frCA (frCA (frTk (fq_acp rfl fq_rf) (fun G1 hG1 => frCI (frTk (fq_upK rfl hG1) (fun G2 hG2 => frS hG2))))))
theorem fr_Bd_settle (P W : Int) (x1 : Int) (x2 : Int) (G : St) : Fr (fS [181] [(180, 6)]) G (fun q => q.2) (Bd_settle P W x1 x2 G) := by
  unfold Bd_settle
  exact frCI (frTk (fq_upK rfl fq_rf) (fun G1 hG1 => frBd (fr_Bd_push _ _ _ _ _ _) (fS_mono rfl rfl) hG1 (fun _ G3 hG3 => frS hG3)))
theorem fr_Bd_valueOf_b36 (P W : Int) (x1 : Int) (x4 : Int) (s0 : Int) (s1 : Int) (G : St) : Fr (fS [] []) G (Sum.elim (fun q => q.2.2) (fun q => q.2)) (Bd_valueOf_b36 P W x1 x4 s0 s1 G) := by
  unfold Bd_valueOf_b36
  exact frCI (frS fq_rf)
theorem fr_Bd_valueOf_s5 (P W : Int) (x1 : Int) (x2 : Int) (x4 : Int) (G : St) : Fr (fS [] []) G (Sum.elim (fun q => q.2.2) (fun q => q.2)) (Bd_valueOf_s5 P W x1 x2 x4 G) := by
  unfold Bd_valueOf_s5
  exact frIf (frCI (frCB (frIf (frT (fr_Bd_valueOf_b36 _ _ _ _ _ _ _) (fS_mono rfl rfl) fq_rf) (frT (fr_Bd_valueOf_b36 _ _ _ _ _ _ _) (fS_mono rfl rfl) fq_rf)))) (frEx (frS fq_rf))
theorem fr_Bd_valueOf_l5 (P W : Int) (x1 : Int) (x2 : Int) (x4 : Int) (G : St) : Fr (fS [] []) G (fun q => q.2) (Bd_valueOf_l5 P W x1 x2 x4 G) := frWh (pi := fun (s : (Int × Int × St)) => s.2.2) (fun (s : (Int × Int × St)) => fr_Bd_valueOf_s5 P W x1 s.1 s.2.1 s.2.2)
theorem fr_Bd_valueOf (P W : Int) (x1 : Int) (G : St) : Fr (fS [] []) G (fun q => q.2) (Bd_valueOf P W x1 G) := by
  unfold Bd_valueOf
  exact frT (fr_Bd_valueOf_l5 _ _ _ _ _ _) (fS_mono rfl rfl) fq_rf
theorem fr_Ft_is (G : St) : Fr (fS [] []) G (fun q => q.2) (Ft_is G) := by
  unfold Ft_is
  exact frCB (frS fq_rf)
theorem fr_Bd_element_b264 (P W : Int) (x2 : Int) (G : St) : Fr (fS [181] [(180, 6)]) G (fun q => q.2) (Bd_element_b264 P W x2 G) := by
  unfold Bd_element_b264
  exact frBd (fr_Bd_settle _ _ _ _ _) (fS_mono rfl rfl) fq_rf (fun _ G6 hG6 => frS hG6)
theorem fr_Bd_element_s209 (P W : Int) (x1 : Int) (x2 : Int) (x3 : Int) (x4 : Int) (x5 : Int) (x6 : Int) (x7 : Int) (x8 : Int) (G : St) : Fr (fS [141, 142, 143, 144, 207] [(140, 4), (140, 5), (140, 7), (140, 8)]) G (Sum.elim (fun q => q.2) (Sum.elim (fun q => q.2) (fun q => q.2))) (Bd_element_s209 P W x1 x2 x3 x4 x5 x6 x7 x8 G) := by
  unfold Bd_element_s209
  exact frIf (frCB (frCB (frBd (fr_Ci_and _ _ _) (fS_mono rfl rfl) fq_rf (fun _ G12 hG12 => frBd (fr_Ci_xor _ _ _) (fS_mono rfl rfl) hG12 (fun _ G14 hG14 => frCB (frTk (fq_upL rfl hG14) (fun G15 hG15 => frCI (frS hG15)))))))) (frEx (frCI (frS fq_rf)))
theorem fr_Bd_element_l209 (P W : Int) (x1 : Int) (x2 : Int) (x3 : Int) (x4 : Int) (x5 : Int) (x6 : Int) (x7 : Int) (x8 : Int) (G : St) : Fr (fS [141, 142, 143, 144, 207] [(140, 4), (140, 5), (140, 7), (140, 8)]) G (Sum.elim (fun q => q.2) (fun q => q.2)) (Bd_element_l209 P W x1 x2 x3 x4 x5 x6 x7 x8 G) := frWh (pi := fun (s : (Int × St)) => s.2) (fun (s : (Int × St)) => fr_Bd_element_s209 P W x1 x2 x3 x4 x5 x6 x7 s.1 s.2)
theorem fr_Bd_element_s171 (P W : Int) (x1 : Int) (x2 : Int) (x3 : Int) (x4 : Int) (x5 : Int) (x6 : Int) (G : St) : Fr (fS [141, 142, 143, 144, 181, 205, 207, 211] [(140, 4), (140, 5), (140, 7), (140, 8), (180, 6)]) G (Sum.elim (fun q => q.2) (fun q => q.2)) (Bd_element_s171 P W x1 x2 x3 x4 x5 x6 G) := by
  unfold Bd_element_s171
  exact frIf (frBd (fr_Bd_isElement _ _ _ _ _) (fS_mono rfl rfl) fq_rf (fun _ G8 hG8 => frCB (frCI (frBd (fr_Bd_fetch _ _ _ _ _ _) (fS_mono rfl rfl) hG8 (fun _ G10 hG10 => frT (fr_Bd_element_l209 _ _ _ _ _ _ _ _ _ _ _) (fS_mono rfl rfl) hG10))))) (frEx (frT (fr_Bd_element_b264 _ _ _ _) (fS_mono rfl rfl) fq_rf))
theorem fr_Bd_element_l171 (P W : Int) (x1 : Int) (x2 : Int) (x3 : Int) (x4 : Int) (x5 : Int) (x6 : Int) (G : St) : Fr (fS [141, 142, 143, 144, 181, 205, 207, 211] [(140, 4), (140, 5), (140, 7), (140, 8), (180, 6)]) G (fun q => q.2) (Bd_element_l171 P W x1 x2 x3 x4 x5 x6 G) := frWh (pi := fun (s : (Int × St)) => s.2) (fun (s : (Int × St)) => fr_Bd_element_s171 P W x1 x2 x3 x4 x5 s.1 s.2)
theorem fr_Bd_element_s147 (P W : Int) (x1 : Int) (x2 : Int) (x3 : Int) (x4 : Int) (x5 : Int) (x6 : Int) (G : St) : Fr (fS [141, 142, 143, 144, 181, 205, 207, 211] [(140, 4), (140, 5), (140, 7), (140, 8), (180, 6)]) G (Sum.elim (fun q => q.2) (fun q => q.2)) (Bd_element_s147 P W x1 x2 x3 x4 x5 x6 G) := by
  unfold Bd_element_s147
  exact frIf (frCB (frTk (fq_upL rfl fq_rf) (fun G16 hG16 => frCI (frS hG16)))) (frEx (frT (fr_Bd_element_l171 _ _ _ _ _ _ _ _ _) (fS_mono rfl rfl) fq_rf))
theorem fr_Bd_element_l147 (P W : Int) (x1 : Int) (x2 : Int) (x3 : Int) (x4 : Int) (x5 : Int) (x6 : Int) (G : St) : Fr (fS [141, 142, 143, 144, 181, 205, 207, 211] [(140, 4), (140, 5), (140, 7), (140, 8), (180, 6)]) G (fun q => q.2) (Bd_element_l147 P W x1 x2 x3 x4 x5 x6 G) := frWh (pi := fun (s : (Int × St)) => s.2) (fun (s : (Int × St)) => fr_Bd_element_s147 P W x1 x2 x3 x4 x5 s.1 s.2)
theorem fr_Bd_element_b49 (P W : Int) (x1 : Int) (x2 : Int) (x3 : Int) (s0 : Int) (G : St) : Fr (fS [141, 142, 143, 144, 181, 205, 207, 211] [(130, 0), (130, 1), (140, 4), (140, 5), (140, 7), (140, 8), (180, 6)]) G (fun q => q.2) (Bd_element_b49 P W x1 x2 x3 s0 G) := by
  unfold Bd_element_b49
  exact frBd (fr_Bd_place _ _ _ _) (fS_mono rfl rfl) fq_rf (fun _ G4 hG4 => frCB (frIf (frT (fr_Bd_element_l147 _ _ _ _ _ _ _ _ _) (fS_mono rfl rfl) hG4) (frBd (fr_Bd_valueOf _ _ _ _) (fS_mono rfl rfl) hG4 (fun _ G18 hG18 => frCB (frBd (fr_Bd_needBelow _ _ _ _) (fS_mono rfl rfl) hG18 (fun _ G20 hG20 => frBd (fr_Ft_is _) (fS_mono rfl rfl) hG20 (fun _ G22 hG22 => frIf (frCB (frCI (frBd (fr_Bd_fetch _ _ _ _ _ _) (fS_mono rfl rfl) hG22 (fun _ G24 hG24 => frCA (frCA (frTk (fq_acp rfl hG24) (fun G25 hG25 => frT (fr_Bd_element_b264 _ _ _ _) (fS_mono rfl rfl) hG25))))))) (frS hG22))))))))
theorem fr_Bd_element (P W : Int) (x1 : Int) (G : St) : Fr (fS [141, 142, 143, 144, 181, 205, 207, 211] [(130, 0), (130, 1), (140, 4), (140, 5), (140, 7), (140, 8), (180, 6)]) G (fun q => q.2) (Bd_element P W x1 G) := by
  unfold Bd_element
  exact frCB (frBd (fr_Bd_bits _ _ _ _) (fS_mono rfl rfl) fq_rf (fun _ G2 hG2 => frCB (frCD (frCB (frT (fr_Bd_element_b49 _ _ _ _ _ _ _) (fS_mono rfl rfl) hG2)))))
theorem fr_Bd_pushBit (P W : Int) (x1 : Int) (G : St) : Fr (fS [181] [(180, 6)]) G (fun q => q.2) (Bd_pushBit P W x1 G) := by
  unfold Bd_pushBit
  exact frCI (frCB (frTk (fq_upL rfl fq_rf) (fun G1 hG1 => frCI (frTk (fq_upK rfl hG1) (fun G2 hG2 => frS hG2)))))
theorem fr_Bd_read (P W : Int) (x1 : Int) (G : St) : Fr (fS [181, 205] [(180, 6)]) G (fun q => q.2) (Bd_read P W x1 G) := by
  unfold Bd_read
  exact frCB (frCD (frCB (frCB (frBd (fr_Bd_bits _ _ _ _) (fS_mono rfl rfl) fq_rf (fun _ G2 hG2 => frIf (frCI (frBd (fr_Bd_push _ _ _ _ _ _) (fS_mono rfl rfl) hG2 (fun _ G14 hG14 => frS hG14))) (frIf (frBd (fr_Bd_inputWord _ _ _ _ _) (fS_mono rfl rfl) hG2 (fun _ G10 hG10 => frBd (fr_Bd_push _ _ _ _ _ _) (fS_mono rfl rfl) hG10 (fun _ G12 hG12 => frS hG12))) (frIf (frCB (frBd (fr_Bd_constant _ _ _ _) (fS_mono rfl rfl) hG2 (fun _ G6 hG6 => frBd (fr_Bd_push _ _ _ _ _ _) (fS_mono rfl rfl) hG6 (fun _ G8 hG8 => frS hG8)))) (frCI (frCB (frCI (frCI (frBd (fr_Bd_push _ _ _ _ _ _) (fS_mono rfl rfl) hG2 (fun _ G4 hG4 => frS hG4)))))))))))))
theorem fr_Bd_factor_b88 (P W : Int) (x1 : Int) (G : St) : Fr (fS [181, 205] [(130, 0), (130, 1), (180, 6), (180, 8)]) G (fun q => q.2) (Bd_factor_b88 P W x1 G) := by
  unfold Bd_factor_b88
  exact frBd (fr_Bd_count _) (fS_mono rfl rfl) fq_rf (fun _ G2 hG2 => frCB (frBd (fr_Bd_constant _ _ _ _) (fS_mono rfl rfl) hG2 (fun _ G4 hG4 => frBd (fr_Bd_push _ _ _ _ _ _) (fS_mono rfl rfl) hG4 (fun _ G6 hG6 => frS hG6))))
theorem fr_Bd_factor_b148 (P W : Int) (s0 : Int) (G : St) : Fr (fS [181] [(180, 6)]) G (fun q => q.2) (Bd_factor_b148 P W s0 G) := by
  unfold Bd_factor_b148
  exact frBd (fr_Bd_pushBit _ _ _ _) (fS_mono rfl rfl) fq_rf (fun _ G10 hG10 => frS hG10)
theorem fr_Bd_factor_b130 (P W : Int) (x2 : Int) (G : St) : Fr (fS [181] [(130, 0), (130, 1), (180, 6), (180, 8)]) G (fun q => q.2) (Bd_factor_b130 P W x2 G) := by
  unfold Bd_factor_b130
  exact frBd (fr_Bd_count _) (fS_mono rfl rfl) fq_rf (fun _ G8 hG8 => frCB (frCB (frIf (frT (fr_Bd_factor_b148 _ _ _ _) (fS_mono rfl rfl) hG8) (frT (fr_Bd_factor_b148 _ _ _ _) (fS_mono rfl rfl) hG8))))
theorem fr_Bd_factor_b154 (P W : Int) (x1 : Int) (G : St) : Fr (fS [181, 205] [(130, 0), (130, 1), (180, 6), (180, 8)]) G (fun q => q.2) (Bd_factor_b154 P W x1 G) := by
  unfold Bd_factor_b154
  exact frBd (fr_Bd_count _) (fS_mono rfl rfl) fq_rf (fun _ G12 hG12 => frBd (fr_Bd_read _ _ _ _) (fS_mono rfl rfl) hG12 (fun _ G14 hG14 => frS hG14))
theorem fr_Bd_factor_b166 (P W : Int) (G : St) : Fr (fS [] [(130, 0), (130, 1), (180, 8)]) G (fun q => q.2) (Bd_factor_b166 P W G) := by
  unfold Bd_factor_b166
  exact frBd (fr_Bd_count _) (fS_mono rfl rfl) fq_rf (fun _ G16 hG16 => frS hG16)
theorem fr_Bd_factor_b173 (P W : Int) (x1 : Int) (G : St) : Fr (fS [141, 142, 143, 144, 181, 205, 207, 211] [(130, 0), (130, 1), (140, 4), (140, 5), (140, 7), (140, 8), (180, 6)]) G (fun q => q.2) (Bd_factor_b173 P W x1 G) := by
  unfold Bd_factor_b173
  exact frBd (fr_Bd_element _ _ _ _) (fS_mono rfl rfl) fq_rf (fun _ G18 hG18 => frS hG18)
theorem fr_Bd_factor_b181 (P W : Int) (x1 : Int) (G : St) : Fr (fS [201, 202] [(180, 7), (180, 29)]) G (fun q => q.2) (Bd_factor_b181 P W x1 G) := by
  unfold Bd_factor_b181
  exact frCB (frTk (fq_upL rfl fq_rf) (fun G19 hG19 => frCB (frCI (frCB (frTk (fq_upL rfl hG19) (fun G20 hG20 => frCI (frTk (fq_upK rfl hG20) (fun G21 hG21 => frCB (frCB (frTk (fq_upK rfl hG21) (fun G22 hG22 => frS hG22)))))))))))
theorem fr_Bd_factor_b248 (P W : Int) (G : St) : Fr (fS [181] []) G (fun q => q.2) (Bd_factor_b248 P W G) := by
  unfold Bd_factor_b248
  exact frBd (fr_Bd_place _ _ _ _) (fS_mono rfl rfl) fq_rf (fun _ G24 hG24 => frCI (frCI (frCA (frCA (frTk (fq_acp rfl hG24) (fun G25 hG25 => frS hG25))))))
theorem fr_Bd_factor_b276 (P W : Int) (x1 : Int) (G : St) : Fr (fS [181] [(130, 0), (130, 1), (180, 6)]) G (fun q => q.2) (Bd_factor_b276 P W x1 G) := by
  unfold Bd_factor_b276
  exact frBd (fr_Bd_place _ _ _ _) (fS_mono rfl rfl) fq_rf (fun _ G27 hG27 => frBd (fr_Bd_valueOf _ _ _ _) (fS_mono rfl rfl) hG27 (fun _ G29 hG29 => frCB (frBd (fr_Bd_needBelow _ _ _ _) (fS_mono rfl rfl) hG29 (fun _ G31 hG31 => frCI (frTk (fq_upK rfl hG31) (fun G32 hG32 => frBd (fr_Ft_is _) (fS_mono rfl rfl) hG32 (fun _ G34 hG34 => frIf (frBd (fr_Bd_place _ _ _ _) (fS_mono rfl rfl) hG34 (fun _ G36 hG36 => frBd (fr_Bd_place _ _ _ _) (fS_mono rfl rfl) hG36 (fun _ G38 hG38 => frCI (frCB (frCB (frTk (fq_upL rfl hG38) (fun G39 hG39 => frS hG39))))))) (frS hG34))))))))
theorem fr_Bd_factor (P W : Int) (x1 : Int) (G : St) : Fr (fS [141, 142, 143, 144, 181, 201, 202, 205, 207, 211] [(130, 0), (130, 1), (140, 4), (140, 5), (140, 7), (140, 8), (180, 6), (180, 7), (180, 8), (180, 29)]) G (fun q => q.2) (Bd_factor P W x1 G) := by
  unfold Bd_factor
  exact frCB (frCB (frSwt (List.forall_mem_cons.mpr ⟨frT (fr_Bd_factor_b88 _ _ _ _) (fS_mono rfl rfl) fq_rf, (List.forall_mem_cons.mpr ⟨frT (fr_Bd_factor_b130 _ _ _ _) (fS_mono rfl rfl) fq_rf, (List.forall_mem_cons.mpr ⟨frT (fr_Bd_factor_b130 _ _ _ _) (fS_mono rfl rfl) fq_rf, (List.forall_mem_cons.mpr ⟨frT (fr_Bd_factor_b154 _ _ _ _) (fS_mono rfl rfl) fq_rf, (List.forall_mem_cons.mpr ⟨frT (fr_Bd_factor_b166 _ _ _) (fS_mono rfl rfl) fq_rf, (List.forall_mem_cons.mpr ⟨frT (fr_Bd_factor_b173 _ _ _ _) (fS_mono rfl rfl) fq_rf, (List.forall_mem_cons.mpr ⟨frT (fr_Bd_factor_b166 _ _ _) (fS_mono rfl rfl) fq_rf, (List.forall_mem_cons.mpr ⟨frS fq_rf, (List.forall_mem_cons.mpr ⟨frT (fr_Bd_factor_b181 _ _ _ _) (fS_mono rfl rfl) fq_rf, (List.forall_mem_cons.mpr ⟨frT (fr_Bd_factor_b166 _ _ _) (fS_mono rfl rfl) fq_rf, (List.forall_mem_cons.mpr ⟨frT (fr_Bd_factor_b248 _ _ _) (fS_mono rfl rfl) fq_rf, (List.forall_mem_cons.mpr ⟨frT (fr_Bd_factor_b166 _ _ _) (fS_mono rfl rfl) fq_rf, (List.forall_mem_cons.mpr ⟨frS fq_rf, (List.forall_mem_cons.mpr ⟨frT (fr_Bd_factor_b276 _ _ _ _) (fS_mono rfl rfl) fq_rf, (List.forall_mem_cons.mpr ⟨frT (fr_Bd_factor_b166 _ _ _) (fS_mono rfl rfl) fq_rf, (fun _ h => nomatch h)⟩)⟩)⟩)⟩)⟩)⟩)⟩)⟩)⟩)⟩)⟩)⟩)⟩)⟩)⟩) (frS fq_rf)))
theorem fr_Wo_less_b31 (P W : Int) (x1 : Int) (x2 : Int) (x3 : Int) (x4 : Int) (x5 : Int) (x6 : Int) (s0 : Int) (G : St) : Fr (fS [141, 142, 143, 144] [(140, 4), (140, 5), (140, 7), (140, 8)]) G (Sum.elim (fun q => q.2.2) (fun q => q.2)) (Wo_less_b31 P W x1 x2 x3 x4 x5 x6 s0 G) := by
  unfold Wo_less_b31
  exact frCI (frCB (frBd (fr_Ci_xor _ _ _) (fS_mono rfl rfl) fq_rf (fun _ G2 hG2 => frCI (frCB (frBd (fr_Ci_xor _ _ _) (fS_mono rfl rfl) hG2 (fun _ G4 hG4 => frBd (fr_Ci_and _ _ _) (fS_mono rfl rfl) hG4 (fun _ G6 hG6 => frBd (fr_Ci_xor _ _ _) (fS_mono rfl rfl) hG6 (fun _ G8 hG8 => frCI (frS hG8)))))))))
theorem fr_Wo_less_s6 (P W : Int) (x1 : Int) (x2 : Int) (x3 : Int) (x4 : Int) (x5 : Int) (x6 : Int) (G : St) : Fr (fS [141, 142, 143, 144] [(140, 4), (140, 5), (140, 7), (140, 8)]) G (Sum.elim (fun q => q.2.2) (fun q => q.2)) (Wo_less_s6 P W x1 x2 x3 x4 x5 x6 G) := by
  unfold Wo_less_s6
  exact frIf (frCI (frT (fr_Wo_less_b31 _ _ _ _ _ _ _ _ _ _) (fS_mono rfl rfl) fq_rf)) (frEx (frS fq_rf))
theorem fr_Wo_less_l6 (P W : Int) (x1 : Int) (x2 : Int) (x3 : Int) (x4 : Int) (x5 : Int) (x6 : Int) (G : St) : Fr (fS [141, 142, 143, 144] [(140, 4), (140, 5), (140, 7), (140, 8)]) G (fun q => q.2) (Wo_less_l6 P W x1 x2 x3 x4 x5 x6 G) := frWh (pi := fun (s : (Int × Int × St)) => s.2.2) (fun (s : (Int × Int × St)) => fr_Wo_less_s6 P W x1 x2 x3 x4 s.1 s.2.1 s.2.2)
theorem fr_Wo_less (P W : Int) (x1 : Int) (x2 : Int) (x3 : Int) (x4 : Int) (G : St) : Fr (fS [141, 142, 143, 144] [(140, 4), (140, 5), (140, 7), (140, 8)]) G (fun q => q.2) (Wo_less P W x1 x2 x3 x4 G) := by
  unfold Wo_less
  exact frT (fr_Wo_less_l6 _ _ _ _ _ _ _ _ _) (fS_mono rfl rfl) fq_rf
theorem fr_Bd_compared_b40 (P W : Int) (x2 : Int) (x3 : Int) (x4 : Int) (G : St) : Fr (fS [141, 142, 143, 144, 211] [(140, 4), (140, 5), (140, 7), (140, 8)]) G (fun q => q.2) (Bd_compared_b40 P W x2 x3 x4 G) := by
  unfold Bd_compared_b40
  exact frBd (fr_Wo_equal _ _ _ _ _ _ _ _) (fS_mono rfl rfl) fq_rf (fun _ G2 hG2 => frS hG2)
theorem fr_Bd_compared_b60 (P W : Int) (x2 : Int) (x3 : Int) (x4 : Int) (G : St) : Fr (fS [141, 142, 143, 144, 211] [(140, 4), (140, 5), (140, 7), (140, 8)]) G (fun q => q.2) (Bd_compared_b60 P W x2 x3 x4 G) := by
  unfold Bd_compared_b60
  exact frBd (fr_Wo_equal _ _ _ _ _ _ _ _) (fS_mono rfl rfl) fq_rf (fun _ G4 hG4 => frS hG4)
theorem fr_Bd_compared_b82 (P W : Int) (x2 : Int) (x3 : Int) (G : St) : Fr (fS [141, 142, 143, 144] [(140, 4), (140, 5), (140, 7), (140, 8)]) G (fun q => q.2) (Bd_compared_b82 P W x2 x3 G) := by
  unfold Bd_compared_b82
  exact frBd (fr_Wo_less _ _ _ _ _ _ _) (fS_mono rfl rfl) fq_rf (fun _ G6 hG6 => frS hG6)
theorem fr_Bd_compared_b100 (P W : Int) (x2 : Int) (x3 : Int) (G : St) : Fr (fS [141, 142, 143, 144] [(140, 4), (140, 5), (140, 7), (140, 8)]) G (fun q => q.2) (Bd_compared_b100 P W x2 x3 G) := by
  unfold Bd_compared_b100
  exact frBd (fr_Wo_less _ _ _ _ _ _ _) (fS_mono rfl rfl) fq_rf (fun _ G8 hG8 => frS hG8)
theorem fr_Bd_compared_b120 (P W : Int) (x2 : Int) (x3 : Int) (G : St) : Fr (fS [141, 142, 143, 144] [(140, 4), (140, 5), (140, 7), (140, 8)]) G (fun q => q.2) (Bd_compared_b120 P W x2 x3 G) := by
  unfold Bd_compared_b120
  exact frBd (fr_Wo_less _ _ _ _ _ _ _) (fS_mono rfl rfl) fq_rf (fun _ G10 hG10 => frS hG10)
theorem fr_Bd_compared_b138 (P W : Int) (x2 : Int) (x3 : Int) (G : St) : Fr (fS [141, 142, 143, 144] [(140, 4), (140, 5), (140, 7), (140, 8)]) G (fun q => q.2) (Bd_compared_b138 P W x2 x3 G) := by
  unfold Bd_compared_b138
  exact frBd (fr_Wo_less _ _ _ _ _ _ _) (fS_mono rfl rfl) fq_rf (fun _ G12 hG12 => frS hG12)
theorem fr_Bd_compared (P W : Int) (x1 : Int) (x2 : Int) (x3 : Int) (x4 : Int) (G : St) : Fr (fS [141, 142, 143, 144, 211] [(140, 4), (140, 5), (140, 7), (140, 8)]) G (fun q => q.2) (Bd_compared P W x1 x2 x3 x4 G) := by
  unfold Bd_compared
  exact frCB (frSwt (List.forall_mem_cons.mpr ⟨frT (fr_Bd_compared_b40 _ _ _ _ _ _) (fS_mono rfl rfl) fq_rf, (List.forall_mem_cons.mpr ⟨frT (fr_Bd_compared_b60 _ _ _ _ _ _) (fS_mono rfl rfl) fq_rf, (List.forall_mem_cons.mpr ⟨frT (fr_Bd_compared_b82 _ _ _ _ _) (fS_mono rfl rfl) fq_rf, (List.forall_mem_cons.mpr ⟨frT (fr_Bd_compared_b100 _ _ _ _ _) (fS_mono rfl rfl) fq_rf, (List.forall_mem_cons.mpr ⟨frT (fr_Bd_compared_b120 _ _ _ _ _) (fS_mono rfl rfl) fq_rf, (fun _ h => nomatch h)⟩)⟩)⟩)⟩)⟩) (frT (fr_Bd_compared_b138 _ _ _ _ _) (fS_mono rfl rfl) fq_rf))
theorem fr_Ci_or (x1 : Int) (x2 : Int) (G : St) : Fr (fS [141, 142, 143, 144] [(140, 4), (140, 5), (140, 7), (140, 8)]) G (fun q => q.2) (Ci_or x1 x2 G) := by
  unfold Ci_or
  exact frBd (fr_Ci_and _ _ _) (fS_mono rfl rfl) fq_rf (fun _ G2 hG2 => frS hG2)
theorem fr_Bd_bitwise_s63 (P W : Int) (x2 : Int) (x3 : Int) (x4 : Int) (x5 : Int) (G : St) : Fr (fS [141, 142, 143, 144, 181, 207] [(140, 4), (140, 5), (140, 7), (140, 8), (180, 6)]) G (Sum.elim (fun q => q.2) (fun q => q.2)) (Bd_bitwise_s63 P W x2 x3 x4 x5 G) := by
  unfold Bd_bitwise_s63
  exact frIf (frCI (frCB (frCI (frCB (frBd (fr_Ci_or _ _ _) (fS_mono rfl rfl) fq_rf (fun _ G6 hG6 => frCB (frTk (fq_upL rfl hG6) (fun G7 hG7 => frCI (frS hG7))))))))) (frEx (frBd (fr_Bd_settle _ _ _ _ _) (fS_mono rfl rfl) fq_rf (fun _ G4 hG4 => frS hG4)))
theorem fr_Bd_bitwise_l63 (P W : Int) (x2 : Int) (x3 : Int) (x4 : Int) (x5 : Int) (G : St) : Fr (fS [141, 142, 143, 144, 181, 207] [(140, 4), (140, 5), (140, 7), (140, 8), (180, 6)]) G (fun q => q.2) (Bd_bitwise_l63 P W x2 x3 x4 x5 G) := frWh (pi := fun (s : (Int × St)) => s.2) (fun (s : (Int × St)) => fr_Bd_bitwise_s63 P W x2 x3 x4 s.1 s.2)
theorem fr_Bd_bitwise_b60 (P W : Int) (x2 : Int) (x3 : Int) (x4 : Int) (G : St) : Fr (fS [141, 142, 143, 144, 181, 207] [(140, 4), (140, 5), (140, 7), (140, 8), (180, 6)]) G (fun q => q.2) (Bd_bitwise_b60 P W x2 x3 x4 G) := by
  unfold Bd_bitwise_b60
  exact frT (fr_Bd_bitwise_l63 _ _ _ _ _ _ _) (fS_mono rfl rfl) fq_rf
theorem fr_Bd_bitwise_s121 (P W : Int) (x2 : Int) (x3 : Int) (x4 : Int) (x5 : Int) (G : St) : Fr (fS [141, 142, 143, 144, 181, 207] [(140, 4), (140, 5), (140, 7), (140, 8), (180, 6)]) G (Sum.elim (fun q => q.2) (fun q => q.2)) (Bd_bitwise_s121 P W x2 x3 x4 x5 G) := by
  unfold Bd_bitwise_s121
  exact frIf (frCI (frCB (frCI (frCB (frBd (fr_Ci_and _ _ _) (fS_mono rfl rfl) fq_rf (fun _ G11 hG11 => frCB (frTk (fq_upL rfl hG11) (fun G12 hG12 => frCI (frS hG12))))))))) (frEx (frBd (fr_Bd_settle _ _ _ _ _) (fS_mono rfl rfl) fq_rf (fun _ G9 hG9 => frS hG9)))
theorem fr_Bd_bitwise_l121 (P W : Int) (x2 : Int) (x3 : Int) (x4 : Int) (x5 : Int) (G : St) : Fr (fS [141, 142, 143, 144, 181, 207] [(140, 4), (140, 5), (140, 7), (140, 8), (180, 6)]) G (fun q => q.2) (Bd_bitwise_l121 P W x2 x3 x4 x5 G) := frWh (pi := fun (s : (Int × St)) => s.2) (fun (s : (Int × St)) => fr_Bd_bitwise_s121 P W x2 x3 x4 s.1 s.2)
theorem fr_Bd_bitwise_b118 (P W : Int) (x2 : Int) (x3 : Int) (x4 : Int) (G : St) : Fr (fS [141, 142, 143, 144, 181, 207] [(140, 4), (140, 5), (140, 7), (140, 8), (180, 6)]) G (fun q => q.2) (Bd_bitwise_b118 P W x2 x3 x4 G) := by
  unfold Bd_bitwise_b118
  exact frT (fr_Bd_bitwise_l121 _ _ _ _ _ _ _) (fS_mono rfl rfl) fq_rf
theorem fr_Bd_bitwise_s179 (P W : Int) (x2 : Int) (x3 : Int) (x4 : Int) (x5 : Int) (G : St) : Fr (fS [141, 142, 143, 144, 181, 207] [(140, 4), (140, 5), (140, 7), (140, 8), (180, 6)]) G (Sum.elim (fun q => q.2) (fun q => q.2)) (Bd_bitwise_s179 P W x2 x3 x4 x5 G) := by
  unfold Bd_bitwise_s179
  exact frIf (frCI (frCB (frCI (frCB (frBd (fr_Ci_xor _ _ _) (fS_mono rfl rfl) fq_rf (fun _ G16 hG16 => frCB (frTk (fq_upL rfl hG16) (fun G17 hG17 => frCI (frS hG17))))))))) (frEx (frBd (fr_Bd_settle _ _ _ _ _) (fS_mono rfl rfl) fq_rf (fun _ G14 hG14 => frS hG14)))
theorem fr_Bd_bitwise_l179 (P W : Int) (x2 : Int) (x3 : Int) (x4 : Int) (x5 : Int) (G : St) : Fr (fS [141, 142, 143, 144, 181, 207] [(140, 4), (140, 5), (140, 7), (140, 8), (180, 6)]) G (fun q => q.2) (Bd_bitwise_l179 P W x2 x3 x4 x5 G) := frWh (pi := fun (s : (Int × St)) => s.2) (fun (s : (Int × St)) => fr_Bd_bitwise_s179 P W x2 x3 x4 s.1 s.2)
theorem fr_Bd_bitwise_b176 (P W : Int) (x2 : Int) (x3 : Int) (x4 : Int) (G : St) : Fr (fS [141, 142, 143, 144, 181, 207] [(140, 4), (140, 5), (140, 7), (140, 8), (180, 6)]) G (fun q => q.2) (Bd_bitwise_b176 P W x2 x3 x4 G) := by
  unfold Bd_bitwise_b176
  exact frT (fr_Bd_bitwise_l179 _ _ _ _ _ _ _) (fS_mono rfl rfl) fq_rf
theorem fr_Bd_bitwise_b234 (P W : Int) (x1 : Int) (x2 : Int) (x3 : Int) (x4 : Int) (G : St) : Fr (fS [141, 142, 143, 144, 181, 207, 211] [(140, 4), (140, 5), (140, 7), (140, 8), (180, 6)]) G (fun q => q.2) (Bd_bitwise_b234 P W x1 x2 x3 x4 G) := by
  unfold Bd_bitwise_b234
  exact frCB (frBd (fr_Bd_compared _ _ _ _ _ _ _) (fS_mono rfl rfl) fq_rf (fun _ G19 hG19 => frCB (frTk (fq_upL rfl hG19) (fun G20 hG20 => frBd (fr_Bd_settle _ _ _ _ _) (fS_mono rfl rfl) hG20 (fun _ G22 hG22 => frS hG22)))))
theorem fr_Bd_bitwise (P W : Int) (x1 : Int) (x2 : Int) (x3 : Int) (G : St) : Fr (fS [141, 142, 143, 144, 181, 207, 211] [(140, 4), (140, 5), (140, 7), (140, 8), (180, 6)]) G (fun q => q.2) (Bd_bitwise P W x1 x2 x3 G) := by
  unfold Bd_bitwise
  exact frCB (frBd (fr_Bd_bits _ _ _ _) (fS_mono rfl rfl) fq_rf (fun _ G2 hG2 => frCB (frCB (frSwt (List.forall_mem_cons.mpr ⟨frT (fr_Bd_bitwise_b60 _ _ _ _ _ _) (fS_mono rfl rfl) hG2, (List.forall_mem_cons.mpr ⟨frT (fr_Bd_bitwise_b118 _ _ _ _ _ _) (fS_mono rfl rfl) hG2, (List.forall_mem_cons.mpr ⟨frT (fr_Bd_bitwise_b60 _ _ _ _ _ _) (fS_mono rfl rfl) hG2, (List.forall_mem_cons.mpr ⟨frT (fr_Bd_bitwise_b176 _ _ _ _ _ _) (fS_mono rfl rfl) hG2, (List.forall_mem_cons.mpr ⟨frT (fr_Bd_bitwise_b118 _ _ _ _ _ _) (fS_mono rfl rfl) hG2, (fun _ h => nomatch h)⟩)⟩)⟩)⟩)⟩) (frT (fr_Bd_bitwise_b234 _ _ _ _ _ _ _) (fS_mono rfl rfl) hG2)))))
theorem fr_Bd_shift_b119 (P W : Int) (x2 : Int) (x5 : Int) (x6 : Int) (s0 : Int) (s1 : Int) (G : St) : Fr (fS [207] []) G (Sum.elim (fun q => q.2) (fun q => q.2)) (Bd_shift_b119 P W x2 x5 x6 s0 s1 G) := by
  unfold Bd_shift_b119
  exact frCB (frTk (fq_upL rfl fq_rf) (fun G11 hG11 => frCI (frS hG11)))
theorem fr_Bd_shift_s67 (P W : Int) (x2 : Int) (x5 : Int) (x6 : Int) (G : St) : Fr (fS [181, 207] [(180, 6)]) G (Sum.elim (fun q => q.2) (fun q => q.2)) (Bd_shift_s67 P W x2 x5 x6 G) := by
  unfold Bd_shift_s67
  exact frIf (frCI (frIf (frT (fr_Bd_shift_b119 _ _ _ _ _ _ _ _) (fS_mono rfl rfl) fq_rf) (frCI (frIf (frCI (frCI (frCB (frT (fr_Bd_shift_b119 _ _ _ _ _ _ _ _) (fS_mono rfl rfl) fq_rf)))) (frT (fr_Bd_shift_b119 _ _ _ _ _ _ _ _) (fS_mono rfl rfl) fq_rf))))) (frEx (frBd (fr_Bd_settle _ _ _ _ _) (fS_mono rfl rfl) fq_rf (fun _ G10 hG10 => frS hG10)))
theorem fr_Bd_shift_l67 (P W : Int) (x2 : Int) (x5 : Int) (x6 : Int) (G : St) : Fr (fS [181, 207] [(180, 6)]) G (fun q => q.2) (Bd_shift_l67 P W x2 x5 x6 G) := frWh (pi := fun (s : (Int × St)) => s.2) (fun (s : (Int × St)) => fr_Bd_shift_s67 P W x2 x5 s.1 s.2)
theorem fr_Bd_shift_b62 (P W : Int) (x2 : Int) (s0 : Int) (G : St) : Fr (fS [181, 207] [(180, 6)]) G (fun q => q.2) (Bd_shift_b62 P W x2 s0 G) := by
  unfold Bd_shift_b62
  exact frT (fr_Bd_shift_l67 _ _ _ _ _ _) (fS_mono rfl rfl) fq_rf
theorem fr_Bd_shift (P W : Int) (x1 : Int) (x2 : Int) (G : St) : Fr (fS [181, 207] [(130, 0), (130, 1), (180, 6)]) G (fun q => q.2) (Bd_shift P W x1 x2 G) := by
  unfold Bd_shift
  exact frBd (fr_Bd_place _ _ _ _) (fS_mono rfl rfl) fq_rf (fun _ G2 hG2 => frBd (fr_Bd_valueOf _ _ _ _) (fS_mono rfl rfl) hG2 (fun _ G4 hG4 => frCB (frBd (fr_Bd_needBelow _ _ _ _) (fS_mono rfl rfl) hG4 (fun _ G6 hG6 => frBd (fr_Ft_is _) (fS_mono rfl rfl) hG6 (fun _ G8 hG8 => frIf (frCB (frCB (frCB (frIf (frCL (frT (fr_Bd_shift_b62 _ _ _ _ _) (fS_mono rfl rfl) hG8)) (frT (fr_Bd_shift_b62 _ _ _ _ _) (fS_mono rfl rfl) hG8))))) (frS hG8))))))
theorem fr_Ci_mux (x1 : Int) (x2 : Int) (x3 : Int) (G : St) : Fr (fS [141, 142, 143, 144] [(140, 4), (140, 5), (140, 7), (140, 8)]) G (fun q => q.2) (Ci_mux x1 x2 x3 G) := by
  unfold Ci_mux
  exact frBd (fr_Ci_xor _ _ _) (fS_mono rfl rfl) fq_rf (fun _ G2 hG2 => frBd (fr_Ci_and _ _ _) (fS_mono rfl rfl) hG2 (fun _ G4 hG4 => frBd (fr_Ci_xor _ _ _) (fS_mono rfl rfl) hG4 (fun _ G6 hG6 => frS hG6)))
theorem fr_Wo_sum_b114 (P W : Int) (x1 : Int) (x2 : Int) (x3 : Int) (x4 : Int) (x5 : Int) (x7 : Int) (x8 : Int) (x9 : Int) (x10 : Int) (x11 : Int) (G : St) : Fr (fS [] []) G (Sum.elim (fun q => q.2.2) (fun q => q.2)) (Wo_sum_b114 P W x1 x2 x3 x4 x5 x7 x8 x9 x10 x11 G) := by
  unfold Wo_sum_b114
  exact frCI (frS fq_rf)
theorem fr_Wo_quotient_s224 (P W : Int) (x1 : Int) (x2 : Int) (x3 : Int) (x4 : Int) (x5 : Int) (x6 : Int) (x7 : Int) (x8 : Int) (x9 : Int) (x10 : Int) (G : St) : Fr (fS [141, 142, 143, 144, 213] [(140, 4), (140, 5), (140, 7), (140, 8)]) G (Sum.elim (fun q => q.2) (Sum.elim (fun q => q.2) (fun q => q.2))) (Wo_quotient_s224 P W x1 x2 x3 x4 x5 x6 x7 x8 x9 x10 G) := by
  unfold Wo_quotient_s224
  exact frIf (frCB (frCB (frBd (fr_Ci_mux _ _ _ _) (fS_mono rfl rfl) fq_rf (fun _ G5 hG5 => frCB (frTk (fq_upL rfl hG5) (fun G6 hG6 => frCI (frS hG6))))))) (frEx (frCI (frS fq_rf)))
theorem fr_Wo_quotient_l224 (P W : Int) (x1 : Int) (x2 : Int) (x3 : Int) (x4 : Int) (x5 : Int) (x6 : Int) (x7 : Int) (x8 : Int) (x9 : Int) (x10 : Int) (G : St) : Fr (fS [141, 142, 143, 144, 213] [(140, 4), (140, 5), (140, 7), (140, 8)]) G (Sum.elim (fun q => q.2) (fun q => q.2)) (Wo_quotient_l224 P W x1 x2 x3 x4 x5 x6 x7 x8 x9 x10 G) := frWh (pi := fun (s : (Int × St)) => s.2) (fun (s : (Int × St)) => fr_Wo_quotient_s224 P W x1 x2 x3 x4 x5 x6 x7 x8 x9 s.1 s.2)
theorem fr_Wo_quotient_b166 (P W : Int) (x1 : Int) (x2 : Int) (x3 : Int) (x4 : Int) (x5 : Int) (x6 : Int) (x7 : Int) (x8 : Int) (x9 : Int) (x10 : Int) (x11 : Int) (G : St) : Fr (fS [141, 142, 143, 144] [(140, 4), (140, 5), (140, 7), (140, 8)]) G (Sum.elim (fun q => q.2.2) (Sum.elim (fun q => q.2) (fun q => q.2))) (Wo_quotient_b166 P W x1 x2 x3 x4 x5 x6 x7 x8 x9 x10 x11 G) := by
  unfold Wo_quotient_b166
  exact frCB (frBd (fr_Ci_xor _ _ _) (fS_mono rfl rfl) fq_rf (fun _ G10 hG10 => frBd (fr_Ci_and _ _ _) (fS_mono rfl rfl) hG10 (fun _ G12 hG12 => frBd (fr_Ci_xor _ _ _) (fS_mono rfl rfl) hG12 (fun _ G14 hG14 => frCI (frS hG14)))))
theorem fr_Wo_quotient_b127 (P W : Int) (x1 : Int) (x2 : Int) (x3 : Int) (x4 : Int) (x5 : Int) (x6 : Int) (x7 : Int) (x8 : Int) (x9 : Int) (x10 : Int) (s0 : Int) (G : St) : Fr (fS [141, 142, 143, 144, 212] [(140, 4), (140, 5), (140, 7), (140, 8)]) G (Sum.elim (fun q => q.2.2) (Sum.elim (fun q => q.2) (fun q => q.2))) (Wo_quotient_b127 P W x1 x2 x3 x4 x5 x6 x7 x8 x9 x10 s0 G) := by
  unfold Wo_quotient_b127
  exact frBd (fr_Ci_xor _ _ _) (fS_mono rfl rfl) fq_rf (fun _ G8 hG8 => frIf (frCB (frBd (fr_Ci_xor _ _ _) (fS_mono rfl rfl) hG8 (fun _ G16 hG16 => frCB (frTk (fq_upL rfl hG16) (fun G17 hG17 => frT (fr_Wo_quotient_b166 _ _ _ _ _ _ _ _ _ _ _ _ _ _) (fS_mono rfl rfl) hG17))))) (frT (fr_Wo_quotient_b166 _ _ _ _ _ _ _ _ _ _ _ _ _ _) (fS_mono rfl rfl) hG8))
theorem fr_Wo_quotient_s92 (P W : Int) (x1 : Int) (x2 : Int) (x3 : Int) (x4 : Int) (x5 : Int) (x6 : Int) (x7 : Int) (x8 : Int) (x9 : Int) (x10 : Int) (G : St) : Fr (fS [141, 142, 143, 144, 211, 212, 213] [(140, 4), (140, 5), (140, 7), (140, 8)]) G (Sum.elim (fun q => q.2.2) (Sum.elim (fun q => q.2) (fun q => q.2))) (Wo_quotient_s92 P W x1 x2 x3 x4 x5 x6 x7 x8 x9 x10 G) := by
  unfold Wo_quotient_s92
  exact frIf (frEx (frCB (frTk (fq_upL rfl fq_rf) (fun G3 hG3 => frT (fr_Wo_quotient_l224 _ _ _ _ _ _ _ _ _ _ _ _ _) (fS_mono rfl rfl) hG3)))) (frIf (frCI (frCB (frT (fr_Wo_quotient_b127 _ _ _ _ _ _ _ _ _ _ _ _ _ _) (fS_mono rfl rfl) fq_rf))) (frT (fr_Wo_quotient_b127 _ _ _ _ _ _ _ _ _ _ _ _ _ _) (fS_mono rfl rfl) fq_rf))
theorem fr_Wo_quotient_l92 (P W : Int) (x1 : Int) (x2 : Int) (x3 : Int) (x4 : Int) (x5 : Int) (x6 : Int) (x7 : Int) (x8 : Int) (x9 : Int) (x10 : Int) (G : St) : Fr (fS [141, 142, 143, 144, 211, 212, 213] [(140, 4), (140, 5), (140, 7), (140, 8)]) G (Sum.elim (fun q => q.2) (fun q => q.2)) (Wo_quotient_l92 P W x1 x2 x3 x4 x5 x6 x7 x8 x9 x10 G) := frWh (pi := fun (s : (Int × Int × St)) => s.2.2) (fun (s : (Int × Int × St)) => fr_Wo_quotient_s92 P W x1 x2 x3 x4 x5 x6 x7 x8 s.1 s.2.1 s.2.2)
theorem fr_Wo_quotient_s55 (P W : Int) (x1 : Int) (x2 : Int) (x3 : Int) (x4 : Int) (x5 : Int) (x6 : Int) (x7 : Int) (x8 : Int) (x9 : Int) (G : St) : Fr (fS [141, 142, 143, 144, 211, 212, 213, 214] [(140, 4), (140, 5), (140, 7), (140, 8)]) G (Sum.elim (fun q => q.2) (Sum.elim (fun q => q.2) (fun q => q.2))) (Wo_quotient_s55 P W x1 x2 x3 x4 x5 x6 x7 x8 x9 G) := by
  unfold Wo_quotient_s55
  exact frIf (frCI (frCB (frCB (frTk (fq_upL rfl fq_rf) (fun G18 hG18 => frCI (frS hG18)))))) (frEx (frT (fr_Wo_quotient_l92 _ _ _ _ _ _ _ _ _ _ _ _ _) (fS_mono rfl rfl) fq_rf))
theorem fr_Wo_quotient_l55 (P W : Int) (x1 : Int) (x2 : Int) (x3 : Int) (x4 : Int) (x5 : Int) (x6 : Int) (x7 : Int) (x8 : Int) (x9 : Int) (G : St) : Fr (fS [141, 142, 143, 144, 211, 212, 213, 214] [(140, 4), (140, 5), (140, 7), (140, 8)]) G (Sum.elim (fun q => q.2) (fun q => q.2)) (Wo_quotient_l55 P W x1 x2 x3 x4 x5 x6 x7 x8 x9 G) := frWh (pi := fun (s : (Int × St)) => s.2) (fun (s : (Int × St)) => fr_Wo_quotient_s55 P W x1 x2 x3 x4 x5 x6 x7 x8 s.1 s.2)
theorem fr_Bd_operator_b419 (P W : Int) (x1 : Int) (x2 : Int) (G : St) : Fr (fS [181, 207] [(130, 0), (130, 1), (180, 6)]) G (fun q => q.2) (Bd_operator_b419 P W x1 x2 G) := by
  unfold Bd_operator_b419
  exact frBd (fr_Bd_shift _ _ _ _ _) (fS_mono rfl rfl) fq_rf (fun _ G6 hG6 => frS hG6)
theorem fr_Bd_operator_s131 (P W : Int) (x3 : Int) (x4 : Int) (G : St) : Fr (fS [181] []) G (Sum.elim (fun q => q.2) (fun q => q.2)) (Bd_operator_s131 P W x3 x4 G) := by
  unfold Bd_operator_s131
  exact frIf (frCI (frCB (frCB (frTk (fq_upL rfl fq_rf) (fun G23 hG23 => frCI (frS hG23)))))) (frEx (frS fq_rf))
theorem fr_Bd_operator_l131 (P W : Int) (x3 : Int) (x4 : Int) (G : St) : Fr (fS [181] []) G (fun q => q.2) (Bd_operator_l131 P W x3 x4 G) := frWh (pi := fun (s : (Int × St)) => s.2) (fun (s : (Int × St)) => fr_Bd_operator_s131 P W x3 s.1 s.2)
theorem fr_Bd_operator_b128 (P W : Int) (x3 : Int) (G : St) : Fr (fS [181] []) G (fun q => q.2) (Bd_operator_b128 P W x3 G) := by
  unfold Bd_operator_b128
  exact frT (fr_Bd_operator_l131 _ _ _ _ _) (fS_mono rfl rfl) fq_rf
theorem fr_Bd_operator_b162 (P W : Int) (x3 : Int) (G : St) : Fr (fS [181] []) G (fun q => q.2) (Bd_operator_b162 P W x3 G) := by
  unfold Bd_operator_b162
  exact frCB (frCB (frTk (fq_upL rfl fq_rf) (fun G24 hG24 => frS hG24)))
theorem fr_Bd_operator_s193 (P W : Int) (x2 : Int) (x3 : Int) (x4 : Int) (x5 : Int) (G : St) : Fr (fS [141, 142, 143, 144, 181, 207] [(140, 4), (140, 5), (140, 7), (140, 8), (180, 6)]) G (Sum.elim (fun q => q.2) (fun q => q.2)) (Bd_operator_s193 P W x2 x3 x4 x5 G) := by
  unfold Bd_operator_s193
  exact frIf (frBd (fr_Bd_place _ _ _ _) (fS_mono rfl rfl) fq_rf (fun _ G30 hG30 => frCB (frCI (frCB (frCI (frCB (frBd (fr_Ci_mux _ _ _ _) (fS_mono rfl rfl) hG30 (fun _ G32 hG32 => frCB (frTk (fq_upL rfl hG32) (fun G33 hG33 => frCI (frS hG33))))))))))) (frEx (frBd (fr_Bd_settle _ _ _ _ _) (fS_mono rfl rfl) fq_rf (fun _ G28 hG28 => frS hG28)))
theorem fr_Bd_operator_l193 (P W : Int) (x2 : Int) (x3 : Int) (x4 : Int) (x5 : Int) (G : St) : Fr (fS [141, 142, 143, 144, 181, 207] [(140, 4), (140, 5), (140, 7), (140, 8), (180, 6)]) G (fun q => q.2) (Bd_operator_l193 P W x2 x3 x4 x5 G) := frWh (pi := fun (s : (Int × St)) => s.2) (fun (s : (Int × St)) => fr_Bd_operator_s193 P W x2 x3 x4 s.1 s.2)
theorem fr_Bd_operator_b175 (P W : Int) (x1 : Int) (x2 : Int) (x3 : Int) (G : St) : Fr (fS [141, 142, 143, 144, 181, 207] [(140, 4), (140, 5), (140, 7), (140, 8), (180, 6)]) G (fun q => q.2) (Bd_operator_b175 P W x1 x2 x3 G) := by
  unfold Bd_operator_b175
  exact frCB (frBd (fr_Bd_bits _ _ _ _) (fS_mono rfl rfl) fq_rf (fun _ G26 hG26 => frT (fr_Bd_operator_l193 _ _ _ _ _ _ _) (fS_mono rfl rfl) hG26))
theorem fr_Bd_operator_b431 (P W : Int) (x1 : Int) (x2 : Int) (x3 : Int) (G : St) : Fr (fS [141, 142, 143, 144, 181, 207, 211] [(140, 4), (140, 5), (140, 7), (140, 8), (180, 6)]) G (fun q => q.2) (Bd_operator_b431 P W x1 x2 x3 G) := by
  unfold Bd_operator_b431
  exact frBd (fr_Bd_bitwise _ _ _ _ _ _) (fS_mono rfl rfl) fq_rf (fun _ G35 hG35 => frS hG35)
theorem fr_Bd_assign_b239 (P W : Int) (G : St) : Fr (fS [] [(180, 6)]) G (fun q => q.2) (Bd_assign_b239 P W G) := by
  unfold Bd_assign_b239
  exact frCI (frTk (fq_upK rfl fq_rf) (fun G7 hG7 => frS hG7))
theorem fr_Bd_assign_s166 (P W : Int) (x2 : Int) (x3 : Int) (x4 : Int) (x5 : Int) (x6 : Int) (x7 : Int) (x8 : Int) (x9 : Int) (G : St) : Fr (fS [141, 142, 143, 144, 185] [(140, 4), (140, 5), (140, 7), (140, 8)]) G (Sum.elim (fun q => q.2) (Sum.elim (fun q => q.2) (fun q => q.2))) (Bd_assign_s166 P W x2 x3 x4 x5 x6 x7 x8 x9 G) := by
  unfold Bd_assign_s166
  exact frIf (frCI (frCI (frCI (frCI (frCB (frCI (frCI (frCI (frCB (frBd (fr_Ci_mux _ _ _ _) (fS_mono rfl rfl) fq_rf (fun _ G11 hG11 => frCB (frTk (fq_upL rfl hG11) (fun G12 hG12 => frCI (frS hG12)))))))))))))) (frEx (frCI (frS fq_rf)))
theorem fr_Bd_assign_l166 (P W : Int) (x2 : Int) (x3 : Int) (x4 : Int) (x5 : Int) (x6 : Int) (x7 : Int) (x8 : Int) (x9 : Int) (G : St) : Fr (fS [141, 142, 143, 144, 185] [(140, 4), (140, 5), (140, 7), (140, 8)]) G (Sum.elim (fun q => q.2) (fun q => q.2)) (Bd_assign_l166 P W x2 x3 x4 x5 x6 x7 x8 x9 G) := frWh (pi := fun (s : (Int × St)) => s.2) (fun (s : (Int × St)) => fr_Bd_assign_s166 P W x2 x3 x4 x5 x6 x7 x8 s.1 s.2)
theorem fr_Bd_assign_s147 (P W : Int) (x2 : Int) (x3 : Int) (x4 : Int) (x5 : Int) (x6 : Int) (x7 : Int) (G : St) : Fr (fS [141, 142, 143, 144, 185, 205, 211] [(140, 4), (140, 5), (140, 7), (140, 8), (180, 6)]) G (Sum.elim (fun q => q.2) (fun q => q.2)) (Bd_assign_s147 P W x2 x3 x4 x5 x6 x7 G) := by
  unfold Bd_assign_s147
  exact frIf (frBd (fr_Bd_isElement _ _ _ _ _) (fS_mono rfl rfl) fq_rf (fun _ G9 hG9 => frT (fr_Bd_assign_l166 _ _ _ _ _ _ _ _ _ _ _) (fS_mono rfl rfl) hG9)) (frEx (frT (fr_Bd_assign_b239 _ _ _) (fS_mono rfl rfl) fq_rf))
theorem fr_Bd_assign_l147 (P W : Int) (x2 : Int) (x3 : Int) (x4 : Int) (x5 : Int) (x6 : Int) (x7 : Int) (G : St) : Fr (fS [141, 142, 143, 144, 185, 205, 211] [(140, 4), (140, 5), (140, 7), (140, 8), (180, 6)]) G (fun q => q.2) (Bd_assign_l147 P W x2 x3 x4 x5 x6 x7 G) := frWh (pi := fun (s : (Int × St)) => s.2) (fun (s : (Int × St)) => fr_Bd_assign_s147 P W x2 x3 x4 x5 x6 s.1 s.2)
theorem fr_Bd_assign (P W : Int) (x1 : Int) (G : St) : Fr (fS [141, 142, 143, 144, 185, 205, 211] [(140, 4), (140, 5), (140, 7), (140, 8), (180, 6)]) G (fun q => q.2) (Bd_assign P W x1 G) := by
  unfold Bd_assign
  exact frCB (frBd (fr_Bd_bits _ _ _ _) (fS_mono rfl rfl) fq_rf (fun _ G2 hG2 => frCB (frCD (frCB (frIf (frCI (frTk (fq_upK rfl hG2) (fun G16 hG16 => frCI (frCI (frCA (frCA (frTk (fq_acp rfl hG16) (fun G17 hG17 => frS hG17)))))))) (frBd (fr_Bd_place _ _ _ _) (fS_mono rfl rfl) hG2 (fun _ G4 hG4 => frBd (fr_Bd_place _ _ _ _) (fS_mono rfl rfl) hG4 (fun _ G6 hG6 => frCB (frIf (frT (fr_Bd_assign_l147 _ _ _ _ _ _ _ _ _) (fS_mono rfl rfl) hG6) (frBd (fr_Bd_valueOf _ _ _ _) (fS_mono rfl rfl) hG6 (fun _ G14 hG14 => frCI (frCI (frCA (frCA (frTk (fq_acp rfl hG14) (fun G15 hG15 => frT (fr_Bd_assign_b239 _ _ _) (fS_mono rfl rfl) hG15))))))))))))))))
theorem fr_Bd_back (P W : Int) (G : St) : Fr (fS [181] [(180, 6), (180, 7), (180, 29)]) G (fun q => q.2) (Bd_back P W G) := by
  unfold Bd_back
  exact frCI (frTk (fq_upK rfl fq_rf) (fun G1 hG1 => frCI (frCI (frCB (frTk (fq_upK rfl hG1) (fun G2 hG2 => frCI (frCA (frCA (frTk (fq_acp rfl hG2) (fun G3 hG3 => frCI (frTk (fq_upK rfl hG3) (fun G4 hG4 => frCB (frTk (fq_upK rfl hG4) (fun G5 hG5 => frS hG5))))))))))))))
theorem fr_Bd_input_s39 (P W : Int) (x1 : Int) (x2 : Int) (x3 : Int) (x4 : Int) (G : St) : Fr (fS [182, 183, 184] [(180, 13), (180, 14)]) G (Sum.elim (fun q => q.2) (fun q => q.2)) (Bd_input_s39 P W x1 x2 x3 x4 G) := by
  unfold Bd_input_s39
  exact frIf (frCB (frTk (fq_upL rfl fq_rf) (fun G4 hG4 => frCB (frTk (fq_upL rfl hG4) (fun G5 hG5 => frCB (frCD (frCB (frTk (fq_upL rfl hG5) (fun G6 hG6 => frCI (frTk (fq_upK rfl hG6) (fun G7 hG7 => frCI (frTk (fq_upK rfl hG7) (fun G8 hG8 => frCI (frS hG8)))))))))))))) (frEx (frS fq_rf))
theorem fr_Bd_input_l39 (P W : Int) (x1 : Int) (x2 : Int) (x3 : Int) (x4 : Int) (G : St) : Fr (fS [182, 183, 184] [(180, 13), (180, 14)]) G (fun q => q.2) (Bd_input_l39 P W x1 x2 x3 x4 G) := frWh (pi := fun (s : (Int × St)) => s.2) (fun (s : (Int × St)) => fr_Bd_input_s39 P W x1 x2 x3 s.1 s.2)
theorem fr_Bd_input (P W : Int) (x1 : Int) (G : St) : Fr (fS [182, 183, 184] [(180, 13), (180, 14)]) G (fun q => q.2) (Bd_input P W x1 G) := by
  unfold Bd_input
  exact frCB (frBd (fr_Bd_bits _ _ _ _) (fS_mono rfl rfl) fq_rf (fun _ G2 hG2 => frCB (frCD (frCD (frVl (fun _ => frT (fr_Bd_input_l39 _ _ _ _ _ _ _) (fS_mono rfl rfl) hG2))))))
theorem fr_Bd_loop_b60 (P W : Int) (x1 : Int) (x2 : Int) (x4 : Int) (G : St) : Fr (fS [198, 199] [(180, 7)]) G (fun q => q.2) (Bd_loop_b60 P W x1 x2 x4 G) := by
  unfold Bd_loop_b60
  exact frCB (frCB (frTk (fq_upL rfl fq_rf) (fun G10 hG10 => frCB (frTk (fq_upL rfl hG10) (fun G11 hG11 => frIf (frCB (frCI (frTk (fq_upK rfl hG11) (fun G12 hG12 => frS hG12)))) (frS hG11))))))
theorem fr_Bd_loop (P W : Int) (x1 : Int) (G : St) : Fr (fS [198, 199] [(130, 0), (130, 1), (180, 6), (180, 7)]) G (fun q => q.2) (Bd_loop P W x1 G) := by
  unfold Bd_loop
  exact frBd (fr_Bd_place _ _ _ _) (fS_mono rfl rfl) fq_rf (fun _ G2 hG2 => frBd (fr_Bd_valueOf _ _ _ _) (fS_mono rfl rfl) hG2 (fun _ G4 hG4 => frBd (fr_Bd_place _ _ _ _) (fS_mono rfl rfl) hG4 (fun _ G6 hG6 => frBd (fr_Bd_valueOf _ _ _ _) (fS_mono rfl rfl) hG6 (fun _ G8 hG8 => frCI (frTk (fq_upK rfl hG8) (fun G9 hG9 => frCL (frIf (frT (fr_Bd_loop_b60 _ _ _ _ _ _) (fS_mono rfl rfl) hG9) (frCB (frBd (fr_Ft_set _ _ _) (fS_mono rfl rfl) hG9 (fun _ G14 hG14 => frT (fr_Bd_loop_b60 _ _ _ _ _ _) (fS_mono rfl rfl) hG14))))))))))
theorem fr_Bd_merge_s40 (P W : Int) (x1 : Int) (x2 : Int) (G : St) : Fr (fS [141, 142, 143, 144, 185] [(140, 4), (140, 5), (140, 7), (140, 8)]) G (Sum.elim (fun q => q.2) (Sum.elim (fun q => q.2) (fun q => q.2))) (Bd_merge_s40 P W x1 x2 G) := by
  unfold Bd_merge_s40
  exact frCB (frIf (frCI (frCI (frCB (frCB (frCB (frCB (frBd (fr_Ci_mux _ _ _ _) (fS_mono rfl rfl) fq_rf (fun _ G4 hG4 => frCB (frTk (fq_upL rfl hG4) (fun G5 hG5 => frCI (frS hG5))))))))))) (frEx (frCI (frS fq_rf))))
theorem fr_Bd_merge_l40 (P W : Int) (x1 : Int) (x2 : Int) (G : St) : Fr (fS [141, 142, 143, 144, 185] [(140, 4), (140, 5), (140, 7), (140, 8)]) G (Sum.elim (fun q => q.2) (fun q => q.2)) (Bd_merge_l40 P W x1 x2 G) := frWh (pi := fun (s : (Int × St)) => s.2) (fun (s : (Int × St)) => fr_Bd_merge_s40 P W x1 s.1 s.2)
theorem fr_Bd_merge_s25 (P W : Int) (x1 : Int) (G : St) : Fr (fS [141, 142, 143, 144, 185] [(140, 4), (140, 5), (140, 7), (140, 8)]) G (Sum.elim (fun q => q.2) (fun q => q.2)) (Bd_merge_s25 P W x1 G) := by
  unfold Bd_merge_s25
  exact frCB (frIf (frT (fr_Bd_merge_l40 _ _ _ _ _) (fS_mono rfl rfl) fq_rf) (frEx (frS fq_rf)))
theorem fr_Bd_merge_l25 (P W : Int) (x1 : Int) (G : St) : Fr (fS [141, 142, 143, 144, 185] [(140, 4), (140, 5), (140, 7), (140, 8)]) G (fun q => q.2) (Bd_merge_l25 P W x1 G) := frWh (pi := fun (s : (Int × St)) => s.2) (fun (s : (Int × St)) => fr_Bd_merge_s25 P W s.1 s.2)
theorem fr_Bd_merge (P W : Int) (G : St) : Fr (fS [141, 142, 143, 144, 185] [(140, 4), (140, 5), (140, 7), (140, 8), (180, 9), (180, 22)]) G (fun q => q.2) (Bd_merge P W G) := by
  unfold Bd_merge
  exact frCI (frTk (fq_upK rfl fq_rf) (fun G1 hG1 => frCB (frTk (fq_upK rfl hG1) (fun G2 hG2 => frT (fr_Bd_merge_l25 _ _ _ _) (fS_mono rfl rfl) hG2))))
theorem fr_Bd_output (P W : Int) (x1 : Int) (G : St) : Fr (fS [203, 204] [(180, 6), (180, 32)]) G (fun q => q.2) (Bd_output P W x1 G) := by
  unfold Bd_output
  exact frBd (fr_Bd_bits _ _ _ _) (fS_mono rfl rfl) fq_rf (fun _ G2 hG2 => frCI (frTk (fq_upK rfl hG2) (fun G3 hG3 => frCI (frCI (frCA (frCA (frTk (fq_acp rfl hG3) (fun G4 hG4 => frCB (frTk (fq_upL rfl hG4) (fun G5 hG5 => frCI (frTk (fq_upK rfl hG5) (fun G6 hG6 => frS hG6))))))))))))
theorem fr_Bd_variable_b132 (P W : Int) (x1 : Int) (x2 : Int) (x3 : Int) (x4 : Int) (x5 : Int) (x6 : Int) (s0 : Int) (s1 : Int) (G : St) : Fr (fS [185] []) G (Sum.elim (fun q => q.2) (fun q => q.2)) (Bd_variable_b132 P W x1 x2 x3 x4 x5 x6 s0 s1 G) := by
  unfold Bd_variable_b132
  exact frCI (frCA (frCA (frTk (fq_acp rfl fq_rf) (fun G5 hG5 => frCI (frS hG5)))))
theorem fr_Bd_variable_b114 (P W : Int) (x1 : Int) (x2 : Int) (x3 : Int) (x4 : Int) (x5 : Int) (x6 : Int) (s0 : Int) (G : St) : Fr (fS [185] []) G (Sum.elim (fun q => q.2) (fun q => q.2)) (Bd_variable_b114 P W x1 x2 x3 x4 x5 x6 s0 G) := by
  unfold Bd_variable_b114
  exact frIf (frT (fr_Bd_variable_b132 _ _ _ _ _ _ _ _ _ _ _) (fS_mono rfl rfl) fq_rf) (frCI (frT (fr_Bd_variable_b132 _ _ _ _ _ _ _ _ _ _ _) (fS_mono rfl rfl) fq_rf))
theorem fr_Bd_variable_s70 (P W : Int) (x1 : Int) (x2 : Int) (x3 : Int) (x4 : Int) (x5 : Int) (G : St) : Fr (fS [185, 186] []) G (Sum.elim (fun q => q.2) (fun q => q.2)) (Bd_variable_s70 P W x1 x2 x3 x4 x5 G) := by
  unfold Bd_variable_s70
  exact frIf (frCB (frCI (frCB (frTk (fq_upL rfl fq_rf) (fun G4 hG4 => frT (fr_Bd_variable_b114 _ _ _ _ _ _ _ _ _ _) (fS_mono rfl rfl) hG4))))) (frEx (frS fq_rf))
theorem fr_Bd_variable_l70 (P W : Int) (x1 : Int) (x2 : Int) (x3 : Int) (x4 : Int) (x5 : Int) (G : St) : Fr (fS [185, 186] []) G (fun q => q.2) (Bd_variable_l70 P W x1 x2 x3 x4 x5 G) := frWh (pi := fun (s : (Int × St)) => s.2) (fun (s : (Int × St)) => fr_Bd_variable_s70 P W x1 x2 x3 x4 s.1 s.2)
theorem fr_Bd_variable_b67 (P W : Int) (x1 : Int) (x2 : Int) (x3 : Int) (x4 : Int) (G : St) : Fr (fS [185, 186] []) G (fun q => q.2) (Bd_variable_b67 P W x1 x2 x3 x4 G) := by
  unfold Bd_variable_b67
  exact frT (fr_Bd_variable_l70 _ _ _ _ _ _ _ _) (fS_mono rfl rfl) fq_rf
theorem fr_Bd_variable_b50 (P W : Int) (x1 : Int) (x2 : Int) (x3 : Int) (s0 : Int) (G : St) : Fr (fS [185, 186] [(180, 6)]) G (fun q => q.2) (Bd_variable_b50 P W x1 x2 x3 s0 G) := by
  unfold Bd_variable_b50
  exact frIf (frT (fr_Bd_variable_b67 _ _ _ _ _ _ _) (fS_mono rfl rfl) fq_rf) (frCI (frTk (fq_upK rfl fq_rf) (fun G6 hG6 => frT (fr_Bd_variable_b67 _ _ _ _ _ _ _) (fS_mono rfl rfl) hG6)))
theorem fr_Bd_variable (P W : Int) (x1 : Int) (G : St) : Fr (fS [185, 186] [(180, 6)]) G (fun q => q.2) (Bd_variable P W x1 G) := by
  unfold Bd_variable
  exact frCB (frBd (fr_Bd_bits _ _ _ _) (fS_mono rfl rfl) fq_rf (fun _ G2 hG2 => frCB (frCD (frVl (fun _ => frCB (frT (fr_Bd_variable_b50 _ _ _ _ _ _ _) (fS_mono rfl rfl) hG2))))))
theorem fr_Bd_statement_b108 (P W : Int) (x1 : Int) (G : St) : Fr (fS [182, 183, 184] [(180, 13), (180, 14)]) G (fun q => q.2) (Bd_statement_b108 P W x1 G) := by
  unfold Bd_statement_b108
  exact frBd (fr_Bd_input _ _ _ _) (fS_mono rfl rfl) fq_rf (fun _ G2 hG2 => frS hG2)
theorem fr_Bd_statement_b116 (P W : Int) (x1 : Int) (G : St) : Fr (fS [200] [(180, 7), (180, 28)]) G (fun q => q.2) (Bd_statement_b116 P W x1 G) := by
  unfold Bd_statement_b116
  exact frCB (frTk (fq_upL rfl fq_rf) (fun G3 hG3 => frCI (frTk (fq_upK rfl hG3) (fun G4 hG4 => frCB (frCI (frTk (fq_upK rfl hG4) (fun G5 hG5 => frS hG5)))))))
theorem fr_Bd_statement_b157 (P W : Int) (G : St) : Fr (fS [181] [(180, 6), (180, 7), (180, 29)]) G (fun q => q.2) (Bd_statement_b157 P W G) := by
  unfold Bd_statement_b157
  exact frBd (fr_Bd_back _ _ _) (fS_mono rfl rfl) fq_rf (fun _ G7 hG7 => frS hG7)
theorem fr_Bd_statement_b164 (P W : Int) (x1 : Int) (G : St) : Fr (fS [] [(130, 0), (130, 1), (180, 8), (180, 9)]) G (fun q => q.2) (Bd_statement_b164 P W x1 G) := by
  unfold Bd_statement_b164
  exact frCB (frTk (fq_upK rfl fq_rf) (fun G8 hG8 => frBd (fr_Bd_count _) (fS_mono rfl rfl) hG8 (fun _ G10 hG10 => frS hG10)))
theorem fr_Bd_statement_b184 (P W : Int) (x1 : Int) (G : St) : Fr (fS [203, 204] [(180, 6), (180, 32)]) G (fun q => q.2) (Bd_statement_b184 P W x1 G) := by
  unfold Bd_statement_b184
  exact frCB (frBd (fr_Bd_output _ _ _ _) (fS_mono rfl rfl) fq_rf (fun _ G12 hG12 => frS hG12))
theorem fr_Bd_statement_b200 (P W : Int) (x1 : Int) (G : St) : Fr (fS [185, 186] [(180, 6)]) G (fun q => q.2) (Bd_statement_b200 P W x1 G) := by
  unfold Bd_statement_b200
  exact frBd (fr_Bd_variable _ _ _ _) (fS_mono rfl rfl) fq_rf (fun _ G14 hG14 => frS hG14)
theorem fr_Bd_statement_b208 (P W : Int) (x1 : Int) (G : St) : Fr (fS [] [(130, 0), (130, 1)]) G (fun q => q.2) (Bd_statement_b208 P W x1 G) := by
  unfold Bd_statement_b208
  exact frCB (frIf (frS fq_rf) (frBd (fr_Bd_place _ _ _ _) (fS_mono rfl rfl) fq_rf (fun _ G16 hG16 => frBd (fr_Bd_valueOf _ _ _ _) (fS_mono rfl rfl) hG16 (fun _ G18 hG18 => frCB (frCD (frCB (frBd (fr_Bd_needBelow _ _ _ _) (fS_mono rfl rfl) hG18 (fun _ G20 hG20 => frS hG20))))))))
theorem fr_Bd_statement_b260 (P W : Int) (x1 : Int) (G : St) : Fr (fS [141, 142, 143, 144, 185, 205, 211] [(140, 4), (140, 5), (140, 7), (140, 8), (180, 6)]) G (fun q => q.2) (Bd_statement_b260 P W x1 G) := by
  unfold Bd_statement_b260
  exact frBd (fr_Bd_assign _ _ _ _) (fS_mono rfl rfl) fq_rf (fun _ G22 hG22 => frS hG22)
theorem fr_Bd_statement_b283 (P W : Int) (G : St) : Fr (fS [141, 142, 143, 144, 185] [(140, 4), (140, 5), (140, 7), (140, 8), (180, 9), (180, 22)]) G (fun q => q.2) (Bd_statement_b283 P W G) := by
  unfold Bd_statement_b283
  exact frBd (fr_Bd_merge _ _ _) (fS_mono rfl rfl) fq_rf (fun _ G28 hG28 => frS hG28)
theorem fr_Bd_statement_b290 (P W : Int) (x1 : Int) (G : St) : Fr (fS [198, 199] [(130, 0), (130, 1), (180, 6), (180, 7)]) G (fun q => q.2) (Bd_statement_b290 P W x1 G) := by
  unfold Bd_statement_b290
  exact frBd (fr_Bd_loop _ _ _ _) (fS_mono rfl rfl) fq_rf (fun _ G30 hG30 => frS hG30)
theorem fr_Bd_statement_b298 (P W : Int) (x1 : Int) (G : St) : Fr (fS [198] [(180, 7)]) G (fun q => q.2) (Bd_statement_b298 P W x1 G) := by
  unfold Bd_statement_b298
  exact frCB (frCB (frCB (frIf (frCB (frCL (frCB (frTk (fq_upL rfl fq_rf) (fun G31 hG31 => frCB (frCI (frTk (fq_upK rfl hG31) (fun G32 hG32 => frS hG32)))))))) (frS fq_rf))))
theorem fr_Ci_clear (x1 : Int) (G : St) : Fr (fS [] [(140, 4), (140, 5), (140, 6), (140, 7), (140, 8)]) G (fun q => q.2) (Ci_clear x1 G) := by
  unfold Ci_clear
  exact frTk (fq_upK rfl fq_rf) (fun G1 hG1 => frTk (fq_upK rfl hG1) (fun G2 hG2 => frTk (fq_upK rfl hG2) (fun G3 hG3 => frTk (fq_upK rfl hG3) (fun G4 hG4 => frCB (frTk (fq_upK rfl hG4) (fun G5 hG5 => frS hG5))))))
theorem fr_Ck_become (x1 : Int) (x2 : Int) (G : St) : Fr (fS [161, 163] []) G (fun q => q.2) (Ck_become x1 x2 G) := by
  unfold Ck_become
  exact frCI (frCB (frTk (fq_upL rfl fq_rf) (fun G1 hG1 => frCI (frCB (frCB (frTk (fq_upL rfl hG1) (fun G2 hG2 => frS hG2)))))))
theorem fr_Ck_push (x1 : Int) (x2 : Int) (x3 : Int) (G : St) : Fr (fS [161, 162, 163] [(160, 6)]) G (fun q => q.2) (Ck_push x1 x2 x3 G) := by
  unfold Ck_push
  exact frCB (frTk (fq_upL rfl fq_rf) (fun G1 hG1 => frCB (frCB (frTk (fq_upL rfl hG1) (fun G2 hG2 => frCB (frTk (fq_upL rfl hG2) (fun G3 hG3 => frCI (frTk (fq_upK rfl hG3) (fun G4 hG4 => frS hG4)))))))))
theorem fr_Sc_find_b42 (x1 : Int) (x2 : Int) (x3 : Int) (G : St) : Fr (fS [] []) G (Sum.elim (fun q => q.2) (fun q => q.2)) (Sc_find_b42 x1 x2 x3 G) := by
  unfold Sc_find_b42
  exact frCI (frS fq_rf)
theorem fr_Sc_find_b40 (x3 : Int) (G : St) : Fr (fS [] []) G (fun q => q.2) (Sc_find_b40 x3 G) := by
  unfold Sc_find_b40
  exact frS fq_rf
theorem fr_Sc_find_s7 (x1 : Int) (x2 : Int) (x3 : Int) (G : St) : Fr (fS [] []) G (Sum.elim (fun q => q.2) (fun q => q.2)) (Sc_find_s7 x1 x2 x3 G) := by
  unfold Sc_find_s7
  exact frIf (frEx (frS fq_rf)) (frCB (frIf (frIf (frEx (frT (fr_Sc_find_b40 _ _) (fS_mono rfl rfl) fq_rf)) (frIf (frCB (frIf (frEx (frT (fr_Sc_find_b40 _ _) (fS_mono rfl rfl) fq_rf)) (frT (fr_Sc_find_b42 _ _ _ _) (fS_mono rfl rfl) fq_rf))) (frEx (frT (fr_Sc_find_b40 _ _) (fS_mono rfl rfl) fq_rf)))) (frT (fr_Sc_find_b42 _ _ _ _) (fS_mono rfl rfl) fq_rf)))
theorem fr_Sc_find_l7 (x1 : Int) (x2 : Int) (x3 : Int) (G : St) : Fr (fS [] []) G (fun q => q.2) (Sc_find_l7 x1 x2 x3 G) := frWh (pi := fun (s : (Int × St)) => s.2) (fun (s : (Int × St)) => fr_Sc_find_s7 x1 x2 s.1 s.2)
theorem fr_Sc_find (x1 : Int) (x2 : Int) (G : St) : Fr (fS [] []) G (fun q => q.2) (Sc_find x1 x2 G) := by
  unfold Sc_find
  exact frCI (frT (fr_Sc_find_l7 _ _ _ _) (fS_mono rfl rfl) fq_rf)
theorem fr_Ck_endCall (x1 : Int) (G : St) : Fr (fS [112, 161, 162, 163] [(160, 6)]) G (fun q => q.2) (Ck_endCall x1 G) := by
  unfold Ck_endCall
  exact frCB (frBd (fr_Sc_find _ _ _) (fS_mono rfl rfl) fq_rf (fun _ G2 hG2 => frCB (frCB (frCI (frTk (fq_upK rfl hG2) (fun G3 hG3 => frCB (frCB (frBd (fr_Ck_push _ _ _ _) (fS_mono rfl rfl) hG3 (fun _ G5 hG5 => frCB (frTk (fq_upL rfl hG5) (fun G6 hG6 => frS hG6)))))))))))
theorem fr_Ck_index_b82 (x1 : Int) (x2 : Int) (s0 : Int) (s1 : Int) (s2 : Int) (s3 : Int) (G : St) : Fr (fS [112, 113, 114] []) G (fun q => q.2) (Ck_index_b82 x1 x2 s0 s1 s2 s3 G) := by
  unfold Ck_index_b82
  exact frCI (frCI (frCB (frCI (frCB (frTk (fq_upL rfl fq_rf) (fun G3 hG3 => frCB (frCB (frTk (fq_upL rfl hG3) (fun G4 hG4 => frCI (frCB (frCB (frTk (fq_upL rfl hG4) (fun G5 hG5 => frS hG5)))))))))))))
theorem fr_Ck_index_b60 (x1 : Int) (x2 : Int) (s0 : Int) (s1 : Int) (s2 : Int) (s3 : Int) (G : St) : Fr (fS [112, 113, 114] []) G (fun q => q.2) (Ck_index_b60 x1 x2 s0 s1 s2 s3 G) := by
  unfold Ck_index_b60
  exact frCI (frCI (frCI (frCB (frT (fr_Ck_index_b82 _ _ _ _ _ _ _) (fS_mono rfl rfl) fq_rf))))
theorem fr_Ck_index (x1 : Int) (G : St) : Fr (fS [112, 113, 114] []) G (fun q => q.2) (Ck_index x1 G) := by
  unfold Ck_index
  exact frCB (frBd (fr_Sc_find _ _ _) (fS_mono rfl rfl) fq_rf (fun _ G2 hG2 => frCB (frCI (frCB (frT (fr_Ck_index_b60 _ _ _ _ _ _ _) (fS_mono rfl rfl) hG2)))))
theorem fr_Ck_need (x1 : Int) (x2 : Int) (G : St) : Fr (fS [] [(130, 0), (130, 1)]) G (fun q => q.2) (Ck_need x1 x2 G) := by
  unfold Ck_need
  exact frIf (frBd (fr_Ft_set _ _ _) (fS_mono rfl rfl) fq_rf (fun _ G2 hG2 => frS hG2)) (frS fq_rf)
theorem fr_Ck_visible_b27 (x3 : Int) (G : St) : Fr (fS [] []) G (fun q => q.2) (Ck_visible_b27 x3 G) := by
  unfold Ck_visible_b27
  exact frS fq_rf
theorem fr_Ck_visible (x1 : Int) (x2 : Int) (G : St) : Fr (fS [] [(130, 0), (130, 1)]) G (fun q => q.2) (Ck_visible x1 x2 G) := by
  unfold Ck_visible
  exact frBd (fr_Sc_find _ _ _) (fS_mono rfl rfl) fq_rf (fun _ G2 hG2 => frIf (frBd (fr_Ft_set _ _ _) (fS_mono rfl rfl) hG2 (fun _ G4 hG4 => frT (fr_Ck_visible_b27 _ _) (fS_mono rfl rfl) hG4)) (frT (fr_Ck_visible_b27 _ _) (fS_mono rfl rfl) hG2))
theorem fr_Ck_read_b100 (x1 : Int) (x2 : Int) (s0 : Int) (s1 : Int) (G : St) : Fr (fS [112, 114, 161, 162, 163] [(160, 6)]) G (fun q => q.2) (Ck_read_b100 x1 x2 s0 s1 G) := by
  unfold Ck_read_b100
  exact frCB (frBd (fr_Ck_push _ _ _ _) (fS_mono rfl rfl) fq_rf (fun _ G6 hG6 => frCB (frCB (frTk (fq_upL rfl hG6) (fun G7 hG7 => frCB (frCI (frCB (frCI (frCB (frTk (fq_upL rfl hG7) (fun G8 hG8 => frS hG8)))))))))))
theorem fr_Ck_read_b60 (x1 : Int) (x2 : Int) (s0 : Int) (G : St) : Fr (fS [112, 114, 161, 162, 163] [(130, 0), (130, 1), (160, 6)]) G (fun q => q.2) (Ck_read_b60 x1 x2 s0 G) := by
  unfold Ck_read_b60
  exact frCB (frBd (fr_Ck_need _ _ _) (fS_mono rfl rfl) fq_rf (fun _ G4 hG4 => frCB (frCB (frT (fr_Ck_read_b100 _ _ _ _ _) (fS_mono rfl rfl) hG4))))
theorem fr_Ck_read (x1 : Int) (G : St) : Fr (fS [112, 114, 161, 162, 163] [(130, 0), (130, 1), (160, 6)]) G (fun q => q.2) (Ck_read x1 G) := by
  unfold Ck_read
  exact frCB (frCB (frBd (fr_Ck_visible _ _ _) (fS_mono rfl rfl) fq_rf (fun _ G2 hG2 => frIf (frS hG2) (frCB (frIf (frT (fr_Ck_read_b60 _ _ _ _) (fS_mono rfl rfl) hG2) (frCB (frT (fr_Ck_read_b60 _ _ _ _) (fS_mono rfl rfl) hG2)))))))
theorem fr_Ck_factor_b112 (x3 : Int) (G : St) : Fr (fS [161, 162, 163] [(160, 6)]) G (fun q => q.2) (Ck_factor_b112 x3 G) := by
  unfold Ck_factor_b112
  exact frBd (fr_Ck_push _ _ _ _) (fS_mono rfl rfl) fq_rf (fun _ G2 hG2 => frS hG2)
theorem fr_Ck_factor_b122 (x3 : Int) (G : St) : Fr (fS [161, 162, 163] [(160, 6)]) G (fun q => q.2) (Ck_factor_b122 x3 G) := by
  unfold Ck_factor_b122
  exact frBd (fr_Ck_push _ _ _ _) (fS_mono rfl rfl) fq_rf (fun _ G4 hG4 => frS hG4)
theorem fr_Ck_factor_b132 (x1 : Int) (G : St) : Fr (fS [112, 114, 161, 162, 163] [(130, 0), (130, 1), (160, 6)]) G (fun q => q.2) (Ck_factor_b132 x1 G) := by
  unfold Ck_factor_b132
  exact frBd (fr_Ck_read _ _) (fS_mono rfl rfl) fq_rf (fun _ G6 hG6 => frS hG6)
theorem fr_Ck_factor_b173 (x3 : Int) (s0 : Int) (G : St) : Fr (fS [] [(130, 0), (130, 1)]) G (fun q => q.2) (Ck_factor_b173 x3 s0 G) := by
  unfold Ck_factor_b173
  exact frBd (fr_Ck_need _ _ _) (fS_mono rfl rfl) fq_rf (fun _ G10 hG10 => frS hG10)
theorem fr_Ck_factor_b140 (x2 : Int) (x3 : Int) (G : St) : Fr (fS [] [(130, 0), (130, 1)]) G (fun q => q.2) (Ck_factor_b140 x2 x3 G) := by
  unfold Ck_factor_b140
  exact frBd (fr_Ck_visible _ _ _) (fS_mono rfl rfl) fq_rf (fun _ G8 hG8 => frIf (frS hG8) (frCB (frT (fr_Ck_factor_b173 _ _ _) (fS_mono rfl rfl) hG8)))
theorem fr_Ck_factor_b200 (x1 : Int) (x3 : Int) (s0 : Int) (G : St) : Fr (fS [112, 113, 114, 161, 162, 163] [(130, 0), (130, 1)]) G (fun q => q.2) (Ck_factor_b200 x1 x3 s0 G) := by
  unfold Ck_factor_b200
  exact frCI (frCB (frBd (fr_Ck_need _ _ _) (fS_mono rfl rfl) fq_rf (fun _ G12 hG12 => frBd (fr_Ck_index _ _) (fS_mono rfl rfl) hG12 (fun _ G14 hG14 => frCB (frBd (fr_Ck_become _ _ _) (fS_mono rfl rfl) hG14 (fun _ G16 hG16 => frCI (frCB (frTk (fq_upL rfl hG16) (fun G17 hG17 => frS hG17)))))))))
theorem fr_Ck_factor_b180 (x1 : Int) (x3 : Int) (G : St) : Fr (fS [112, 113, 114, 161, 162, 163] [(130, 0), (130, 1)]) G (fun q => q.2) (Ck_factor_b180 x1 x3 G) := by
  unfold Ck_factor_b180
  exact frCI (frCB (frT (fr_Ck_factor_b200 _ _ _ _) (fS_mono rfl rfl) fq_rf))
theorem fr_Ck_factor_b312 (x1 : Int) (x3 : Int) (x5 : Int) (s0 : Int) (G : St) : Fr (fS [112] [(130, 0), (130, 1)]) G (fun q => q.2) (Ck_factor_b312 x1 x3 x5 s0 G) := by
  unfold Ck_factor_b312
  exact frBd (fr_Ck_need _ _ _) (fS_mono rfl rfl) fq_rf (fun _ G21 hG21 => frCB (frCB (frTk (fq_upL rfl hG21) (fun G22 hG22 => frS hG22))))
theorem fr_Ck_factor_b250 (x1 : Int) (x2 : Int) (x3 : Int) (G : St) : Fr (fS [112] [(130, 0), (130, 1)]) G (fun q => q.2) (Ck_factor_b250 x1 x2 x3 G) := by
  unfold Ck_factor_b250
  exact frBd (fr_Ck_visible _ _ _) (fS_mono rfl rfl) fq_rf (fun _ G19 hG19 => frIf (frS hG19) (frCB (frIf (frCB (frCB (frCB (frT (fr_Ck_factor_b312 _ _ _ _ _) (fS_mono rfl rfl) hG19)))) (frT (fr_Ck_factor_b312 _ _ _ _ _) (fS_mono rfl rfl) hG19))))
theorem fr_Ck_factor_b402 (s0 : Int) (G : St) : Fr (fS [] [(130, 0), (130, 1)]) G (fun q => q.2) (Ck_factor_b402 s0 G) := by
  unfold Ck_factor_b402
  exact frCI (frCB (frBd (fr_Ck_need _ _ _) (fS_mono rfl rfl) fq_rf (fun _ G26 hG26 => frS hG26)))
theorem fr_Ck_factor_b338 (x1 : Int) (x2 : Int) (G : St) : Fr (fS [] [(130, 0), (130, 1)]) G (fun q => q.2) (Ck_factor_b338 x1 x2 G) := by
  unfold Ck_factor_b338
  exact frBd (fr_Sc_find _ _ _) (fS_mono rfl rfl) fq_rf (fun _ G24 hG24 => frCB (frCI (frCB (frCB (frCB (frCI (frCB (frT (fr_Ck_factor_b402 _ _) (fS_mono rfl rfl) hG24))))))))
theorem fr_Ck_factor_b419 (x1 : Int) (G : St) : Fr (fS [112, 161, 162, 163] [(160, 6)]) G (fun q => q.2) (Ck_factor_b419 x1 G) := by
  unfold Ck_factor_b419
  exact frBd (fr_Ck_endCall _ _) (fS_mono rfl rfl) fq_rf (fun _ G28 hG28 => frS hG28)
theorem fr_Ck_factor_b448 (x3 : Int) (s0 : Int) (G : St) : Fr (fS [161, 162, 163] [(130, 0), (130, 1)]) G (fun q => q.2) (Ck_factor_b448 x3 s0 G) := by
  unfold Ck_factor_b448
  exact frCI (frCB (frBd (fr_Ck_need _ _ _) (fS_mono rfl rfl) fq_rf (fun _ G30 hG30 => frCI (frCB (frBd (fr_Ck_become _ _ _) (fS_mono rfl rfl) hG30 (fun _ G32 hG32 => frCI (frCB (frTk (fq_upL rfl hG32) (fun G33 hG33 => frS hG33)))))))))
theorem fr_Ck_factor_b427 (x3 : Int) (G : St) : Fr (fS [161, 162, 163] [(130, 0), (130, 1)]) G (fun q => q.2) (Ck_factor_b427 x3 G) := by
  unfold Ck_factor_b427
  exact frCI (frCB (frT (fr_Ck_factor_b448 _ _ _) (fS_mono rfl rfl) fq_rf))
theorem fr_Ck_factor_b513 (s0 : Int) (G : St) : Fr (fS [] [(130, 0), (130, 1)]) G (fun q => q.2) (Ck_factor_b513 s0 G) := by
  unfold Ck_factor_b513
  exact frCI (frCB (frBd (fr_Ck_need _ _ _) (fS_mono rfl rfl) fq_rf (fun _ G35 hG35 => frS hG35)))
theorem fr_Ck_factor_b493 (G : St) : Fr (fS [] [(130, 0), (130, 1)]) G (fun q => q.2) (Ck_factor_b493 G) := by
  unfold Ck_factor_b493
  exact frCI (frCB (frT (fr_Ck_factor_b513 _ _) (fS_mono rfl rfl) fq_rf))
theorem fr_Ck_factor_b598 (x1 : Int) (x3 : Int) (G : St) : Fr (fS [114, 161, 162, 163] [(160, 6)]) G (fun q => q.2) (Ck_factor_b598 x1 x3 G) := by
  unfold Ck_factor_b598
  exact frCI (frCB (frCB (frTk (fq_upL rfl fq_rf) (fun G38 hG38 => frCI (frTk (fq_upK rfl hG38) (fun G39 hG39 => frCI (frCB (frBd (fr_Ck_become _ _ _) (fS_mono rfl rfl) hG39 (fun _ G41 hG41 => frCI (frCB (frTk (fq_upL rfl hG41) (fun G42 hG42 => frS hG42))))))))))))
theorem fr_Ck_factor_b550 (x1 : Int) (x3 : Int) (s0 : Int) (G : St) : Fr (fS [114, 161, 162, 163] [(130, 0), (130, 1), (160, 6)]) G (fun q => q.2) (Ck_factor_b550 x1 x3 s0 G) := by
  unfold Ck_factor_b550
  exact frCI (frCB (frBd (fr_Ck_need _ _ _) (fS_mono rfl rfl) fq_rf (fun _ G37 hG37 => frCI (frCB (frIf (frCI (frCB (frBd (fr_Ft_set _ _ _) (fS_mono rfl rfl) hG37 (fun _ G44 hG44 => frT (fr_Ck_factor_b598 _ _ _) (fS_mono rfl rfl) hG44)))) (frT (fr_Ck_factor_b598 _ _ _) (fS_mono rfl rfl) hG37))))))
theorem fr_Ck_factor_b530 (x1 : Int) (x3 : Int) (G : St) : Fr (fS [114, 161, 162, 163] [(130, 0), (130, 1), (160, 6)]) G (fun q => q.2) (Ck_factor_b530 x1 x3 G) := by
  unfold Ck_factor_b530
  exact frCI (frCB (frT (fr_Ck_factor_b550 _ _ _ _) (fS_mono rfl rfl) fq_rf))
theorem fr_Ck_factor_b659 (x3 : Int) (G : St) : Fr (fS [162] []) G (fun q => q.2) (Ck_factor_b659 x3 G) := by
  unfold Ck_factor_b659
  exact frCI (frCB (frTk (fq_upL rfl fq_rf) (fun G45 hG45 => frS hG45)))
theorem fr_Ck_factor (x1 : Int) (G : St) : Fr (fS [112, 113, 114, 161, 162, 163] [(130, 0), (130, 1), (160, 6)]) G (fun q => q.2) (Ck_factor x1 G) := by
  unfold Ck_factor
  exact frCB (frCB (frCB (frCB (frSwt (List.forall_mem_cons.mpr ⟨frT (fr_Ck_factor_b112 _ _) (fS_mono rfl rfl) fq_rf, (List.forall_mem_cons.mpr ⟨frT (fr_Ck_factor_b122 _ _) (fS_mono rfl rfl) fq_rf, (List.forall_mem_cons.mpr ⟨frT (fr_Ck_factor_b122 _ _) (fS_mono rfl rfl) fq_rf, (List.forall_mem_cons.mpr ⟨frT (fr_Ck_factor_b132 _ _) (fS_mono rfl rfl) fq_rf, (List.forall_mem_cons.mpr ⟨frT (fr_Ck_factor_b140 _ _ _) (fS_mono rfl rfl) fq_rf, (List.forall_mem_cons.mpr ⟨frT (fr_Ck_factor_b180 _ _ _) (fS_mono rfl rfl) fq_rf, (List.forall_mem_cons.mpr ⟨frT (fr_Ck_factor_b250 _ _ _ _) (fS_mono rfl rfl) fq_rf, (List.forall_mem_cons.mpr ⟨frT (fr_Ck_factor_b338 _ _ _) (fS_mono rfl rfl) fq_rf, (List.forall_mem_cons.mpr ⟨frT (fr_Ck_factor_b419 _ _) (fS_mono rfl rfl) fq_rf, (List.forall_mem_cons.mpr ⟨frS fq_rf, (List.forall_mem_cons.mpr ⟨frT (fr_Ck_factor_b427 _ _) (fS_mono rfl rfl) fq_rf, (List.forall_mem_cons.mpr ⟨frS fq_rf, (List.forall_mem_cons.mpr ⟨frT (fr_Ck_factor_b493 _) (fS_mono rfl rfl) fq_rf, (List.forall_mem_cons.mpr ⟨frT (fr_Ck_factor_b530 _ _ _) (fS_mono rfl rfl) fq_rf, (List.forall_mem_cons.mpr ⟨frS fq_rf, (List.forall_mem_cons.mpr ⟨frT (fr_Ck_factor_b659 _ _) (fS_mono rfl rfl) fq_rf, (fun _ h => nomatch h)⟩)⟩)⟩)⟩)⟩)⟩)⟩)⟩)⟩)⟩)⟩)⟩)⟩)⟩)⟩)⟩) (frS fq_rf)))))
theorem fr_Ck_two_b343 (s0 : Int) (s1 : Int) (G : St) : Fr (fS [161, 163] []) G (fun q => q.2) (Ck_two_b343 s0 s1 G) := by
  unfold Ck_two_b343
  exact frBd (fr_Ck_become _ _ _) (fS_mono rfl rfl) fq_rf (fun _ G6 hG6 => frS hG6)
theorem fr_Ck_two_b312 (s0 : Int) (G : St) : Fr (fS [161, 163] []) G (fun q => q.2) (Ck_two_b312 s0 G) := by
  unfold Ck_two_b312
  exact frCI (frCB (frIf (frT (fr_Ck_two_b343 _ _ _) (fS_mono rfl rfl) fq_rf) (frCB (frT (fr_Ck_two_b343 _ _ _) (fS_mono rfl rfl) fq_rf))))
theorem fr_Ck_two_b298 (x4 : Int) (s0 : Int) (G : St) : Fr (fS [161, 163] []) G (fun q => q.2) (Ck_two_b298 x4 s0 G) := by
  unfold Ck_two_b298
  exact frT (fr_Ck_two_b312 _ _) (fS_mono rfl rfl) fq_rf
theorem fr_Ck_two_b235 (x2 : Int) (x4 : Int) (x8 : Int) (s0 : Int) (s1 : Int) (G : St) : Fr (fS [114, 161, 163] [(160, 6)]) G (fun q => q.2) (Ck_two_b235 x2 x4 x8 s0 s1 G) := by
  unfold Ck_two_b235
  exact frCB (frTk (fq_upL rfl fq_rf) (fun G3 hG3 => frCI (frTk (fq_upK rfl hG3) (fun G4 hG4 => frIf (frCB (frCB (frIf (frT (fr_Ck_two_b298 _ _ _) (fS_mono rfl rfl) hG4) (frCB (frCB (frIf (frT (fr_Ck_two_b298 _ _ _) (fS_mono rfl rfl) hG4) (frCB (frCB (frIf (frT (fr_Ck_two_b298 _ _ _) (fS_mono rfl rfl) hG4) (frCB (frCB (frIf (frT (fr_Ck_two_b298 _ _ _) (fS_mono rfl rfl) hG4) (frCB (frCB (frIf (frT (fr_Ck_two_b298 _ _ _) (fS_mono rfl rfl) hG4) (frCB (frCB (frIf (frT (fr_Ck_two_b298 _ _ _) (fS_mono rfl rfl) hG4) (frT (fr_Ck_two_b298 _ _ _) (fS_mono rfl rfl) hG4))))))))))))))))))) (frT (fr_Ck_two_b298 _ _ _) (fS_mono rfl rfl) hG4)))))
theorem fr_Ck_two_b206 (x1 : Int) (x2 : Int) (x4 : Int) (x6 : Int) (x8 : Int) (G : St) : Fr (fS [114, 161, 163] [(160, 6)]) G (fun q => q.2) (Ck_two_b206 x1 x2 x4 x6 x8 G) := by
  unfold Ck_two_b206
  exact frIf (frT (fr_Ck_two_b235 _ _ _ _ _ _) (fS_mono rfl rfl) fq_rf) (frCI (frCB (frT (fr_Ck_two_b235 _ _ _ _ _ _) (fS_mono rfl rfl) fq_rf)))
theorem fr_Ck_two_b163 (x1 : Int) (x2 : Int) (x3 : Int) (x4 : Int) (x6 : Int) (x8 : Int) (s0 : Int) (G : St) : Fr (fS [114, 161, 163] [(130, 0), (130, 1), (160, 6)]) G (fun q => q.2) (Ck_two_b163 x1 x2 x3 x4 x6 x8 s0 G) := by
  unfold Ck_two_b163
  exact frBd (fr_Ck_need _ _ _) (fS_mono rfl rfl) fq_rf (fun _ G2 hG2 => frIf (frT (fr_Ck_two_b206 _ _ _ _ _ _) (fS_mono rfl rfl) hG2) (frCI (frCB (frIf (frCI (frCB (frBd (fr_Ft_set _ _ _) (fS_mono rfl rfl) hG2 (fun _ G8 hG8 => frT (fr_Ck_two_b206 _ _ _ _ _ _) (fS_mono rfl rfl) hG8)))) (frT (fr_Ck_two_b206 _ _ _ _ _ _) (fS_mono rfl rfl) hG2)))))
theorem fr_Ck_two_b155 (x1 : Int) (x2 : Int) (x3 : Int) (x4 : Int) (x6 : Int) (x8 : Int) (s0 : Int) (s1 : Int) (G : St) : Fr (fS [114, 161, 163] [(130, 0), (130, 1), (160, 6)]) G (fun q => q.2) (Ck_two_b155 x1 x2 x3 x4 x6 x8 s0 s1 G) := by
  unfold Ck_two_b155
  exact frT (fr_Ck_two_b163 _ _ _ _ _ _ _ _) (fS_mono rfl rfl) fq_rf
theorem fr_Ck_two_b128 (x1 : Int) (x2 : Int) (x3 : Int) (x4 : Int) (x5 : Int) (x6 : Int) (x7 : Int) (s0 : Int) (G : St) : Fr (fS [114, 161, 163] [(130, 0), (130, 1), (160, 6)]) G (fun q => q.2) (Ck_two_b128 x1 x2 x3 x4 x5 x6 x7 s0 G) := by
  unfold Ck_two_b128
  exact frIf (frIf (frT (fr_Ck_two_b155 _ _ _ _ _ _ _ _ _) (fS_mono rfl rfl) fq_rf) (frT (fr_Ck_two_b163 _ _ _ _ _ _ _ _) (fS_mono rfl rfl) fq_rf)) (frT (fr_Ck_two_b163 _ _ _ _ _ _ _ _) (fS_mono rfl rfl) fq_rf)
theorem fr_Ck_two_b107 (x1 : Int) (x2 : Int) (x3 : Int) (x4 : Int) (x5 : Int) (x6 : Int) (s0 : Int) (G : St) : Fr (fS [114, 161, 163] [(130, 0), (130, 1), (160, 6)]) G (fun q => q.2) (Ck_two_b107 x1 x2 x3 x4 x5 x6 s0 G) := by
  unfold Ck_two_b107
  exact frCB (frCB (frIf (frT (fr_Ck_two_b128 _ _ _ _ _ _ _ _ _) (fS_mono rfl rfl) fq_rf) (frCB (frCB (frIf (frT (fr_Ck_two_b128 _ _ _ _ _ _ _ _ _) (fS_mono rfl rfl) fq_rf) (frT (fr_Ck_two_b128 _ _ _ _ _ _ _ _ _) (fS_mono rfl rfl) fq_rf))))))
theorem fr_Ck_two_b65 (x1 : Int) (x2 : Int) (x3 : Int) (x4 : Int) (x5 : Int) (s0 : Int) (G : St) : Fr (fS [114, 161, 163] [(130, 0), (130, 1), (160, 6)]) G (fun q => q.2) (Ck_two_b65 x1 x2 x3 x4 x5 s0 G) := by
  unfold Ck_two_b65
  exact frCB (frCB (frIf (frT (fr_Ck_two_b107 _ _ _ _ _ _ _ _) (fS_mono rfl rfl) fq_rf) (frCB (frCB (frIf (frT (fr_Ck_two_b107 _ _ _ _ _ _ _ _) (fS_mono rfl rfl) fq_rf) (frCB (frCB (frIf (frT (fr_Ck_two_b107 _ _ _ _ _ _ _ _) (fS_mono rfl rfl) fq_rf) (frCB (frCB (frIf (frT (fr_Ck_two_b107 _ _ _ _ _ _ _ _) (fS_mono rfl rfl) fq_rf) (frCB (frCB (frIf (frT (fr_Ck_two_b107 _ _ _ _ _ _ _ _) (fS_mono rfl rfl) fq_rf) (frT (fr_Ck_two_b107 _ _ _ _ _ _ _ _) (fS_mono rfl rfl) fq_rf)))))))))))))))
theorem fr_Ck_two (x1 : Int) (G : St) : Fr (fS [114, 161, 163] [(130, 0), (130, 1), (160, 6)]) G (fun q => q.2) (Ck_two x1 G) := by
  unfold Ck_two
  exact frCB (frCB (frCI (frCB (frCI (frCB (frCB (frCB (frIf (frT (fr_Ck_two_b65 _ _ _ _ _ _ _) (fS_mono rfl rfl) fq_rf) (frCB (frCB (frIf (frT (fr_Ck_two_b65 _ _ _ _ _ _ _) (fS_mono rfl rfl) fq_rf) (frT (fr_Ck_two_b65 _ _ _ _ _ _ _) (fS_mono rfl rfl) fq_rf))))))))))))
theorem fr_Ck_operator_b84 (x2 : Int) (x4 : Int) (s0 : Int) (G : St) : Fr (fS [162] [(130, 0), (130, 1)]) G (fun q => q.2) (Ck_operator_b84 x2 x4 s0 G) := by
  unfold Ck_operator_b84
  exact frBd (fr_Ck_need _ _ _) (fS_mono rfl rfl) fq_rf (fun _ G2 hG2 => frCB (frTk (fq_upL rfl hG2) (fun G3 hG3 => frS hG3)))
theorem fr_Ck_operator_b68 (x2 : Int) (x4 : Int) (G : St) : Fr (fS [162] [(130, 0), (130, 1)]) G (fun q => q.2) (Ck_operator_b68 x2 x4 G) := by
  unfold Ck_operator_b68
  exact frCB (frT (fr_Ck_operator_b84 _ _ _ _) (fS_mono rfl rfl) fq_rf)
theorem fr_Ck_operator_b116 (x2 : Int) (x4 : Int) (s0 : Int) (G : St) : Fr (fS [162] [(130, 0), (130, 1)]) G (fun q => q.2) (Ck_operator_b116 x2 x4 s0 G) := by
  unfold Ck_operator_b116
  exact frBd (fr_Ck_need _ _ _) (fS_mono rfl rfl) fq_rf (fun _ G5 hG5 => frCB (frTk (fq_upL rfl hG5) (fun G6 hG6 => frS hG6)))
theorem fr_Ck_operator_b99 (x2 : Int) (x4 : Int) (G : St) : Fr (fS [162] [(130, 0), (130, 1)]) G (fun q => q.2) (Ck_operator_b99 x2 x4 G) := by
  unfold Ck_operator_b99
  exact frCB (frT (fr_Ck_operator_b116 _ _ _ _) (fS_mono rfl rfl) fq_rf)
theorem fr_Ck_operator_b258 (s0 : Int) (s1 : Int) (G : St) : Fr (fS [161, 163] []) G (fun q => q.2) (Ck_operator_b258 s0 s1 G) := by
  unfold Ck_operator_b258
  exact frBd (fr_Ck_become _ _ _) (fS_mono rfl rfl) fq_rf (fun _ G12 hG12 => frS hG12)
theorem fr_Ck_operator_b173 (x1 : Int) (x2 : Int) (x4 : Int) (s0 : Int) (G : St) : Fr (fS [114, 161, 163] [(130, 0), (130, 1), (160, 6)]) G (fun q => q.2) (Ck_operator_b173 x1 x2 x4 s0 G) := by
  unfold Ck_operator_b173
  exact frBd (fr_Ck_need _ _ _) (fS_mono rfl rfl) fq_rf (fun _ G8 hG8 => frCB (frCB (frTk (fq_upL rfl hG8) (fun G9 hG9 => frCI (frTk (fq_upK rfl hG9) (fun G10 hG10 => frCB (frCI (frCB (frIf (frT (fr_Ck_operator_b258 _ _ _) (fS_mono rfl rfl) hG10) (frCB (frIf (frT (fr_Ck_operator_b258 _ _ _) (fS_mono rfl rfl) hG10) (frCI (frCB (frT (fr_Ck_operator_b258 _ _ _) (fS_mono rfl rfl) hG10))))))))))))))
theorem fr_Ck_operator_b131 (x1 : Int) (x2 : Int) (x4 : Int) (G : St) : Fr (fS [114, 161, 163] [(130, 0), (130, 1), (160, 6)]) G (fun q => q.2) (Ck_operator_b131 x1 x2 x4 G) := by
  unfold Ck_operator_b131
  exact frCI (frCB (frIf (frCI (frCB (frCB (frT (fr_Ck_operator_b173 _ _ _ _ _) (fS_mono rfl rfl) fq_rf)))) (frT (fr_Ck_operator_b173 _ _ _ _ _) (fS_mono rfl rfl) fq_rf)))
theorem fr_Ck_operator_b267 (x1 : Int) (G : St) : Fr (fS [114, 161, 163] [(130, 0), (130, 1), (160, 6)]) G (fun q => q.2) (Ck_operator_b267 x1 G) := by
  unfold Ck_operator_b267
  exact frBd (fr_Ck_two _ _) (fS_mono rfl rfl) fq_rf (fun _ G14 hG14 => frS hG14)
theorem fr_Ck_operator (x1 : Int) (G : St) : Fr (fS [114, 161, 162, 163] [(130, 0), (130, 1), (160, 6)]) G (fun q => q.2) (Ck_operator x1 G) := by
  unfold Ck_operator
  exact frCB (frCB (frCI (frCB (frSwt (List.forall_mem_cons.mpr ⟨frT (fr_Ck_operator_b68 _ _ _) (fS_mono rfl rfl) fq_rf, (List.forall_mem_cons.mpr ⟨frT (fr_Ck_operator_b68 _ _ _) (fS_mono rfl rfl) fq_rf, (List.forall_mem_cons.mpr ⟨frT (fr_Ck_operator_b99 _ _ _) (fS_mono rfl rfl) fq_rf, (List.forall_mem_cons.mpr ⟨frT (fr_Ck_operator_b131 _ _ _ _) (fS_mono rfl rfl) fq_rf, (List.forall_mem_cons.mpr ⟨frS fq_rf, (fun _ h => nomatch h)⟩)⟩)⟩)⟩)⟩) (frT (fr_Ck_operator_b267 _ _) (fS_mono rfl rfl) fq_rf)))))
theorem fr_Ck_assign_b170 (x1 : Int) (x2 : Int) (s0 : Int) (s1 : Int) (G : St) : Fr (fS [112, 114] []) G (fun q => q.2) (Ck_assign_b170 x1 x2 s0 s1 G) := by
  unfold Ck_assign_b170
  exact frCB (frTk (fq_upL rfl fq_rf) (fun G6 hG6 => frCB (frCB (frTk (fq_upL rfl hG6) (fun G7 hG7 => frS hG7)))))
theorem fr_Ck_assign_b146 (x1 : Int) (x2 : Int) (s0 : Int) (s1 : Int) (s2 : Int) (s3 : Int) (G : St) : Fr (fS [112, 114] []) G (fun q => q.2) (Ck_assign_b146 x1 x2 s0 s1 s2 s3 G) := by
  unfold Ck_assign_b146
  exact frCI (frCI (frCB (frCI (frT (fr_Ck_assign_b170 _ _ _ _ _) (fS_mono rfl rfl) fq_rf))))
theorem fr_Ck_assign_b103 (x1 : Int) (x2 : Int) (x3 : Int) (G : St) : Fr (fS [112, 114] []) G (fun q => q.2) (Ck_assign_b103 x1 x2 x3 G) := by
  unfold Ck_assign_b103
  exact frIf (frCB (frT (fr_Ck_assign_b170 _ _ _ _ _) (fS_mono rfl rfl) fq_rf)) (frCB (frCI (frCB (frT (fr_Ck_assign_b146 _ _ _ _ _ _ _) (fS_mono rfl rfl) fq_rf))))
theorem fr_Ck_assign_b88 (x1 : Int) (x2 : Int) (s0 : Int) (G : St) : Fr (fS [112, 114] [(160, 6)]) G (fun q => q.2) (Ck_assign_b88 x1 x2 s0 G) := by
  unfold Ck_assign_b88
  exact frIf (frT (fr_Ck_assign_b103 _ _ _ _) (fS_mono rfl rfl) fq_rf) (frCI (frTk (fq_upK rfl fq_rf) (fun G8 hG8 => frT (fr_Ck_assign_b103 _ _ _ _) (fS_mono rfl rfl) hG8)))
theorem fr_Ck_assign_b58 (x1 : Int) (x2 : Int) (s0 : Int) (G : St) : Fr (fS [112, 114] [(130, 0), (130, 1), (160, 6)]) G (fun q => q.2) (Ck_assign_b58 x1 x2 s0 G) := by
  unfold Ck_assign_b58
  exact frCB (frBd (fr_Ck_need _ _ _) (fS_mono rfl rfl) fq_rf (fun _ G5 hG5 => frCB (frT (fr_Ck_assign_b88 _ _ _ _) (fS_mono rfl rfl) hG5)))
theorem fr_Ck_assign (x1 : Int) (G : St) : Fr (fS [112, 114] [(130, 0), (130, 1), (160, 6)]) G (fun q => q.2) (Ck_assign x1 G) := by
  unfold Ck_assign
  exact frCB (frBd (fr_Sc_find _ _ _) (fS_mono rfl rfl) fq_rf (fun _ G2 hG2 => frCI (frTk (fq_upK rfl hG2) (fun G3 hG3 => frCB (frCB (frT (fr_Ck_assign_b58 _ _ _ _) (fS_mono rfl rfl) hG3))))))
theorem fr_Ck_comesIn (x1 : Int) (x2 : Int) (G : St) : Fr (fS [] [(130, 0), (130, 1)]) G (fun q => q.2) (Ck_comesIn x1 x2 G) := by
  unfold Ck_comesIn
  exact frBd (fr_Sc_find _ _ _) (fS_mono rfl rfl) fq_rf (fun _ G2 hG2 => frIf (frS hG2) (frBd (fr_Ft_set _ _ _) (fS_mono rfl rfl) hG2 (fun _ G4 hG4 => frS hG4)))
theorem fr_Sc_add (x1 : Int) (x2 : Int) (x3 : Int) (x4 : Int) (x5 : Int) (G : St) : Fr (fS [191, 192, 193, 194, 195] [(190, 5)]) G (fun q => q.2) (Sc_add x1 x2 x3 x4 x5 G) := by
  unfold Sc_add
  exact frCB (frTk (fq_upL rfl fq_rf) (fun G1 hG1 => frCB (frTk (fq_upL rfl hG1) (fun G2 hG2 => frCB (frTk (fq_upL rfl hG2) (fun G3 hG3 => frCB (frTk (fq_upL rfl hG3) (fun G4 hG4 => frCB (frTk (fq_upL rfl hG4) (fun G5 hG5 => frCI (frTk (fq_upK rfl hG5) (fun G6 hG6 => frS hG6))))))))))))
theorem fr_Ck_endDef_b37 (x1 : Int) (s0 : Int) (G : St) : Fr (fS [112, 165, 191, 192, 193, 194, 195] [(130, 0), (130, 1), (160, 13), (160, 18), (190, 5)]) G (fun q => q.2) (Ck_endDef_b37 x1 s0 G) := by
  unfold Ck_endDef_b37
  exact frCB (frBd (fr_Ck_need _ _ _) (fS_mono rfl rfl) fq_rf (fun _ G3 hG3 => frTk (fq_upK rfl hG3) (fun G4 hG4 => frTk (fq_upK rfl hG4) (fun G5 hG5 => frCB (frCB (frTk (fq_upL rfl hG5) (fun G6 hG6 => frCB (frCB (frBd (fr_Sc_add _ _ _ _ _ _) (fS_mono rfl rfl) hG6 (fun _ G8 hG8 => frCB (frTk (fq_upL rfl hG8) (fun G9 hG9 => frCI (frTk (fq_upK rfl hG9) (fun G10 hG10 => frS hG10))))))))))))))
theorem fr_Ck_endDef (x1 : Int) (G : St) : Fr (fS [112, 165, 191, 192, 193, 194, 195] [(130, 0), (130, 1), (160, 6), (160, 13), (160, 18), (190, 5)]) G (fun q => q.2) (Ck_endDef x1 G) := by
  unfold Ck_endDef
  exact frCI (frTk (fq_upK rfl fq_rf) (fun G1 hG1 => frCB (frCB (frT (fr_Ck_endDef_b37 _ _ _) (fS_mono rfl rfl) hG1))))
theorem fr_Ck_endVar_b78 (x1 : Int) (x2 : Int) (x3 : Int) (G : St) : Fr (fS [112, 191, 192, 193, 194, 195] [(160, 9), (190, 5)]) G (fun q => q.2) (Ck_endVar_b78 x1 x2 x3 G) := by
  unfold Ck_endVar_b78
  exact frCB (frBd (fr_Sc_add _ _ _ _ _ _) (fS_mono rfl rfl) fq_rf (fun _ G2 hG2 => frCB (frTk (fq_upL rfl hG2) (fun G3 hG3 => frCI (frTk (fq_upK rfl hG3) (fun G4 hG4 => frS hG4))))))
theorem fr_Ck_endVar_b66 (x1 : Int) (x2 : Int) (x3 : Int) (s0 : Int) (G : St) : Fr (fS [112, 191, 192, 193, 194, 195] [(130, 0), (130, 1), (160, 9), (190, 5)]) G (fun q => q.2) (Ck_endVar_b66 x1 x2 x3 s0 G) := by
  unfold Ck_endVar_b66
  exact frCB (frBd (fr_Ck_need _ _ _) (fS_mono rfl rfl) fq_rf (fun _ G7 hG7 => frT (fr_Ck_endVar_b78 _ _ _ _) (fS_mono rfl rfl) hG7))
theorem fr_Ck_endVar (x1 : Int) (G : St) : Fr (fS [112, 191, 192, 193, 194, 195] [(130, 0), (130, 1), (160, 6), (160, 9), (190, 5)]) G (fun q => q.2) (Ck_endVar x1 G) := by
  unfold Ck_endVar
  exact frCB (frCB (frCD (frCB (frIf (frCI (frTk (fq_upK rfl fq_rf) (fun G5 hG5 => frCB (frT (fr_Ck_endVar_b66 _ _ _ _ _) (fS_mono rfl rfl) hG5)))) (frT (fr_Ck_endVar_b78 _ _ _ _) (fS_mono rfl rfl) fq_rf)))))
theorem fr_Ck_input_b123 (P W : Int) (s0 : Int) (s1 : Int) (s2 : Int) (G : St) : Fr (fS [] [(160, 11)]) G (fun q => q.2) (Ck_input_b123 P W s0 s1 s2 G) := by
  unfold Ck_input_b123
  exact frCI (frCI (frTk (fq_upK rfl fq_rf) (fun G7 hG7 => frS hG7)))
theorem fr_Ck_input (P W : Int) (x1 : Int) (G : St) : Fr (fS [112, 191, 192, 193, 194, 195] [(130, 0), (130, 1), (160, 10), (160, 11), (190, 5)]) G (fun q => q.2) (Ck_input P W x1 G) := by
  unfold Ck_input
  exact frCB (frCB (frCD (frCD (frCB (frCB (frBd (fr_Ck_comesIn _ _ _) (fS_mono rfl rfl) fq_rf (fun _ G2 hG2 => frCB (frBd (fr_Sc_add _ _ _ _ _ _) (fS_mono rfl rfl) hG2 (fun _ G4 hG4 => frCB (frTk (fq_upL rfl hG4) (fun G5 hG5 => frCI (frTk (fq_upK rfl hG5) (fun G6 hG6 => frT (fr_Ck_input_b123 _ _ _ _ _ _) (fS_mono rfl rfl) hG6)))))))))))))
theorem fr_Ck_mark (G : St) : Fr (fS [164] [(160, 8)]) G (fun q => q.2) (Ck_mark G) := by
  unfold Ck_mark
  exact frCI (frCB (frTk (fq_upL rfl fq_rf) (fun G1 hG1 => frCI (frCI (frCB (frTk (fq_upL rfl hG1) (fun G2 hG2 => frCI (frTk (fq_upK rfl hG2) (fun G3 hG3 => frS hG3)))))))))
theorem fr_Ck_release (G : St) : Fr (fS [] [(160, 8), (160, 9), (190, 5)]) G (fun q => q.2) (Ck_release G) := by
  unfold Ck_release
  exact frCI (frTk (fq_upK rfl fq_rf) (fun G1 hG1 => frCI (frCB (frTk (fq_upK rfl hG1) (fun G2 hG2 => frCI (frCI (frCB (frTk (fq_upK rfl hG2) (fun G3 hG3 => frS hG3)))))))))
theorem fr_Ck_target_b90 (x1 : Int) (s0 : Int) (G : St) : Fr (fS [] [(130, 0), (130, 1)]) G (fun q => q.2) (Ck_target_b90 x1 s0 G) := by
  unfold Ck_target_b90
  exact frCB (frBd (fr_Ck_need _ _ _) (fS_mono rfl rfl) fq_rf (fun _ G4 hG4 => frS hG4))
theorem fr_Ck_target_b81 (x1 : Int) (x3 : Int) (s0 : Int) (G : St) : Fr (fS [] [(130, 0), (130, 1)]) G (fun q => q.2) (Ck_target_b81 x1 x3 s0 G) := by
  unfold Ck_target_b81
  exact frT (fr_Ck_target_b90 _ _ _) (fS_mono rfl rfl) fq_rf
theorem fr_Ck_target_b49 (x1 : Int) (x2 : Int) (s0 : Int) (G : St) : Fr (fS [] [(130, 0), (130, 1)]) G (fun q => q.2) (Ck_target_b49 x1 x2 s0 G) := by
  unfold Ck_target_b49
  exact frCB (frIf (frCB (frT (fr_Ck_target_b81 _ _ _ _) (fS_mono rfl rfl) fq_rf)) (frT (fr_Ck_target_b90 _ _ _) (fS_mono rfl rfl) fq_rf))
theorem fr_Ck_target (x1 : Int) (G : St) : Fr (fS [] [(130, 0), (130, 1)]) G (fun q => q.2) (Ck_target x1 G) := by
  unfold Ck_target
  exact frCB (frCB (frBd (fr_Ck_visible _ _ _) (fS_mono rfl rfl) fq_rf (fun _ G2 hG2 => frIf (frS hG2) (frCB (frCB (frCB (frIf (frT (fr_Ck_target_b49 _ _ _ _) (fS_mono rfl rfl) hG2) (frT (fr_Ck_target_b49 _ _ _ _) (fS_mono rfl rfl) hG2))))))))
theorem fr_Ck_statement_b136 (P W : Int) (x1 : Int) (G : St) : Fr (fS [112, 191, 192, 193, 194, 195] [(130, 0), (130, 1), (160, 10), (160, 11), (190, 5)]) G (fun q => q.2) (Ck_statement_b136 P W x1 G) := by
  unfold Ck_statement_b136
  exact frBd (fr_Ck_input _ _ _ _) (fS_mono rfl rfl) fq_rf (fun _ G2 hG2 => frS hG2)
theorem fr_Ck_statement_b144 (P W : Int) (x2 : Int) (x3 : Int) (G : St) : Fr (fS [166, 167] [(130, 0), (130, 1), (160, 13)]) G (fun q => q.2) (Ck_statement_b144 P W x2 x3 G) := by
  unfold Ck_statement_b144
  exact frBd (fr_Ck_comesIn _ _ _) (fS_mono rfl rfl) fq_rf (fun _ G4 hG4 => frTk (fq_upK rfl hG4) (fun G5 hG5 => frCB (frTk (fq_upL rfl hG5) (fun G6 hG6 => frCB (frTk (fq_upL rfl hG6) (fun G7 hG7 => frS hG7))))))
theorem fr_Ck_statement_b187 (P W : Int) (x1 : Int) (x2 : Int) (x3 : Int) (G : St) : Fr (fS [167, 168, 191, 192, 193, 194, 195] [(130, 0), (130, 1), (160, 19), (190, 5)]) G (fun q => q.2) (Ck_statement_b187 P W x1 x2 x3 G) := by
  unfold Ck_statement_b187
  exact frBd (fr_Ck_comesIn _ _ _) (fS_mono rfl rfl) fq_rf (fun _ G9 hG9 => frCB (frCB (frBd (fr_Sc_add _ _ _ _ _ _) (fS_mono rfl rfl) hG9 (fun _ G11 hG11 => frCB (frCB (frTk (fq_upL rfl hG11) (fun G12 hG12 => frCI (frTk (fq_upK rfl hG12) (fun G13 hG13 => frCB (frCI (frCB (frTk (fq_upL rfl hG13) (fun G14 hG14 => frS hG14)))))))))))))
theorem fr_Ck_statement_b265 (P W : Int) (x1 : Int) (G : St) : Fr (fS [112, 165, 191, 192, 193, 194, 195] [(130, 0), (130, 1), (160, 6), (160, 13), (160, 18), (190, 5)]) G (fun q => q.2) (Ck_statement_b265 P W x1 G) := by
  unfold Ck_statement_b265
  exact frBd (fr_Ck_endDef _ _) (fS_mono rfl rfl) fq_rf (fun _ G16 hG16 => frS hG16)
theorem fr_Ck_statement_b273 (P W : Int) (x1 : Int) (G : St) : Fr (fS [114] [(160, 6)]) G (fun q => q.2) (Ck_statement_b273 P W x1 G) := by
  unfold Ck_statement_b273
  exact frCI (frTk (fq_upK rfl fq_rf) (fun G17 hG17 => frCB (frCB (frTk (fq_upL rfl hG17) (fun G18 hG18 => frS hG18)))))
theorem fr_Ck_statement_b304 (P W : Int) (x2 : Int) (x3 : Int) (G : St) : Fr (fS [] [(130, 0), (130, 1)]) G (fun q => q.2) (Ck_statement_b304 P W x2 x3 G) := by
  unfold Ck_statement_b304
  exact frBd (fr_Ck_comesIn _ _ _) (fS_mono rfl rfl) fq_rf (fun _ G20 hG20 => frS hG20)
theorem fr_Ck_statement_b313 (P W : Int) (x1 : Int) (G : St) : Fr (fS [112, 191, 192, 193, 194, 195] [(130, 0), (130, 1), (160, 6), (160, 9), (190, 5)]) G (fun q => q.2) (Ck_statement_b313 P W x1 G) := by
  unfold Ck_statement_b313
  exact frBd (fr_Ck_endVar _ _) (fS_mono rfl rfl) fq_rf (fun _ G22 hG22 => frS hG22)
theorem fr_Ck_statement_b321 (P W : Int) (x1 : Int) (G : St) : Fr (fS [] [(130, 0), (130, 1)]) G (fun q => q.2) (Ck_statement_b321 P W x1 G) := by
  unfold Ck_statement_b321
  exact frBd (fr_Ck_target _ _) (fS_mono rfl rfl) fq_rf (fun _ G24 hG24 => frS hG24)
theorem fr_Ck_statement_b349 (P W : Int) (x1 : Int) (s0 : Int) (G : St) : Fr (fS [112, 113, 114] [(130, 0), (130, 1)]) G (fun q => q.2) (Ck_statement_b349 P W x1 s0 G) := by
  unfold Ck_statement_b349
  exact frCI (frCB (frBd (fr_Ck_need _ _ _) (fS_mono rfl rfl) fq_rf (fun _ G26 hG26 => frBd (fr_Ck_index _ _) (fS_mono rfl rfl) hG26 (fun _ G28 hG28 => frS hG28))))
theorem fr_Ck_statement_b329 (P W : Int) (x1 : Int) (G : St) : Fr (fS [112, 113, 114] [(130, 0), (130, 1)]) G (fun q => q.2) (Ck_statement_b329 P W x1 G) := by
  unfold Ck_statement_b329
  exact frCI (frCB (frT (fr_Ck_statement_b349 _ _ _ _ _) (fS_mono rfl rfl) fq_rf))
theorem fr_Ck_statement_b371 (P W : Int) (x1 : Int) (G : St) : Fr (fS [112, 114] [(130, 0), (130, 1), (160, 6)]) G (fun q => q.2) (Ck_statement_b371 P W x1 G) := by
  unfold Ck_statement_b371
  exact frBd (fr_Ck_assign _ _) (fS_mono rfl rfl) fq_rf (fun _ G30 hG30 => frS hG30)
theorem fr_Ck_statement_b408 (P W : Int) (x1 : Int) (s0 : Int) (G : St) : Fr (fS [112] [(130, 0), (130, 1)]) G (fun q => q.2) (Ck_statement_b408 P W x1 s0 G) := by
  unfold Ck_statement_b408
  exact frCB (frBd (fr_Ck_need _ _ _) (fS_mono rfl rfl) fq_rf (fun _ G33 hG33 => frCB (frTk (fq_upL rfl hG33) (fun G34 hG34 => frS hG34))))
theorem fr_Ck_statement_b379 (P W : Int) (x1 : Int) (G : St) : Fr (fS [112] [(130, 0), (130, 1), (160, 6)]) G (fun q => q.2) (Ck_statement_b379 P W x1 G) := by
  unfold Ck_statement_b379
  exact frCI (frTk (fq_upK rfl fq_rf) (fun G31 hG31 => frCB (frT (fr_Ck_statement_b408 _ _ _ _ _) (fS_mono rfl rfl) hG31)))
theorem fr_Ck_statement_b436 (P W : Int) (x2 : Int) (x3 : Int) (G : St) : Fr (fS [] [(130, 0), (130, 1)]) G (fun q => q.2) (Ck_statement_b436 P W x2 x3 G) := by
  unfold Ck_statement_b436
  exact frBd (fr_Ck_comesIn _ _ _) (fS_mono rfl rfl) fq_rf (fun _ G36 hG36 => frS hG36)
theorem fr_Ck_statement_b465 (P W : Int) (s0 : Int) (G : St) : Fr (fS [] [(130, 0), (130, 1)]) G (fun q => q.2) (Ck_statement_b465 P W s0 G) := by
  unfold Ck_statement_b465
  exact frCI (frCB (frBd (fr_Ck_need _ _ _) (fS_mono rfl rfl) fq_rf (fun _ G38 hG38 => frCI (frCB (frIf (frCI (frCB (frBd (fr_Ft_set _ _ _) (fS_mono rfl rfl) hG38 (fun _ G40 hG40 => frS hG40)))) (frS hG38))))))
theorem fr_Ck_statement_b445 (P W : Int) (G : St) : Fr (fS [] [(130, 0), (130, 1)]) G (fun q => q.2) (Ck_statement_b445 P W G) := by
  unfold Ck_statement_b445
  exact frCI (frCB (frT (fr_Ck_statement_b465 _ _ _ _) (fS_mono rfl rfl) fq_rf))
theorem fr_Ck_statement_b516 (P W : Int) (x1 : Int) (x2 : Int) (G : St) : Fr (fS [112, 164, 191, 192, 193, 194, 195] [(160, 6), (160, 8), (160, 12), (190, 5)]) G (fun q => q.2) (Ck_statement_b516 P W x1 x2 G) := by
  unfold Ck_statement_b516
  exact frCI (frTk (fq_upK rfl fq_rf) (fun G41 hG41 => frBd (fr_Ck_mark _) (fS_mono rfl rfl) hG41 (fun _ G43 hG43 => frBd (fr_Sc_add _ _ _ _ _ _) (fS_mono rfl rfl) hG43 (fun _ G45 hG45 => frCB (frTk (fq_upL rfl hG45) (fun G46 hG46 => frCI (frTk (fq_upK rfl hG46) (fun G47 hG47 => frS hG47))))))))
theorem fr_Ck_statement_b571 (P W : Int) (x1 : Int) (G : St) : Fr (fS [112] [(160, 8), (160, 9), (160, 12), (190, 5)]) G (fun q => q.2) (Ck_statement_b571 P W x1 G) := by
  unfold Ck_statement_b571
  exact frBd (fr_Ck_release _) (fS_mono rfl rfl) fq_rf (fun _ G49 hG49 => frCI (frTk (fq_upK rfl hG49) (fun G50 hG50 => frCB (frTk (fq_upL rfl hG50) (fun G51 hG51 => frS hG51)))))
theorem fr_Ck_statement_b601 (P W : Int) (G : St) : Fr (fS [164] [(160, 8)]) G (fun q => q.2) (Ck_statement_b601 P W G) := by
  unfold Ck_statement_b601
  exact frBd (fr_Ck_mark _) (fS_mono rfl rfl) fq_rf (fun _ G53 hG53 => frS hG53)
theorem fr_Ck_statement_b608 (P W : Int) (G : St) : Fr (fS [] [(160, 8), (160, 9), (190, 5)]) G (fun q => q.2) (Ck_statement_b608 P W G) := by
  unfold Ck_statement_b608
  exact frBd (fr_Ck_release _) (fS_mono rfl rfl) fq_rf (fun _ G55 hG55 => frS hG55)
theorem fr_Ck_statement (P W : Int) (x1 : Int) (G : St) : Fr (fS [112, 113, 114, 164, 165, 166, 167, 168, 191, 192, 193, 194, 195] [(130, 0), (130, 1), (160, 6), (160, 8), (160, 9), (160, 10), (160, 11), (160, 12), (160, 13), (160, 18), (160, 19), (190, 5)]) G (fun q => q.2) (Ck_statement P W x1 G) := by
  unfold Ck_statement
  exact frCB (frCB (frCB (frCB (frSwt (List.forall_mem_cons.mpr ⟨frT (fr_Ck_statement_b136 _ _ _ _) (fS_mono rfl rfl) fq_rf, (List.forall_mem_cons.mpr ⟨frT (fr_Ck_statement_b144 _ _ _ _ _) (fS_mono rfl rfl) fq_rf, (List.forall_mem_cons.mpr ⟨frT (fr_Ck_statement_b187 _ _ _ _ _ _) (fS_mono rfl rfl) fq_rf, (List.forall_mem_cons.mpr ⟨frT (fr_Ck_statement_b265 _ _ _ _) (fS_mono rfl rfl) fq_rf, (List.forall_mem_cons.mpr ⟨frS fq_rf, (List.forall_mem_cons.mpr ⟨frT (fr_Ck_statement_b273 _ _ _ _) (fS_mono rfl rfl) fq_rf, (List.forall_mem_cons.mpr ⟨frS fq_rf, (List.forall_mem_cons.mpr ⟨frT (fr_Ck_statement_b304 _ _ _ _ _) (fS_mono rfl rfl) fq_rf, (List.forall_mem_cons.mpr ⟨frT (fr_Ck_statement_b313 _ _ _ _) (fS_mono rfl rfl) fq_rf, (List.forall_mem_cons.mpr ⟨frT (fr_Ck_statement_b321 _ _ _ _) (fS_mono rfl rfl) fq_rf, (List.forall_mem_cons.mpr ⟨frT (fr_Ck_statement_b321 _ _ _ _) (fS_mono rfl rfl) fq_rf, (List.forall_mem_cons.mpr ⟨frT (fr_Ck_statement_b329 _ _ _ _) (fS_mono rfl rfl) fq_rf, (List.forall_mem_cons.mpr ⟨frT (fr_Ck_statement_b371 _ _ _ _) (fS_mono rfl rfl) fq_rf, (List.forall_mem_cons.mpr ⟨frT (fr_Ck_statement_b379 _ _ _ _) (fS_mono rfl rfl) fq_rf, (List.forall_mem_cons.mpr ⟨frS fq_rf, (List.forall_mem_cons.mpr ⟨frS fq_rf, (List.forall_mem_cons.mpr ⟨frT (fr_Ck_statement_b436 _ _ _ _ _) (fS_mono rfl rfl) fq_rf, (List.forall_mem_cons.mpr ⟨frT (fr_Ck_statement_b445 _ _ _) (fS_mono rfl rfl) fq_rf, (List.forall_mem_cons.mpr ⟨frT (fr_Ck_statement_b516 _ _ _ _ _) (fS_mono rfl rfl) fq_rf, (List.forall_mem_cons.mpr ⟨frT (fr_Ck_statement_b571 _ _ _ _) (fS_mono rfl rfl) fq_rf, (List.forall_mem_cons.mpr ⟨frT (fr_Ck_statement_b601 _ _ _) (fS_mono rfl rfl) fq_rf, (List.forall_mem_cons.mpr ⟨frT (fr_Ck_statement_b608 _ _ _) (fS_mono rfl rfl) fq_rf, (fun _ h => nomatch h)⟩)⟩)⟩)⟩)⟩)⟩)⟩)⟩)⟩)⟩)⟩)⟩)⟩)⟩)⟩)⟩)⟩)⟩)⟩)⟩)⟩)⟩) (frS fq_rf)))))
theorem fr_Ck_step (P W : Int) (x1 : Int) (G : St) : Fr (fS [112, 113, 114, 161, 162, 163, 164, 165, 166, 167, 168, 191, 192, 193, 194, 195] [(130, 0), (130, 1), (160, 6), (160, 8), (160, 9), (160, 10), (160, 11), (160, 12), (160, 13), (160, 18), (160, 19), (190, 5)]) G (fun q => q.2) (Ck_step P W x1 G) := by
  unfold Ck_step
  exact frCB (frCB (frCB (frIf (frCB (frCB (frIf (frBd (fr_Ck_statement _ _ _ _) (fS_mono rfl rfl) fq_rf (fun _ G2 hG2 => frS hG2)) (frBd (fr_Ck_factor _ _) (fS_mono rfl rfl) fq_rf (fun _ G4 hG4 => frS hG4))))) (frBd (fr_Ck_operator _ _) (fS_mono rfl rfl) fq_rf (fun _ G6 hG6 => frS hG6)))))
theorem fr_Ck_check_s55 (P W : Int) (x1 : Int) (G : St) : Fr (fS [112, 113, 114, 161, 162, 163, 164, 165, 166, 167, 168, 191, 192, 193, 194, 195] [(130, 0), (130, 1), (160, 6), (160, 8), (160, 9), (160, 10), (160, 11), (160, 12), (160, 13), (160, 18), (160, 19), (190, 5)]) G (Sum.elim (fun q => q.2) (fun q => q.2)) (Ck_check_s55 P W x1 G) := by
  unfold Ck_check_s55
  exact frIf (frBd (fr_Ft_is _) (fS_mono rfl rfl) fq_rf (fun _ G12 hG12 => frIf (frBd (fr_Ck_step _ _ _ _) (fS_mono rfl rfl) hG12 (fun _ G14 hG14 => frCI (frS hG14))) (frEx (frS hG12)))) (frEx (frS fq_rf))
theorem fr_Ck_check_l55 (P W : Int) (x1 : Int) (G : St) : Fr (fS [112, 113, 114, 161, 162, 163, 164, 165, 166, 167, 168, 191, 192, 193, 194, 195] [(130, 0), (130, 1), (160, 6), (160, 8), (160, 9), (160, 10), (160, 11), (160, 12), (160, 13), (160, 18), (160, 19), (190, 5)]) G (fun q => q.2) (Ck_check_l55 P W x1 G) := frWh (pi := fun (s : (Int × St)) => s.2) (fun (s : (Int × St)) => fr_Ck_check_s55 P W s.1 s.2)
theorem fr_Ck_check (P W : Int) (G : St) : Fr (fS [112, 113, 114, 161, 162, 163, 164, 165, 166, 167, 168, 191, 192, 193, 194, 195] [(130, 0), (130, 1), (160, 6), (160, 8), (160, 9), (160, 10), (160, 11), (160, 12), (160, 13), (160, 18), (160, 19), (190, 5)]) G (fun q => q.2) (Ck_check P W G) := by
  unfold Ck_check
  exact frTk (fq_upK rfl fq_rf) (fun G1 hG1 => frTk (fq_upK rfl hG1) (fun G2 hG2 => frTk (fq_upK rfl hG2) (fun G3 hG3 => frTk (fq_upK rfl hG3) (fun G4 hG4 => frTk (fq_upK rfl hG4) (fun G5 hG5 => frTk (fq_upK rfl hG5) (fun G6 hG6 => frTk (fq_upK rfl hG6) (fun G7 hG7 => frTk (fq_upK rfl hG7) (fun G8 hG8 => frTk (fq_upK rfl hG8) (fun G9 hG9 => frTk (fq_upK rfl hG9) (fun G10 hG10 => frT (fr_Ck_check_l55 _ _ _ _) (fS_mono rfl rfl) hG10))))))))))
theorem fr_Cd_clear (G : St) : Fr (fS [] [(110, 4)]) G (fun q => q.2) (Cd_clear G) := by
  unfold Cd_clear
  exact frTk (fq_upK rfl fq_rf) (fun G1 hG1 => frS hG1)
theorem fr_Ft_clear (G : St) : Fr (fS [] [(130, 0), (130, 1)]) G (fun q => q.2) (Ft_clear G) := by
  unfold Ft_clear
  exact frTk (fq_upK rfl fq_rf) (fun G1 hG1 => frTk (fq_upK rfl hG1) (fun G2 hG2 => frS hG2))
theorem fr_Nm_clear (G : St) : Fr (fS [] [(120, 3), (120, 4)]) G (fun q => q.2) (Nm_clear G) := by
  unfold Nm_clear
  exact frTk (fq_upK rfl fq_rf) (fun G1 hG1 => frTk (fq_upK rfl hG1) (fun G2 hG2 => frS hG2))
theorem fr_Pl_sort_b290 (x1 : Int) (G : St) : Fr (fS [] []) G (Sum.elim (fun q => q.2) (fun q => q.2)) (Pl_sort_b290 x1 G) := by
  unfold Pl_sort_b290
  exact frCI (frS fq_rf)
theorem fr_Pl_sort_s210 (x1 : Int) (G : St) : Fr (fS [221, 222, 225, 226] []) G (Sum.elim (fun q => q.2) (fun q => q.2)) (Pl_sort_s210 x1 G) := by
  unfold Pl_sort_s210
  exact frIf (frCB (frCB (frCB (frTk (fq_upL rfl fq_rf) (fun G1 hG1 => frCB (frCI (frCB (frTk (fq_upL rfl hG1) (fun G2 hG2 => frCB (frIf (frT (fr_Pl_sort_b290 _ _) (fS_mono rfl rfl) hG2) (frCB (frCB (frTk (fq_upL rfl hG2) (fun G3 hG3 => frCB (frCI (frCB (frTk (fq_upL rfl hG3) (fun G4 hG4 => frT (fr_Pl_sort_b290 _ _) (fS_mono rfl rfl) hG4)))))))))))))))))) (frEx (frS fq_rf))
theorem fr_Pl_sort_l210 (x1 : Int) (G : St) : Fr (fS [221, 222, 225, 226] []) G (fun q => q.2) (Pl_sort_l210 x1 G) := frWh (pi := fun (s : (Int × St)) => s.2) (fun (s : (Int × St)) => fr_Pl_sort_s210 s.1 s.2)
theorem fr_Pl_sort_s167 (x1 : Int) (G : St) : Fr (fS [221, 222, 225, 226] []) G (Sum.elim (fun q => q.2) (fun q => q.2)) (Pl_sort_s167 x1 G) := by
  unfold Pl_sort_s167
  exact frIf (frEx (frT (fr_Pl_sort_l210 _ _) (fS_mono rfl rfl) fq_rf)) (frCB (frCB (frTk (fq_upL rfl fq_rf) (fun G5 hG5 => frCB (frCB (frTk (fq_upL rfl hG5) (fun G6 hG6 => frCI (frS hG6))))))))
theorem fr_Pl_sort_l167 (x1 : Int) (G : St) : Fr (fS [221, 222, 225, 226] []) G (fun q => q.2) (Pl_sort_l167 x1 G) := frWh (pi := fun (s : (Int × St)) => s.2) (fun (s : (Int × St)) => fr_Pl_sort_s167 s.1 s.2)
theorem fr_Pl_sort_s112 (x1 : Int) (G : St) : Fr (fS [221, 222, 223, 224, 225, 226] []) G (Sum.elim (fun q => q.2) (fun q => q.2)) (Pl_sort_s112 x1 G) := by
  unfold Pl_sort_s112
  exact frCI (frIf (frEx (frT (fr_Pl_sort_l167 _ _) (fS_mono rfl rfl) fq_rf)) (frCB (frCI (frCB (frCI (frCB (frTk (fq_upL rfl fq_rf) (fun G7 hG7 => frCB (frCI (frCB (frCI (frCB (frTk (fq_upL rfl hG7) (fun G8 hG8 => frCI (frS hG8)))))))))))))))
theorem fr_Pl_sort_l112 (x1 : Int) (G : St) : Fr (fS [221, 222, 223, 224, 225, 226] []) G (fun q => q.2) (Pl_sort_l112 x1 G) := frWh (pi := fun (s : (Int × St)) => s.2) (fun (s : (Int × St)) => fr_Pl_sort_s112 s.1 s.2)
theorem fr_Pl_sort_b102 (x1 : Int) (s0 : Int) (s1 : Int) (s2 : Int) (G : St) : Fr (fS [224] []) G (Sum.elim (fun q => q.2) (fun q => q.2)) (Pl_sort_b102 x1 s0 s1 s2 G) := by
  unfold Pl_sort_b102
  exact frCI (frCB (frTk (fq_upL rfl fq_rf) (fun G10 hG10 => frCI (frS hG10))))
theorem fr_Pl_sort_s37 (x1 : Int) (G : St) : Fr (fS [221, 222, 223, 224, 225, 226] []) G (Sum.elim (fun q => q.2) (fun q => q.2)) (Pl_sort_s37 x1 G) := by
  unfold Pl_sort_s37
  exact frIf (frCB (frCI (frCB (frCI (frCB (frTk (fq_upL rfl fq_rf) (fun G9 hG9 => frCB (frCI (frCB (frCB (frT (fr_Pl_sort_b102 _ _ _ _ _) (fS_mono rfl rfl) hG9))))))))))) (frEx (frT (fr_Pl_sort_l112 _ _) (fS_mono rfl rfl) fq_rf))
theorem fr_Pl_sort_l37 (x1 : Int) (G : St) : Fr (fS [221, 222, 223, 224, 225, 226] []) G (fun q => q.2) (Pl_sort_l37 x1 G) := frWh (pi := fun (s : (Int × St)) => s.2) (fun (s : (Int × St)) => fr_Pl_sort_s37 s.1 s.2)
theorem fr_Pl_sort_s2 (x1 : Int) (G : St) : Fr (fS [221, 222, 223, 224, 225, 226] []) G (Sum.elim (fun q => q.2) (fun q => q.2)) (Pl_sort_s2 x1 G) := by
  unfold Pl_sort_s2
  exact frCI (frIf (frEx (frT (fr_Pl_sort_l37 _ _) (fS_mono rfl rfl) fq_rf)) (frCB (frTk (fq_upL rfl fq_rf) (fun G11 hG11 => frCB (frTk (fq_upL rfl hG11) (fun G12 hG12 => frCI (frS hG12)))))))
theorem fr_Pl_sort_l2 (x1 : Int) (G : St) : Fr (fS [221, 222, 223, 224, 225, 226] []) G (fun q => q.2) (Pl_sort_l2 x1 G) := frWh (pi := fun (s : (Int × St)) => s.2) (fun (s : (Int × St)) => fr_Pl_sort_s2 s.1 s.2)
theorem fr_Pl_sort (G : St) : Fr (fS [221, 222, 223, 224, 225, 226] []) G (fun q => q.2) (Pl_sort G) := by
  unfold Pl_sort
  exact frT (fr_Pl_sort_l2 _ _) (fS_mono rfl rfl) fq_rf
theorem fr_Pl_make_s135 (P W : Int) (x2 : Int) (x3 : Int) (G : St) : Fr (fS [229] [(220, 12)]) G (Sum.elim (fun q => q.2) (Sum.elim (fun q => q.2) (fun q => q.2))) (Pl_make_s135 P W x2 x3 G) := by
  unfold Pl_make_s135
  exact frCB (frIf (frCI (frCI (frCB (frCB (frTk (fq_upL rfl fq_rf) (fun G5 hG5 => frCI (frTk (fq_upK rfl hG5) (fun G6 hG6 => frCI (frS hG6))))))))) (frEx (frCI (frS fq_rf))))
theorem fr_Pl_make_l135 (P W : Int) (x2 : Int) (x3 : Int) (G : St) : Fr (fS [229] [(220, 12)]) G (Sum.elim (fun q => q.2) (fun q => q.2)) (Pl_make_l135 P W x2 x3 G) := frWh (pi := fun (s : (Int × St)) => s.2) (fun (s : (Int × St)) => fr_Pl_make_s135 P W x2 s.1 s.2)
theorem fr_Pl_make_s122 (P W : Int) (x2 : Int) (G : St) : Fr (fS [229] [(220, 12)]) G (Sum.elim (fun q => q.2) (fun q => q.2)) (Pl_make_s122 P W x2 G) := by
  unfold Pl_make_s122
  exact frIf (frT (fr_Pl_make_l135 _ _ _ _ _) (fS_mono rfl rfl) fq_rf) (frEx (frS fq_rf))
theorem fr_Pl_make_l122 (P W : Int) (x2 : Int) (G : St) : Fr (fS [229] [(220, 12)]) G (fun q => q.2) (Pl_make_l122 P W x2 G) := frWh (pi := fun (s : (Int × St)) => s.2) (fun (s : (Int × St)) => fr_Pl_make_s122 P W s.1 s.2)
theorem fr_Pl_make_b93 (P W : Int) (x1 : Int) (x2 : Int) (x3 : Int) (G : St) : Fr (fS [] []) G (Sum.elim (fun q => q.2.2) (Sum.elim (fun q => q.2.2) (fun q => q.2))) (Pl_make_b93 P W x1 x2 x3 G) := by
  unfold Pl_make_b93
  exact frCI (frS fq_rf)
theorem fr_Pl_make_s39 (P W : Int) (x2 : Int) (x3 : Int) (x1 : Int) (x4 : Int) (G : St) : Fr (fS [227] []) G (Sum.elim (fun q => q.2.2) (Sum.elim (fun q => q.2.2) (Sum.elim (fun q => q.2.2) (fun q => q.2)))) (Pl_make_s39 P W x2 x3 x1 x4 G) := by
  unfold Pl_make_s39
  exact frCB (frIf (frCB (frIf (frCB (frCI (frCB (frTk (fq_upL rfl fq_rf) (fun G8 hG8 => frCI (frCI (frS hG8))))))) (frEx (frT (fr_Pl_make_b93 _ _ _ _ _ _) (fS_mono rfl rfl) fq_rf)))) (frEx (frT (fr_Pl_make_b93 _ _ _ _ _ _) (fS_mono rfl rfl) fq_rf)))
theorem fr_Pl_make_l39 (P W : Int) (x2 : Int) (x3 : Int) (x1 : Int) (x4 : Int) (G : St) : Fr (fS [227] []) G (Sum.elim (fun q => q.2.2) (Sum.elim (fun q => q.2.2) (fun q => q.2))) (Pl_make_l39 P W x2 x3 x1 x4 G) := frWh (pi := fun (s : (Int × Int × St)) => s.2.2) (fun (s : (Int × Int × St)) => fr_Pl_make_s39 P W x2 x3 s.1 s.2.1 s.2.2)
theorem fr_Pl_make_s25 (P W : Int) (x2 : Int) (x1 : Int) (x3 : Int) (G : St) : Fr (fS [227] []) G (Sum.elim (fun q => q.2.2) (Sum.elim (fun q => q.2.2) (fun q => q.2))) (Pl_make_s25 P W x2 x1 x3 G) := by
  unfold Pl_make_s25
  exact frIf (frT (fr_Pl_make_l39 _ _ _ _ _ _ _) (fS_mono rfl rfl) fq_rf) (frEx (frCI (frS fq_rf)))
theorem fr_Pl_make_l25 (P W : Int) (x2 : Int) (x1 : Int) (x3 : Int) (G : St) : Fr (fS [227] []) G (Sum.elim (fun q => q.2.2) (fun q => q.2)) (Pl_make_l25 P W x2 x1 x3 G) := frWh (pi := fun (s : (Int × Int × St)) => s.2.2) (fun (s : (Int × Int × St)) => fr_Pl_make_s25 P W x2 s.1 s.2.1 s.2.2)
theorem fr_Pl_make_s8 (P W : Int) (x1 : Int) (x2 : Int) (G : St) : Fr (fS [227, 228, 229] [(220, 12)]) G (Sum.elim (fun q => q.2.2) (fun q => q.2)) (Pl_make_s8 P W x1 x2 G) := by
  unfold Pl_make_s8
  exact frIf (frCB (frTk (fq_upL rfl fq_rf) (fun G7 hG7 => frT (fr_Pl_make_l25 _ _ _ _ _ _) (fS_mono rfl rfl) hG7))) (frEx (frCB (frTk (fq_upL rfl fq_rf) (fun G3 hG3 => frTk (fq_upK rfl hG3) (fun G4 hG4 => frT (fr_Pl_make_l122 _ _ _ _) (fS_mono rfl rfl) hG4)))))
theorem fr_Pl_make_l8 (P W : Int) (x1 : Int) (x2 : Int) (G : St) : Fr (fS [227, 228, 229] [(220, 12)]) G (fun q => q.2) (Pl_make_l8 P W x1 x2 G) := frWh (pi := fun (s : (Int × Int × St)) => s.2.2) (fun (s : (Int × Int × St)) => fr_Pl_make_s8 P W s.1 s.2.1 s.2.2)
theorem fr_Pl_make (P W : Int) (G : St) : Fr (fS [221, 222, 223, 224, 225, 226, 227, 228, 229] [(220, 12)]) G (fun q => q.2) (Pl_make P W G) := by
  unfold Pl_make
  exact frBd (fr_Pl_sort _) (fS_mono rfl rfl) fq_rf (fun _ G2 hG2 => frT (fr_Pl_make_l8 _ _ _ _ _) (fS_mono rfl rfl) hG2)
theorem fr_Cd_add (x1 : Int) (x2 : Int) (x3 : Int) (x4 : Int) (G : St) : Fr (fS [111, 112, 113, 114] [(110, 4)]) G (fun q => q.2) (Cd_add x1 x2 x3 x4 G) := by
  unfold Cd_add
  exact frCB (frCB (frTk (fq_upL rfl fq_rf) (fun G1 hG1 => frCB (frTk (fq_upL rfl hG1) (fun G2 hG2 => frCB (frTk (fq_upL rfl hG2) (fun G3 hG3 => frCB (frTk (fq_upL rfl hG3) (fun G4 hG4 => frCI (frTk (fq_upK rfl hG4) (fun G5 hG5 => frCI (frS hG5))))))))))))
theorem fr_Rd_enter_b18 (G : St) : Fr (fS [] [(150, 3)]) G (fun q => q.2) (Rd_enter_b18 G) := by
  unfold Rd_enter_b18
  exact frCI (frTk (fq_upK rfl fq_rf) (fun G1 hG1 => frS hG1))
theorem fr_Rd_enter (x1 : Int) (G : St) : Fr (fS [] [(130, 0), (130, 1), (150, 3)]) G (fun q => q.2) (Rd_enter x1 G) := by
  unfold Rd_enter
  exact frIf (frBd (fr_Ft_set _ _ _) (fS_mono rfl rfl) fq_rf (fun _ G3 hG3 => frT (fr_Rd_enter_b18 _) (fS_mono rfl rfl) hG3)) (frT (fr_Rd_enter_b18 _) (fS_mono rfl rfl) fq_rf)
theorem fr_Rd_look (x1 : Int) (G : St) : Fr (fS [] []) G (fun q => q.2) (Rd_look x1 G) := by
  unfold Rd_look
  exact frCI (frIf (frCI (frCB (frS fq_rf))) (frS fq_rf))
theorem fr_Rd_skip_b110 (s0 : Int) (G : St) : Fr (fS [] [(150, 2)]) G (Sum.elim (fun q => q.2) (fun q => q.2)) (Rd_skip_b110 s0 G) := by
  unfold Rd_skip_b110
  exact frCI (frTk (fq_upK rfl fq_rf) (fun G1 hG1 => frS hG1))
theorem fr_Rd_skip_b73 (x1 : Int) (G : St) : Fr (fS [] [(150, 2)]) G (Sum.elim (fun q => q.2) (fun q => q.2)) (Rd_skip_b73 x1 G) := by
  unfold Rd_skip_b73
  exact frCB (frIf (frT (fr_Rd_skip_b110 _ _) (fS_mono rfl rfl) fq_rf) (frIf (frT (fr_Rd_skip_b110 _ _) (fS_mono rfl rfl) fq_rf) (frCB (frT (fr_Rd_skip_b110 _ _) (fS_mono rfl rfl) fq_rf))))
theorem fr_Rd_skip_s2 (x1 : Int) (G : St) : Fr (fS [] [(150, 2)]) G (Sum.elim (fun q => q.2) (fun q => q.2)) (Rd_skip_s2 x1 G) := by
  unfold Rd_skip_s2
  exact frIf (frIf (frCB (frIf (frT (fr_Rd_skip_b73 _ _) (fS_mono rfl rfl) fq_rf) (frCB (frIf (frT (fr_Rd_skip_b73 _ _) (fS_mono rfl rfl) fq_rf) (frCB (frIf (frT (fr_Rd_skip_b73 _ _) (fS_mono rfl rfl) fq_rf) (frCB (frIf (frT (fr_Rd_skip_b73 _ _) (fS_mono rfl rfl) fq_rf) (frEx (frS fq_rf)))))))))) (frT (fr_Rd_skip_b73 _ _) (fS_mono rfl rfl) fq_rf)) (frEx (frS fq_rf))
theorem fr_Rd_skip_l2 (x1 : Int) (G : St) : Fr (fS [] [(150, 2)]) G (fun q => q.2) (Rd_skip_l2 x1 G) := frWh (pi := fun (s : (Int × St)) => s.2) (fun (s : (Int × St)) => fr_Rd_skip_s2 s.1 s.2)
theorem fr_Rd_skip (G : St) : Fr (fS [] [(150, 2)]) G (fun q => q.2) (Rd_skip G) := by
  unfold Rd_skip
  exact frT (fr_Rd_skip_l2 _ _) (fS_mono rfl rfl) fq_rf
theorem fr_Rd_isSign (x1 : Int) (G : St) : Fr (fS [] [(150, 2)]) G (fun q => q.2) (Rd_isSign x1 G) := by
  unfold Rd_isSign
  exact frBd (fr_Rd_skip _) (fS_mono rfl rfl) fq_rf (fun _ G2 hG2 => frBd (fr_Rd_look _ _) (fS_mono rfl rfl) hG2 (fun _ G4 hG4 => frCB (frS hG4)))
theorem fr_Rd_bad (G : St) : Fr (fS [] [(130, 0), (130, 1)]) G (fun q => q.2) (Rd_bad G) := by
  unfold Rd_bad
  exact frBd (fr_Ft_set _ _ _) (fS_mono rfl rfl) fq_rf (fun _ G2 hG2 => frS hG2)
theorem fr_Rd_isAlone (x1 : Int) (x2 : Int) (G : St) : Fr (fS [] [(150, 2)]) G (fun q => q.2) (Rd_isAlone x1 x2 G) := by
  unfold Rd_isAlone
  exact frBd (fr_Rd_isSign _ _) (fS_mono rfl rfl) fq_rf (fun _ G2 hG2 => frIf (frCB (frS hG2)) (frBd (fr_Rd_look _ _) (fS_mono rfl rfl) hG2 (fun _ G4 hG4 => frCB (frS hG4))))
theorem fr_Rd_sign_b36 (s0 : Int) (G : St) : Fr (fS [] [(130, 0), (130, 1), (150, 2)]) G (fun q => q.2) (Rd_sign_b36 s0 G) := by
  unfold Rd_sign_b36
  exact frIf (frBd (fr_Rd_bad _) (fS_mono rfl rfl) fq_rf (fun _ G8 hG8 => frS hG8)) (frCI (frTk (fq_upK rfl fq_rf) (fun G9 hG9 => frS hG9)))
theorem fr_Rd_sign (x1 : Int) (G : St) : Fr (fS [] [(130, 0), (130, 1), (150, 2)]) G (fun q => q.2) (Rd_sign x1 G) := by
  unfold Rd_sign
  exact frBd (fr_Rd_skip _) (fS_mono rfl rfl) fq_rf (fun _ G2 hG2 => frBd (fr_Ft_is _) (fS_mono rfl rfl) hG2 (fun _ G4 hG4 => frIf (frIf (frBd (fr_Rd_isAlone _ _ _) (fS_mono rfl rfl) hG4 (fun _ G11 hG11 => frT (fr_Rd_sign_b36 _ _) (fS_mono rfl rfl) hG11)) (frBd (fr_Rd_isSign _ _) (fS_mono rfl rfl) hG4 (fun _ G6 hG6 => frT (fr_Rd_sign_b36 _ _) (fS_mono rfl rfl) hG6))) (frS hG4)))
theorem fr_Rd_is (x1 : Int) (x2 : Int) (x3 : Int) (G : St) : Fr (fS [] [(150, 13), (150, 14), (150, 15)]) G (fun q => q.2) (Rd_is x1 x2 x3 G) := by
  unfold Rd_is
  exact frTk (fq_upK rfl fq_rf) (fun G1 hG1 => frTk (fq_upK rfl hG1) (fun G2 hG2 => frTk (fq_upK rfl hG2) (fun G3 hG3 => frS hG3)))
theorem fr_Rd_findOperator_b250 (x2 : Int) (G : St) : Fr (fS [] [(150, 13), (150, 14), (150, 15)]) G (fun q => q.2) (Rd_findOperator_b250 x2 G) := by
  unfold Rd_findOperator_b250
  exact frIf (frBd (fr_Rd_is _ _ _ _) (fS_mono rfl rfl) fq_rf (fun _ G10 hG10 => frS hG10)) (frS fq_rf)
theorem fr_Rd_findOperator_b448 (G : St) : Fr (fS [] [(150, 13), (150, 14), (150, 15)]) G (fun q => q.2) (Rd_findOperator_b448 G) := by
  unfold Rd_findOperator_b448
  exact frBd (fr_Rd_is _ _ _ _) (fS_mono rfl rfl) fq_rf (fun _ G12 hG12 => frS hG12)
theorem fr_Rd_findOperator_b214 (s0 : Int) (s1 : Int) (s2 : Int) (G : St) : Fr (fS [] [(150, 13), (150, 14), (150, 15)]) G (fun q => q.2) (Rd_findOperator_b214 s0 s1 s2 G) := by
  unfold Rd_findOperator_b214
  exact frBd (fr_Rd_is _ _ _ _) (fS_mono rfl rfl) fq_rf (fun _ G14 hG14 => frS hG14)
theorem fr_Rd_findOperator_b203 (x2 : Int) (s0 : Int) (s1 : Int) (G : St) : Fr (fS [] [(150, 13), (150, 14), (150, 15)]) G (fun q => q.2) (Rd_findOperator_b203 x2 s0 s1 G) := by
  unfold Rd_findOperator_b203
  exact frT (fr_Rd_findOperator_b214 _ _ _ _) (fS_mono rfl rfl) fq_rf
theorem fr_Rd_findOperator_b192 (x2 : Int) (s0 : Int) (G : St) : Fr (fS [] [(150, 13), (150, 14), (150, 15)]) G (fun q => q.2) (Rd_findOperator_b192 x2 s0 G) := by
  unfold Rd_findOperator_b192
  exact frT (fr_Rd_findOperator_b203 _ _ _ _) (fS_mono rfl rfl) fq_rf
theorem fr_Rd_findOperator_b176 (x2 : Int) (G : St) : Fr (fS [] [(150, 13), (150, 14), (150, 15)]) G (fun q => q.2) (Rd_findOperator_b176 x2 G) := by
  unfold Rd_findOperator_b176
  exact frT (fr_Rd_findOperator_b192 _ _ _) (fS_mono rfl rfl) fq_rf
theorem fr_Rd_findOperator_b422 (G : St) : Fr (fS [] [(150, 13), (150, 14), (150, 15)]) G (fun q => q.2) (Rd_findOperator_b422 G) := by
  unfold Rd_findOperator_b422
  exact frBd (fr_Rd_is _ _ _ _) (fS_mono rfl rfl) fq_rf (fun _ G16 hG16 => frS hG16)
theorem fr_Rd_findOperator_b396 (G : St) : Fr (fS [] [(150, 13), (150, 14), (150, 15)]) G (fun q => q.2) (Rd_findOperator_b396 G) := by
  unfold Rd_findOperator_b396
  exact frBd (fr_Rd_is _ _ _ _) (fS_mono rfl rfl) fq_rf (fun _ G18 hG18 => frS hG18)
theorem fr_Rd_findOperator_b409 (G : St) : Fr (fS [] [(150, 13), (150, 14), (150, 15)]) G (fun q => q.2) (Rd_findOperator_b409 G) := by
  unfold Rd_findOperator_b409
  exact frBd (fr_Rd_is _ _ _ _) (fS_mono rfl rfl) fq_rf (fun _ G20 hG20 => frS hG20)
theorem fr_Rd_findOperator_b435 (G : St) : Fr (fS [] [(150, 13), (150, 14), (150, 15)]) G (fun q => q.2) (Rd_findOperator_b435 G) := by
  unfold Rd_findOperator_b435
  exact frBd (fr_Rd_is _ _ _ _) (fS_mono rfl rfl) fq_rf (fun _ G22 hG22 => frS hG22)
theorem fr_Rd_findOperator_b326 (s0 : Int) (s1 : Int) (s2 : Int) (G : St) : Fr (fS [] [(150, 13), (150, 14), (150, 15)]) G (fun q => q.2) (Rd_findOperator_b326 s0 s1 s2 G) := by
  unfold Rd_findOperator_b326
  exact frBd (fr_Rd_is _ _ _ _) (fS_mono rfl rfl) fq_rf (fun _ G24 hG24 => frS hG24)
theorem fr_Rd_findOperator_b313 (x2 : Int) (s0 : Int) (s1 : Int) (G : St) : Fr (fS [] [(150, 13), (150, 14), (150, 15)]) G (fun q => q.2) (Rd_findOperator_b313 x2 s0 s1 G) := by
  unfold Rd_findOperator_b313
  exact frT (fr_Rd_findOperator_b326 _ _ _ _) (fS_mono rfl rfl) fq_rf
theorem fr_Rd_findOperator_b296 (x2 : Int) (s0 : Int) (G : St) : Fr (fS [] [(150, 13), (150, 14), (150, 15)]) G (fun q => q.2) (Rd_findOperator_b296 x2 s0 G) := by
  unfold Rd_findOperator_b296
  exact frT (fr_Rd_findOperator_b313 _ _ _ _) (fS_mono rfl rfl) fq_rf
theorem fr_Rd_findOperator_b268 (x2 : Int) (G : St) : Fr (fS [] [(150, 13), (150, 14), (150, 15)]) G (fun q => q.2) (Rd_findOperator_b268 x2 G) := by
  unfold Rd_findOperator_b268
  exact frT (fr_Rd_findOperator_b296 _ _ _) (fS_mono rfl rfl) fq_rf
theorem fr_Rd_findOperator_b232 (x2 : Int) (G : St) : Fr (fS [] [(150, 13), (150, 14), (150, 15)]) G (fun q => q.2) (Rd_findOperator_b232 x2 G) := by
  unfold Rd_findOperator_b232
  exact frIf (frBd (fr_Rd_is _ _ _ _) (fS_mono rfl rfl) fq_rf (fun _ G26 hG26 => frS hG26)) (frS fq_rf)
theorem fr_Rd_findOperator_b390 (s0 : Int) (s1 : Int) (s2 : Int) (G : St) : Fr (fS [] [(150, 13), (150, 14), (150, 15)]) G (fun q => q.2) (Rd_findOperator_b390 s0 s1 s2 G) := by
  unfold Rd_findOperator_b390
  exact frBd (fr_Rd_is _ _ _ _) (fS_mono rfl rfl) fq_rf (fun _ G28 hG28 => frS hG28)
theorem fr_Rd_findOperator_b377 (x2 : Int) (s0 : Int) (s1 : Int) (G : St) : Fr (fS [] [(150, 13), (150, 14), (150, 15)]) G (fun q => q.2) (Rd_findOperator_b377 x2 s0 s1 G) := by
  unfold Rd_findOperator_b377
  exact frT (fr_Rd_findOperator_b390 _ _ _ _) (fS_mono rfl rfl) fq_rf
theorem fr_Rd_findOperator_b360 (x2 : Int) (s0 : Int) (G : St) : Fr (fS [] [(150, 13), (150, 14), (150, 15)]) G (fun q => q.2) (Rd_findOperator_b360 x2 s0 G) := by
  unfold Rd_findOperator_b360
  exact frT (fr_Rd_findOperator_b377 _ _ _ _) (fS_mono rfl rfl) fq_rf
theorem fr_Rd_findOperator_b332 (x2 : Int) (G : St) : Fr (fS [] [(150, 13), (150, 14), (150, 15)]) G (fun q => q.2) (Rd_findOperator_b332 x2 G) := by
  unfold Rd_findOperator_b332
  exact frT (fr_Rd_findOperator_b360 _ _ _) (fS_mono rfl rfl) fq_rf
theorem fr_Rd_findOperator_b220 (G : St) : Fr (fS [] [(150, 13), (150, 14), (150, 15)]) G (fun q => q.2) (Rd_findOperator_b220 G) := by
  unfold Rd_findOperator_b220
  exact frBd (fr_Rd_is _ _ _ _) (fS_mono rfl rfl) fq_rf (fun _ G30 hG30 => frS hG30)
theorem fr_Rd_findOperator_b170 (s0 : Int) (s1 : Int) (s2 : Int) (G : St) : Fr (fS [] [(150, 13), (150, 14), (150, 15)]) G (fun q => q.2) (Rd_findOperator_b170 s0 s1 s2 G) := by
  unfold Rd_findOperator_b170
  exact frBd (fr_Rd_is _ _ _ _) (fS_mono rfl rfl) fq_rf (fun _ G32 hG32 => frS hG32)
theorem fr_Rd_findOperator_b159 (x2 : Int) (s0 : Int) (s1 : Int) (G : St) : Fr (fS [] [(150, 13), (150, 14), (150, 15)]) G (fun q => q.2) (Rd_findOperator_b159 x2 s0 s1 G) := by
  unfold Rd_findOperator_b159
  exact frT (fr_Rd_findOperator_b170 _ _ _ _) (fS_mono rfl rfl) fq_rf
theorem fr_Rd_findOperator_b148 (x2 : Int) (s0 : Int) (G : St) : Fr (fS [] [(150, 13), (150, 14), (150, 15)]) G (fun q => q.2) (Rd_findOperator_b148 x2 s0 G) := by
  unfold Rd_findOperator_b148
  exact frT (fr_Rd_findOperator_b159 _ _ _ _) (fS_mono rfl rfl) fq_rf
theorem fr_Rd_findOperator_b132 (x2 : Int) (G : St) : Fr (fS [] [(150, 13), (150, 14), (150, 15)]) G (fun q => q.2) (Rd_findOperator_b132 x2 G) := by
  unfold Rd_findOperator_b132
  exact frT (fr_Rd_findOperator_b148 _ _ _) (fS_mono rfl rfl) fq_rf
theorem fr_Rd_findOperator (G : St) : Fr (fS [] [(150, 2), (150, 13), (150, 14), (150, 15)]) G (fun q => q.2) (Rd_findOperator G) := by
  unfold Rd_findOperator
  exact frBd (fr_Rd_skip _) (fS_mono rfl rfl) fq_rf (fun _ G2 hG2 => frBd (fr_Rd_is _ _ _ _) (fS_mono rfl rfl) hG2 (fun _ G4 hG4 => frBd (fr_Rd_look _ _) (fS_mono rfl rfl) hG4 (fun _ G6 hG6 => frBd (fr_Rd_look _ _) (fS_mono rfl rfl) hG6 (fun _ G8 hG8 => frSw (List.forall_mem_cons.mpr ⟨frT (fr_Rd_findOperator_b250 _ _) (fS_mono rfl rfl) hG8, (List.forall_mem_cons.mpr ⟨frT (fr_Rd_findOperator_b448 _) (fS_mono rfl rfl) hG8, (List.forall_mem_cons.mpr ⟨frT (fr_Rd_findOperator_b176 _ _) (fS_mono rfl rfl) hG8, (List.forall_mem_cons.mpr ⟨frT (fr_Rd_findOperator_b422 _) (fS_mono rfl rfl) hG8, (List.forall_mem_cons.mpr ⟨frT (fr_Rd_findOperator_b396 _) (fS_mono rfl rfl) hG8, (List.forall_mem_cons.mpr ⟨frT (fr_Rd_findOperator_b409 _) (fS_mono rfl rfl) hG8, (List.forall_mem_cons.mpr ⟨frT (fr_Rd_findOperator_b435 _) (fS_mono rfl rfl) hG8, (List.forall_mem_cons.mpr ⟨frT (fr_Rd_findOperator_b268 _ _) (fS_mono rfl rfl) hG8, (List.forall_mem_cons.mpr ⟨frT (fr_Rd_findOperator_b232 _ _) (fS_mono rfl rfl) hG8, (List.forall_mem_cons.mpr ⟨frT (fr_Rd_findOperator_b332 _ _) (fS_mono rfl rfl) hG8, (List.forall_mem_cons.mpr ⟨frT (fr_Rd_findOperator_b220 _) (fS_mono rfl rfl) hG8, (List.forall_mem_cons.mpr ⟨frT (fr_Rd_findOperator_b132 _ _) (fS_mono rfl rfl) hG8, (fun _ h => nomatch h)⟩)⟩)⟩)⟩)⟩)⟩)⟩)⟩)⟩)⟩)⟩)⟩) (frS hG8)))))
theorem fr_Rd_isDigit (x0 : Int) (G : St) : Fr (fS [] []) G (fun q => q.2) (Rd_isDigit x0 G) := by
  unfold Rd_isDigit
  exact frCB (frS fq_rf)
theorem fr_Rd_isLetter_b12 (x0 : Int) (G : St) : Fr (fS [] []) G (fun q => q.2) (Rd_isLetter_b12 x0 G) := by
  unfold Rd_isLetter_b12
  exact frCB (frS fq_rf)
theorem fr_Rd_isLetter (x0 : Int) (G : St) : Fr (fS [] []) G (fun q => q.2) (Rd_isLetter x0 G) := by
  unfold Rd_isLetter
  exact frIf (frT (fr_Rd_isLetter_b12 _ _) (fS_mono rfl rfl) fq_rf) (frCB (frS fq_rf))
theorem fr_Rd_wordEnd_b63 (x1 : Int) (G : St) : Fr (fS [] []) G (fun q => q.2) (Rd_wordEnd_b63 x1 G) := by
  unfold Rd_wordEnd_b63
  exact frS fq_rf
theorem fr_Rd_wordEnd_b57 (x1 : Int) (G : St) : Fr (fS [] []) G (Sum.elim (fun q => q.2) (fun q => q.2)) (Rd_wordEnd_b57 x1 G) := by
  unfold Rd_wordEnd_b57
  exact frCI (frS fq_rf)
theorem fr_Rd_wordEnd_s25 (x1 : Int) (G : St) : Fr (fS [] []) G (Sum.elim (fun q => q.2) (fun q => q.2)) (Rd_wordEnd_s25 x1 G) := by
  unfold Rd_wordEnd_s25
  exact frIf (frCB (frBd (fr_Rd_isLetter _ _) (fS_mono rfl rfl) fq_rf (fun _ G4 hG4 => frIf (frCB (frBd (fr_Rd_isDigit _ _) (fS_mono rfl rfl) hG4 (fun _ G6 hG6 => frIf (frEx (frT (fr_Rd_wordEnd_b63 _ _) (fS_mono rfl rfl) hG6)) (frT (fr_Rd_wordEnd_b57 _ _) (fS_mono rfl rfl) hG6)))) (frT (fr_Rd_wordEnd_b57 _ _) (fS_mono rfl rfl) hG4)))) (frEx (frT (fr_Rd_wordEnd_b63 _ _) (fS_mono rfl rfl) fq_rf))
theorem fr_Rd_wordEnd_l25 (x1 : Int) (G : St) : Fr (fS [] []) G (fun q => q.2) (Rd_wordEnd_l25 x1 G) := frWh (pi := fun (s : (Int × St)) => s.2) (fun (s : (Int × St)) => fr_Rd_wordEnd_s25 s.1 s.2)
theorem fr_Rd_wordEnd (G : St) : Fr (fS [] []) G (fun q => q.2) (Rd_wordEnd G) := by
  unfold Rd_wordEnd
  exact frIf (frCB (frBd (fr_Rd_isLetter _ _) (fS_mono rfl rfl) fq_rf (fun _ G2 hG2 => frIf (frT (fr_Rd_wordEnd_b63 _ _) (fS_mono rfl rfl) hG2) (frT (fr_Rd_wordEnd_l25 _ _) (fS_mono rfl rfl) hG2)))) (frT (fr_Rd_wordEnd_b63 _ _) (fS_mono rfl rfl) fq_rf)
theorem fr_Rd_isWord_s22 (x1 : Int) (x2 : Int) (x3 : Int) (G : St) : Fr (fS [] []) G (Sum.elim (fun q => q.2) (fun q => q.2)) (Rd_isWord_s22 x1 x2 x3 G) := by
  unfold Rd_isWord_s22
  exact frIf (frCI (frCB (frBd (S' := fS [] []) (frCB (frCB (frS fq_rf))) (fS_mono rfl rfl) fq_rf (fun _ G6 hG6 => frIf (frCI (frS hG6)) (frEx (frCB (frS hG6))))))) (frEx (frCB (frS fq_rf)))
theorem fr_Rd_isWord_l22 (x1 : Int) (x2 : Int) (x3 : Int) (G : St) : Fr (fS [] []) G (fun q => q.2) (Rd_isWord_l22 x1 x2 x3 G) := frWh (pi := fun (s : (Int × St)) => s.2) (fun (s : (Int × St)) => fr_Rd_isWord_s22 x1 x2 s.1 s.2)
theorem fr_Rd_isWord (x1 : Int) (G : St) : Fr (fS [] []) G (fun q => q.2) (Rd_isWord x1 G) := by
  unfold Rd_isWord
  exact frBd (S' := fS [] []) (frCB (frS fq_rf)) (fS_mono rfl rfl) fq_rf (fun _ G2 hG2 => frBd (fr_Rd_wordEnd _) (fS_mono rfl rfl) hG2 (fun _ G4 hG4 => frCI (frIf (frT (fr_Rd_isWord_l22 _ _ _ _) (fS_mono rfl rfl) hG4) (frCB (frS hG4)))))
theorem fr_Rd_number_b130 (x5 : Int) (x7 : Int) (G : St) : Fr (fS [] [(150, 2)]) G (fun q => q.2) (Rd_number_b130 x5 x7 G) := by
  unfold Rd_number_b130
  exact frCI (frTk (fq_upK rfl fq_rf) (fun G16 hG16 => frS hG16))
theorem fr_Rd_number_b118 (x5 : Int) (x7 : Int) (G : St) : Fr (fS [] [(130, 0), (130, 1), (150, 2)]) G (fun q => q.2) (Rd_number_b118 x5 x7 G) := by
  unfold Rd_number_b118
  exact frBd (fr_Ft_set _ _ _) (fS_mono rfl rfl) fq_rf (fun _ G15 hG15 => frT (fr_Rd_number_b130 _ _ _) (fS_mono rfl rfl) hG15)
theorem fr_Rd_number_b89 (x1 : Int) (x3 : Int) (x7 : Int) (s0 : Int) (G : St) : Fr (fS [] []) G (Sum.elim (fun q => q.2.2) (fun q => q.2)) (Rd_number_b89 x1 x3 x7 s0 G) := by
  unfold Rd_number_b89
  exact frCI (frS fq_rf)
theorem fr_Rd_number_s47 (x1 : Int) (x3 : Int) (x5 : Int) (x7 : Int) (G : St) : Fr (fS [] [(130, 0), (130, 1), (150, 2)]) G (Sum.elim (fun q => q.2.2) (fun q => q.2)) (Rd_number_s47 x1 x3 x5 x7 G) := by
  unfold Rd_number_s47
  exact frBd (fr_Rd_look _ _) (fS_mono rfl rfl) fq_rf (fun _ G11 hG11 => frBd (fr_Rd_isDigit _ _) (fS_mono rfl rfl) hG11 (fun _ G13 hG13 => frIf (frEx (frIf (frT (fr_Rd_number_b118 _ _ _) (fS_mono rfl rfl) hG13) (frIf (frT (fr_Rd_number_b118 _ _ _) (fS_mono rfl rfl) hG13) (frIf (frT (fr_Rd_number_b118 _ _ _) (fS_mono rfl rfl) hG13) (frT (fr_Rd_number_b130 _ _ _) (fS_mono rfl rfl) hG13))))) (frIf (frCL (frBd (fr_Rd_look _ _) (fS_mono rfl rfl) hG13 (fun _ G18 hG18 => frCL (frCL (frT (fr_Rd_number_b89 _ _ _ _ _) (fS_mono rfl rfl) hG18))))) (frT (fr_Rd_number_b89 _ _ _ _ _) (fS_mono rfl rfl) hG13))))
theorem fr_Rd_number_l47 (x1 : Int) (x3 : Int) (x5 : Int) (x7 : Int) (G : St) : Fr (fS [] [(130, 0), (130, 1), (150, 2)]) G (fun q => q.2) (Rd_number_l47 x1 x3 x5 x7 G) := frWh (pi := fun (s : (Int × Int × St)) => s.2.2) (fun (s : (Int × Int × St)) => fr_Rd_number_s47 x1 x3 s.1 s.2.1 s.2.2)
theorem fr_Rd_number (x1 : Int) (x3 : Int) (G : St) : Fr (fS [] [(130, 0), (130, 1), (150, 2), (150, 10)]) G (fun q => q.2) (Rd_number x1 x3 G) := by
  unfold Rd_number
  exact frBd (fr_Rd_skip _) (fS_mono rfl rfl) fq_rf (fun _ G2 hG2 => frBd (fr_Ft_is _) (fS_mono rfl rfl) hG2 (fun _ G4 hG4 => frIf (frTk (fq_upK rfl hG4) (fun G5 hG5 => frBd (fr_Rd_look _ _) (fS_mono rfl rfl) hG5 (fun _ G7 hG7 => frBd (fr_Rd_isDigit _ _) (fS_mono rfl rfl) hG7 (fun _ G9 hG9 => frIf (frBd (fr_Rd_bad _) (fS_mono rfl rfl) hG9 (fun _ G20 hG20 => frS hG20)) (frT (fr_Rd_number_l47 _ _ _ _ _) (fS_mono rfl rfl) hG9))))) (frS hG4)))
theorem fr_Nm_is_s16 (x1 : Int) (x3 : Int) (x4 : Int) (x5 : Int) (G : St) : Fr (fS [] []) G (Sum.elim (fun q => q.2) (fun q => q.2)) (Nm_is_s16 x1 x3 x4 x5 G) := by
  unfold Nm_is_s16
  exact frIf (frCB (frCI (frCB (frCI (frCB (frIf (frCI (frS fq_rf)) (frEx (frCB (frS fq_rf))))))))) (frEx (frCB (frS fq_rf)))
theorem fr_Nm_is_l16 (x1 : Int) (x3 : Int) (x4 : Int) (x5 : Int) (G : St) : Fr (fS [] []) G (fun q => q.2) (Nm_is_l16 x1 x3 x4 x5 G) := frWh (pi := fun (s : (Int × St)) => s.2) (fun (s : (Int × St)) => fr_Nm_is_s16 x1 x3 x4 s.1 s.2)
theorem fr_Nm_is (x1 : Int) (x3 : Int) (x4 : Int) (G : St) : Fr (fS [] []) G (fun q => q.2) (Nm_is x1 x3 x4 G) := by
  unfold Nm_is
  exact frCB (frIf (frT (fr_Nm_is_l16 _ _ _ _ _) (fS_mono rfl rfl) fq_rf) (frCB (frS fq_rf)))
theorem fr_Nm_number_s3 (x2 : Int) (x3 : Int) (x4 : Int) (G : St) : Fr (fS [121, 122, 123] [(120, 3), (120, 4)]) G (Sum.elim (fun q => q.2) (fun q => q.2)) (Nm_number_s3 x2 x3 x4 G) := by
  unfold Nm_number_s3
  exact frIf (frBd (fr_Nm_is _ _ _ _) (fS_mono rfl rfl) fq_rf (fun _ G7 hG7 => frIf (frCI (frS hG7)) (frEx (frS hG7)))) (frEx (frCB (frTk (fq_upL rfl fq_rf) (fun G1 hG1 => frCB (frTk (fq_upL rfl hG1) (fun G2 hG2 => frCA (frCA (frTk (fq_acp rfl hG2) (fun G3 hG3 => frCI (frTk (fq_upK rfl hG3) (fun G4 hG4 => frCI (frTk (fq_upK rfl hG4) (fun G5 hG5 => frCI (frS hG5))))))))))))))
theorem fr_Nm_number_l3 (x2 : Int) (x3 : Int) (x4 : Int) (G : St) : Fr (fS [121, 122, 123] [(120, 3), (120, 4)]) G (fun q => q.2) (Nm_number_l3 x2 x3 x4 G) := frWh (pi := fun (s : (Int × St)) => s.2) (fun (s : (Int × St)) => fr_Nm_number_s3 x2 x3 s.1 s.2)
theorem fr_Nm_number (x2 : Int) (x3 : Int) (G : St) : Fr (fS [121, 122, 123] [(120, 3), (120, 4)]) G (fun q => q.2) (Nm_number x2 x3 G) := by
  unfold Nm_number
  exact frT (fr_Nm_number_l3 _ _ _ _) (fS_mono rfl rfl) fq_rf
theorem fr_Rd_isKeyword (G : St) : Fr (fS [] []) G (fun q => q.2) (Rd_isKeyword G) := by
  unfold Rd_isKeyword
  exact frBd (fr_Rd_isWord _ _) (fS_mono rfl rfl) fq_rf (fun _ G2 hG2 => frIf (frBd (fr_Rd_isWord _ _) (fS_mono rfl rfl) hG2 (fun _ G4 hG4 => frIf (frBd (fr_Rd_isWord _ _) (fS_mono rfl rfl) hG4 (fun _ G6 hG6 => frIf (frBd (fr_Rd_isWord _ _) (fS_mono rfl rfl) hG6 (fun _ G8 hG8 => frIf (frBd (fr_Rd_isWord _ _) (fS_mono rfl rfl) hG8 (fun _ G10 hG10 => frIf (frBd (fr_Rd_isWord _ _) (fS_mono rfl rfl) hG10 (fun _ G12 hG12 => frIf (frBd (fr_Rd_isWord _ _) (fS_mono rfl rfl) hG12 (fun _ G14 hG14 => frIf (frBd (fr_Rd_isWord _ _) (fS_mono rfl rfl) hG14 (fun _ G16 hG16 => frIf (frBd (fr_Rd_isWord _ _) (fS_mono rfl rfl) hG16 (fun _ G18 hG18 => frIf (frBd (fr_Rd_isWord _ _) (fS_mono rfl rfl) hG18 (fun _ G20 hG20 => frIf (frBd (fr_Rd_isWord _ _) (fS_mono rfl rfl) hG20 (fun _ G22 hG22 => frIf (frBd (fr_Rd_isWord _ _) (fS_mono rfl rfl) hG22 (fun _ G24 hG24 => frIf (frBd (fr_Rd_isWord _ _) (fS_mono rfl rfl) hG24 (fun _ G26 hG26 => frCB (frS hG26))) (frCB (frS hG24)))) (frCB (frS hG22)))) (frCB (frS hG20)))) (frCB (frS hG18)))) (frCB (frS hG16)))) (frCB (frS hG14)))) (frCB (frS hG12)))) (frCB (frS hG10)))) (frCB (frS hG8)))) (frCB (frS hG6)))) (frCB (frS hG4)))) (frCB (frS hG2)))
theorem fr_Rd_name_b74 (x1 : Int) (G : St) : Fr (fS [121, 122, 123] [(120, 3), (120, 4), (150, 2)]) G (fun q => q.2) (Rd_name_b74 x1 G) := by
  unfold Rd_name_b74
  exact frBd (fr_Ft_is _) (fS_mono rfl rfl) fq_rf (fun _ G11 hG11 => frIf (frCI (frBd (fr_Nm_number _ _ _) (fS_mono rfl rfl) hG11 (fun _ G13 hG13 => frTk (fq_upK rfl hG13) (fun G14 hG14 => frS hG14)))) (frS hG11))
theorem fr_Rd_name_b44 (x1 : Int) (G : St) : Fr (fS [121, 122, 123] [(120, 3), (120, 4), (130, 0), (130, 1), (150, 2)]) G (fun q => q.2) (Rd_name_b44 x1 G) := by
  unfold Rd_name_b44
  exact frBd (fr_Rd_bad _) (fS_mono rfl rfl) fq_rf (fun _ G9 hG9 => frT (fr_Rd_name_b74 _ _) (fS_mono rfl rfl) hG9)
theorem fr_Rd_name (G : St) : Fr (fS [121, 122, 123] [(120, 3), (120, 4), (130, 0), (130, 1), (150, 2), (150, 10)]) G (fun q => q.2) (Rd_name G) := by
  unfold Rd_name
  exact frBd (fr_Rd_skip _) (fS_mono rfl rfl) fq_rf (fun _ G2 hG2 => frBd (fr_Ft_is _) (fS_mono rfl rfl) hG2 (fun _ G4 hG4 => frIf (frBd (fr_Rd_wordEnd _) (fS_mono rfl rfl) hG4 (fun _ G6 hG6 => frTk (fq_upK rfl hG6) (fun G7 hG7 => frIf (frT (fr_Rd_name_b44 _ _) (fS_mono rfl rfl) hG7) (frBd (fr_Rd_isKeyword _) (fS_mono rfl rfl) hG7 (fun _ G16 hG16 => frIf (frCI (frIf (frBd (fr_Ft_set _ _ _) (fS_mono rfl rfl) hG16 (fun _ G18 hG18 => frT (fr_Rd_name_b74 _ _) (fS_mono rfl rfl) hG18)) (frT (fr_Rd_name_b74 _ _) (fS_mono rfl rfl) hG16))) (frT (fr_Rd_name_b44 _ _) (fS_mono rfl rfl) hG16)))))) (frS hG4)))
theorem fr_Rd_expr (Rf : Nat → List Int → St → Option (Int × St)) (hRf : ∀ (i : Nat) (a : List Int) (G : St), Fr (fS [111, 112, 113, 114, 121, 122, 123] [(110, 4), (120, 3), (120, 4), (130, 0), (130, 1), (150, 2), (150, 3), (150, 10), (150, 13), (150, 14), (150, 15)]) G (fun q => q.2) (Rf i a G)) (G : St) : Fr (fS [111, 112, 113, 114, 121, 122, 123] [(110, 4), (120, 3), (120, 4), (130, 0), (130, 1), (150, 2), (150, 3), (150, 10), (150, 13), (150, 14), (150, 15)]) G (fun q => q.2) (Rd_expr Rf G) := by
  unfold Rd_expr
  exact frBd (fr_Ft_is _) (fS_mono rfl rfl) fq_rf (fun _ G2 hG2 => frIf (frBd (hRf _ _ _) (fun _ _ h => h) hG2 (fun _ G4 hG4 => frBd (fr_Ft_is _) (fS_mono rfl rfl) hG4 (fun _ G6 hG6 => frIf (frBd (fr_Rd_isSign _ _) (fS_mono rfl rfl) hG6 (fun _ G8 hG8 => frIf (frS hG8) (frBd (fr_Rd_enter _ _) (fS_mono rfl rfl) hG8 (fun _ G10 hG10 => frCI (frTk (fq_upK rfl hG10) (fun G11 hG11 => frBd (hRf _ _ _) (fun _ _ h => h) hG11 (fun _ G13 hG13 => frBd (fr_Rd_sign _ _) (fS_mono rfl rfl) hG13 (fun _ G15 hG15 => frBd (hRf _ _ _) (fun _ _ h => h) hG15 (fun _ G17 hG17 => frCI (frTk (fq_upK rfl hG17) (fun G18 hG18 => frBd (fr_Cd_add _ _ _ _ _) (fS_mono rfl rfl) hG18 (fun _ G20 hG20 => frS hG20)))))))))))) (frS hG6)))) (frS hG2))
theorem fr_Rd_row_b88 (Rf : Nat → List Int → St → Option (Int × St)) (hRf : ∀ (i : Nat) (a : List Int) (G : St), Fr (fS [111, 112, 113, 114, 121, 122, 123] [(110, 4), (120, 3), (120, 4), (130, 0), (130, 1), (150, 2), (150, 3), (150, 10), (150, 13), (150, 14), (150, 15)]) G (fun q => q.2) (Rf i a G)) (x1 : Int) (x2 : Int) (x3 : Int) (G : St) : Fr (fS [111, 112, 113, 114, 121, 122, 123] [(110, 4), (120, 3), (120, 4), (130, 0), (130, 1), (150, 2), (150, 3), (150, 10), (150, 13), (150, 14), (150, 15)]) G (Sum.elim (fun q => q) (fun q => q.2)) (Rd_row_b88 Rf x1 x2 x3 G) := by
  unfold Rd_row_b88
  exact frBd (fr_Cd_add _ _ _ _ _) (fS_mono rfl rfl) fq_rf (fun _ G13 hG13 => frBd (fr_Ft_is _) (fS_mono rfl rfl) hG13 (fun _ G15 hG15 => frIf (frBd (fr_Rd_findOperator _) (fS_mono rfl rfl) hG15 (fun _ G17 hG17 => frS hG17)) (frS hG15)))
theorem fr_Rd_row_s19 (Rf : Nat → List Int → St → Option (Int × St)) (hRf : ∀ (i : Nat) (a : List Int) (G : St), Fr (fS [111, 112, 113, 114, 121, 122, 123] [(110, 4), (120, 3), (120, 4), (130, 0), (130, 1), (150, 2), (150, 3), (150, 10), (150, 13), (150, 14), (150, 15)]) G (fun q => q.2) (Rf i a G)) (x1 : Int) (G : St) : Fr (fS [111, 112, 113, 114, 121, 122, 123] [(110, 4), (120, 3), (120, 4), (130, 0), (130, 1), (150, 2), (150, 3), (150, 10), (150, 13), (150, 14), (150, 15)]) G (Sum.elim (fun q => q) (fun q => q.2)) (Rd_row_s19 Rf x1 G) := by
  unfold Rd_row_s19
  exact frBd (fr_Ft_is _) (fS_mono rfl rfl) fq_rf (fun _ G8 hG8 => frIf (frIf (frEx (frS hG8)) (frCI (frCI (frTk (fq_upK rfl hG8) (fun G9 hG9 => frIf (frBd (hRf _ _ _) (fun _ _ h => h) hG9 (fun _ G19 hG19 => frT (fr_Rd_row_b88 _ hRf _ _ _ _) (fS_mono rfl rfl) hG19)) (frBd (hRf _ _ _) (fun _ _ h => h) hG9 (fun _ G11 hG11 => frT (fr_Rd_row_b88 _ hRf _ _ _ _) (fS_mono rfl rfl) hG11))))))) (frEx (frS hG8)))
theorem fr_Rd_row_l19 (Rf : Nat → List Int → St → Option (Int × St)) (hRf : ∀ (i : Nat) (a : List Int) (G : St), Fr (fS [111, 112, 113, 114, 121, 122, 123] [(110, 4), (120, 3), (120, 4), (130, 0), (130, 1), (150, 2), (150, 3), (150, 10), (150, 13), (150, 14), (150, 15)]) G (fun q => q.2) (Rf i a G)) (x1 : Int) (G : St) : Fr (fS [111, 112, 113, 114, 121, 122, 123] [(110, 4), (120, 3), (120, 4), (130, 0), (130, 1), (150, 2), (150, 3), (150, 10), (150, 13), (150, 14), (150, 15)]) G (fun q => q.2) (Rd_row_l19 Rf x1 G) := frWh (pi := fun (s : (St)) => s) (fun (s : (St)) => fr_Rd_row_s19 Rf hRf x1 s)
theorem fr_Rd_row (Rf : Nat → List Int → St → Option (Int × St)) (hRf : ∀ (i : Nat) (a : List Int) (G : St), Fr (fS [111, 112, 113, 114, 121, 122, 123] [(110, 4), (120, 3), (120, 4), (130, 0), (130, 1), (150, 2), (150, 3), (150, 10), (150, 13), (150, 14), (150, 15)]) G (fun q => q.2) (Rf i a G)) (x1 : Int) (G : St) : Fr (fS [111, 112, 113, 114, 121, 122, 123] [(110, 4), (120, 3), (120, 4), (130, 0), (130, 1), (150, 2), (150, 3), (150, 10), (150, 13), (150, 14), (150, 15)]) G (fun q => q.2) (Rd_row Rf x1 G) := by
  unfold Rd_row
  exact frBd (hRf _ _ _) (fun _ _ h => h) fq_rf (fun _ G2 hG2 => frBd (fr_Ft_is _) (fS_mono rfl rfl) hG2 (fun _ G4 hG4 => frIf (frBd (fr_Rd_findOperator _) (fS_mono rfl rfl) hG4 (fun _ G6 hG6 => frT (fr_Rd_row_l19 _ hRf _ _) (fS_mono rfl rfl) hG6)) (frS hG4)))
theorem fr_Rd_factor_b114 (Rf : Nat → List Int → St → Option (Int × St)) (hRf : ∀ (i : Nat) (a : List Int) (G : St), Fr (fS [111, 112, 113, 114, 121, 122, 123] [(110, 4), (120, 3), (120, 4), (130, 0), (130, 1), (150, 2), (150, 3), (150, 10), (150, 13), (150, 14), (150, 15)]) G (fun q => q.2) (Rf i a G)) (x1 : Int) (s0 : Int) (G : St) : Fr (fS [111, 112, 113, 114, 121, 122, 123] [(110, 4), (120, 3), (120, 4), (130, 0), (130, 1), (150, 2), (150, 3), (150, 10), (150, 13), (150, 14), (150, 15)]) G (fun q => q.2) (Rd_factor_b114 Rf x1 s0 G) := by
  unfold Rd_factor_b114
  exact frBd (fr_Cd_add _ _ _ _ _) (fS_mono rfl rfl) fq_rf (fun _ G14 hG14 => frS hG14)
theorem fr_Rd_factor_b54 (Rf : Nat → List Int → St → Option (Int × St)) (hRf : ∀ (i : Nat) (a : List Int) (G : St), Fr (fS [111, 112, 113, 114, 121, 122, 123] [(110, 4), (120, 3), (120, 4), (130, 0), (130, 1), (150, 2), (150, 3), (150, 10), (150, 13), (150, 14), (150, 15)]) G (fun q => q.2) (Rf i a G)) (x1 : Int) (x2 : Int) (G : St) : Fr (fS [111, 112, 113, 114, 121, 122, 123] [(110, 4), (120, 3), (120, 4), (130, 0), (130, 1), (150, 2), (150, 3), (150, 10), (150, 13), (150, 14), (150, 15)]) G (fun q => q.2) (Rd_factor_b54 Rf x1 x2 G) := by
  unfold Rd_factor_b54
  exact frBd (fr_Rd_enter _ _) (fS_mono rfl rfl) fq_rf (fun _ G8 hG8 => frCI (frTk (fq_upK rfl hG8) (fun G9 hG9 => frBd (hRf _ _ _) (fun _ _ h => h) hG9 (fun _ G11 hG11 => frCI (frTk (fq_upK rfl hG11) (fun G12 hG12 => frT (fr_Rd_factor_b114 _ hRf _ _ _) (fS_mono rfl rfl) hG12))))))
theorem fr_Rd_factor_b239 (Rf : Nat → List Int → St → Option (Int × St)) (hRf : ∀ (i : Nat) (a : List Int) (G : St), Fr (fS [111, 112, 113, 114, 121, 122, 123] [(110, 4), (120, 3), (120, 4), (130, 0), (130, 1), (150, 2), (150, 3), (150, 10), (150, 13), (150, 14), (150, 15)]) G (fun q => q.2) (Rf i a G)) (x1 : Int) (s0 : Int) (G : St) : Fr (fS [111, 112, 113, 114, 121, 122, 123] [(110, 4), (120, 3), (120, 4), (130, 0), (130, 1), (150, 2), (150, 3), (150, 10), (150, 13), (150, 14), (150, 15)]) G (fun q => q.2) (Rd_factor_b239 Rf x1 s0 G) := by
  unfold Rd_factor_b239
  exact frBd (fr_Cd_add _ _ _ _ _) (fS_mono rfl rfl) fq_rf (fun _ G22 hG22 => frBd (fr_Rd_wordEnd _) (fS_mono rfl rfl) hG22 (fun _ G24 hG24 => frTk (fq_upK rfl hG24) (fun G25 hG25 => frS hG25)))
theorem fr_Rd_factor_b217 (Rf : Nat → List Int → St → Option (Int × St)) (hRf : ∀ (i : Nat) (a : List Int) (G : St), Fr (fS [111, 112, 113, 114, 121, 122, 123] [(110, 4), (120, 3), (120, 4), (130, 0), (130, 1), (150, 2), (150, 3), (150, 10), (150, 13), (150, 14), (150, 15)]) G (fun q => q.2) (Rf i a G)) (x1 : Int) (G : St) : Fr (fS [111, 112, 113, 114, 121, 122, 123] [(110, 4), (120, 3), (120, 4), (130, 0), (130, 1), (150, 2), (150, 3), (150, 10), (150, 13), (150, 14), (150, 15)]) G (fun q => q.2) (Rd_factor_b217 Rf x1 G) := by
  unfold Rd_factor_b217
  exact frBd (fr_Rd_isWord _ _) (fS_mono rfl rfl) fq_rf (fun _ G20 hG20 => frT (fr_Rd_factor_b239 _ hRf _ _ _) (fS_mono rfl rfl) hG20)
theorem fr_Rd_factor_b124 (Rf : Nat → List Int → St → Option (Int × St)) (hRf : ∀ (i : Nat) (a : List Int) (G : St), Fr (fS [111, 112, 113, 114, 121, 122, 123] [(110, 4), (120, 3), (120, 4), (130, 0), (130, 1), (150, 2), (150, 3), (150, 10), (150, 13), (150, 14), (150, 15)]) G (fun q => q.2) (Rf i a G)) (x1 : Int) (x2 : Int) (G : St) : Fr (fS [111, 112, 113, 114, 121, 122, 123] [(110, 4), (120, 3), (120, 4), (130, 0), (130, 1), (150, 2), (150, 3), (150, 10), (150, 13), (150, 14), (150, 15)]) G (fun q => q.2) (Rd_factor_b124 Rf x1 x2 G) := by
  unfold Rd_factor_b124
  exact frIf (frBd (fr_Cd_add _ _ _ _ _) (fS_mono rfl rfl) fq_rf (fun _ G49 hG49 => frBd (hRf _ _ _) (fun _ _ h => h) hG49 (fun _ G51 hG51 => frBd (fr_Cd_add _ _ _ _ _) (fS_mono rfl rfl) hG51 (fun _ G53 hG53 => frS hG53)))) (frBd (fr_Rd_isDigit _ _) (fS_mono rfl rfl) fq_rf (fun _ G16 hG16 => frIf (frBd (fr_Rd_isWord _ _) (fS_mono rfl rfl) hG16 (fun _ G18 hG18 => frIf (frBd (fr_Rd_isWord _ _) (fS_mono rfl rfl) hG18 (fun _ G27 hG27 => frIf (frBd (fr_Rd_isWord _ _) (fS_mono rfl rfl) hG27 (fun _ G29 hG29 => frIf (frBd (fr_Rd_isWord _ _) (fS_mono rfl rfl) hG29 (fun _ G31 hG31 => frIf (frBd (hRf _ _ _) (fun _ _ h => h) hG31 (fun _ G33 hG33 => frS hG33)) (frCI (frTk (fq_upK rfl hG31) (fun G34 hG34 => frBd (hRf _ _ _) (fun _ _ h => h) hG34 (fun _ G36 hG36 => frS hG36)))))) (frCI (frTk (fq_upK rfl hG29) (fun G37 hG37 => frBd (fr_Cd_add _ _ _ _ _) (fS_mono rfl rfl) hG37 (fun _ G39 hG39 => frBd (hRf _ _ _) (fun _ _ h => h) hG39 (fun _ G41 hG41 => frBd (fr_Cd_add _ _ _ _ _) (fS_mono rfl rfl) hG41 (fun _ G43 hG43 => frS hG43)))))))) (frT (fr_Rd_factor_b217 _ hRf _ _) (fS_mono rfl rfl) hG27))) (frT (fr_Rd_factor_b217 _ hRf _ _) (fS_mono rfl rfl) hG18))) (frBd (fr_Rd_number _ _ _) (fS_mono rfl rfl) hG16 (fun _ G45 hG45 => frBd (fr_Cd_add _ _ _ _ _) (fS_mono rfl rfl) hG45 (fun _ G47 hG47 => frS hG47)))))
theorem fr_Rd_factor (Rf : Nat → List Int → St → Option (Int × St)) (hRf : ∀ (i : Nat) (a : List Int) (G : St), Fr (fS [111, 112, 113, 114, 121, 122, 123] [(110, 4), (120, 3), (120, 4), (130, 0), (130, 1), (150, 2), (150, 3), (150, 10), (150, 13), (150, 14), (150, 15)]) G (fun q => q.2) (Rf i a G)) (G : St) : Fr (fS [111, 112, 113, 114, 121, 122, 123] [(110, 4), (120, 3), (120, 4), (130, 0), (130, 1), (150, 2), (150, 3), (150, 10), (150, 13), (150, 14), (150, 15)]) G (fun q => q.2) (Rd_factor Rf G) := by
  unfold Rd_factor
  exact frBd (fr_Rd_skip _) (fS_mono rfl rfl) fq_rf (fun _ G2 hG2 => frBd (fr_Ft_is _) (fS_mono rfl rfl) hG2 (fun _ G4 hG4 => frIf (frBd (fr_Rd_look _ _) (fS_mono rfl rfl) hG4 (fun _ G6 hG6 => frIf (frT (fr_Rd_factor_b54 _ hRf _ _ _) (fS_mono rfl rfl) hG6) (frIf (frT (fr_Rd_factor_b54 _ hRf _ _ _) (fS_mono rfl rfl) hG6) (frIf (frBd (fr_Rd_look _ _) (fS_mono rfl rfl) hG6 (fun _ G55 hG55 => frIf (frT (fr_Rd_factor_b124 _ hRf _ _ _) (fS_mono rfl rfl) hG55) (frT (fr_Rd_factor_b54 _ hRf _ _ _) (fS_mono rfl rfl) hG55))) (frT (fr_Rd_factor_b124 _ hRf _ _ _) (fS_mono rfl rfl) hG6))))) (frS hG4)))
theorem fr_Rd_around (Rf : Nat → List Int → St → Option (Int × St)) (hRf : ∀ (i : Nat) (a : List Int) (G : St), Fr (fS [111, 112, 113, 114, 121, 122, 123] [(110, 4), (120, 3), (120, 4), (130, 0), (130, 1), (150, 2), (150, 3), (150, 10), (150, 13), (150, 14), (150, 15)]) G (fun q => q.2) (Rf i a G)) (G : St) : Fr (fS [111, 112, 113, 114, 121, 122, 123] [(110, 4), (120, 3), (120, 4), (130, 0), (130, 1), (150, 2), (150, 3), (150, 10), (150, 13), (150, 14), (150, 15)]) G (fun q => q.2) (Rd_around Rf G) := by
  unfold Rd_around
  exact frBd (fr_Rd_skip _) (fS_mono rfl rfl) fq_rf (fun _ G2 hG2 => frBd (fr_Ft_is _) (fS_mono rfl rfl) hG2 (fun _ G4 hG4 => frIf (frBd (fr_Rd_look _ _) (fS_mono rfl rfl) hG4 (fun _ G6 hG6 => frIf (frBd (fr_Rd_enter _ _) (fS_mono rfl rfl) hG6 (fun _ G8 hG8 => frCI (frTk (fq_upK rfl hG8) (fun G9 hG9 => frBd (hRf _ _ _) (fun _ _ h => h) hG9 (fun _ G11 hG11 => frBd (fr_Rd_sign _ _) (fS_mono rfl rfl) hG11 (fun _ G13 hG13 => frCI (frTk (fq_upK rfl hG13) (fun G14 hG14 => frS hG14)))))))) (frBd (fr_Rd_bad _) (fS_mono rfl rfl) hG6 (fun _ G16 hG16 => frS hG16)))) (frS hG4)))
theorem fr_Rd_bitOf (Rf : Nat → List Int → St → Option (Int × St)) (hRf : ∀ (i : Nat) (a : List Int) (G : St), Fr (fS [111, 112, 113, 114, 121, 122, 123] [(110, 4), (120, 3), (120, 4), (130, 0), (130, 1), (150, 2), (150, 3), (150, 10), (150, 13), (150, 14), (150, 15)]) G (fun q => q.2) (Rf i a G)) (x1 : Int) (G : St) : Fr (fS [111, 112, 113, 114, 121, 122, 123] [(110, 4), (120, 3), (120, 4), (130, 0), (130, 1), (150, 2), (150, 3), (150, 10), (150, 13), (150, 14), (150, 15)]) G (fun q => q.2) (Rd_bitOf Rf x1 G) := by
  unfold Rd_bitOf
  exact frBd (fr_Cd_add _ _ _ _ _) (fS_mono rfl rfl) fq_rf (fun _ G2 hG2 => frBd (fr_Rd_skip _) (fS_mono rfl rfl) hG2 (fun _ G4 hG4 => frBd (fr_Rd_look _ _) (fS_mono rfl rfl) hG4 (fun _ G6 hG6 => frIf (frBd (fr_Rd_enter _ _) (fS_mono rfl rfl) hG6 (fun _ G8 hG8 => frCI (frTk (fq_upK rfl hG8) (fun G9 hG9 => frBd (hRf _ _ _) (fun _ _ h => h) hG9 (fun _ G11 hG11 => frBd (fr_Cd_add _ _ _ _ _) (fS_mono rfl rfl) hG11 (fun _ G13 hG13 => frBd (fr_Rd_sign _ _) (fS_mono rfl rfl) hG13 (fun _ G15 hG15 => frBd (hRf _ _ _) (fun _ _ h => h) hG15 (fun _ G17 hG17 => frBd (fr_Rd_sign _ _) (fS_mono rfl rfl) hG17 (fun _ G19 hG19 => frCI (frTk (fq_upK rfl hG19) (fun G20 hG20 => frBd (fr_Cd_add _ _ _ _ _) (fS_mono rfl rfl) hG20 (fun _ G22 hG22 => frS hG22)))))))))))) (frBd (fr_Rd_bad _) (fS_mono rfl rfl) hG6 (fun _ G24 hG24 => frS hG24)))))
theorem fr_Rd_named (Rf : Nat → List Int → St → Option (Int × St)) (hRf : ∀ (i : Nat) (a : List Int) (G : St), Fr (fS [111, 112, 113, 114, 121, 122, 123] [(110, 4), (120, 3), (120, 4), (130, 0), (130, 1), (150, 2), (150, 3), (150, 10), (150, 13), (150, 14), (150, 15)]) G (fun q => q.2) (Rf i a G)) (x1 : Int) (G : St) : Fr (fS [111, 112, 113, 114, 121, 122, 123] [(110, 4), (120, 3), (120, 4), (130, 0), (130, 1), (150, 2), (150, 3), (150, 10), (150, 13), (150, 14), (150, 15)]) G (fun q => q.2) (Rd_named Rf x1 G) := by
  unfold Rd_named
  exact frBd (fr_Rd_name _) (fS_mono rfl rfl) fq_rf (fun _ G2 hG2 => frBd (fr_Ft_is _) (fS_mono rfl rfl) hG2 (fun _ G4 hG4 => frIf (frBd (fr_Rd_isSign _ _) (fS_mono rfl rfl) hG4 (fun _ G6 hG6 => frIf (frBd (fr_Rd_look _ _) (fS_mono rfl rfl) hG6 (fun _ G8 hG8 => frIf (frBd (hRf _ _ _) (fun _ _ h => h) hG8 (fun _ G12 hG12 => frS hG12)) (frBd (fr_Cd_add _ _ _ _ _) (fS_mono rfl rfl) hG8 (fun _ G10 hG10 => frS hG10)))) (frBd (fr_Cd_add _ _ _ _ _) (fS_mono rfl rfl) hG6 (fun _ G14 hG14 => frBd (fr_Rd_enter _ _) (fS_mono rfl rfl) hG14 (fun _ G16 hG16 => frCI (frTk (fq_upK rfl hG16) (fun G17 hG17 => frBd (hRf _ _ _) (fun _ _ h => h) hG17 (fun _ G19 hG19 => frBd (fr_Rd_sign _ _) (fS_mono rfl rfl) hG19 (fun _ G21 hG21 => frCI (frTk (fq_upK rfl hG21) (fun G22 hG22 => frBd (fr_Cd_add _ _ _ _ _) (fS_mono rfl rfl) hG22 (fun _ G24 hG24 => frS hG24)))))))))))) (frS hG4)))
theorem fr_Rd_call_b133 (Rf : Nat → List Int → St → Option (Int × St)) (hRf : ∀ (i : Nat) (a : List Int) (G : St), Fr (fS [111, 112, 113, 114, 121, 122, 123] [(110, 4), (120, 3), (120, 4), (130, 0), (130, 1), (150, 2), (150, 3), (150, 10), (150, 13), (150, 14), (150, 15)]) G (fun q => q.2) (Rf i a G)) (x1 : Int) (x2 : Int) (x3 : Int) (x4 : Int) (G : St) : Fr (fS [111, 112, 113, 114, 121, 122, 123] [(110, 4), (120, 3), (120, 4), (130, 0), (130, 1), (150, 2), (150, 3), (150, 10), (150, 13), (150, 14), (150, 15)]) G (fun q => q.2) (Rd_call_b133 Rf x1 x2 x3 x4 G) := by
  unfold Rd_call_b133
  exact frBd (fr_Rd_sign _ _) (fS_mono rfl rfl) fq_rf (fun _ G9 hG9 => frCI (frTk (fq_upK rfl hG9) (fun G10 hG10 => frCB (frTk (fq_upL rfl hG10) (fun G11 hG11 => frBd (fr_Cd_add _ _ _ _ _) (fS_mono rfl rfl) hG11 (fun _ G13 hG13 => frS hG13))))))
theorem fr_Rd_call_b113 (Rf : Nat → List Int → St → Option (Int × St)) (hRf : ∀ (i : Nat) (a : List Int) (G : St), Fr (fS [111, 112, 113, 114, 121, 122, 123] [(110, 4), (120, 3), (120, 4), (130, 0), (130, 1), (150, 2), (150, 3), (150, 10), (150, 13), (150, 14), (150, 15)]) G (fun q => q.2) (Rf i a G)) (x1 : Int) (x2 : Int) (x3 : Int) (x4 : Int) (s0 : Int) (G : St) : Fr (fS [111, 112, 113, 114, 121, 122, 123] [(110, 4), (120, 3), (120, 4), (130, 0), (130, 1), (150, 2), (150, 3), (150, 10), (150, 13), (150, 14), (150, 15)]) G (Sum.elim (fun q => q.2.2) (fun q => q.2)) (Rd_call_b113 Rf x1 x2 x3 x4 s0 G) := by
  unfold Rd_call_b113
  exact frIf (frS fq_rf) (frCI (frTk (fq_upK rfl fq_rf) (fun G22 hG22 => frS hG22)))
theorem fr_Rd_call_s51 (Rf : Nat → List Int → St → Option (Int × St)) (hRf : ∀ (i : Nat) (a : List Int) (G : St), Fr (fS [111, 112, 113, 114, 121, 122, 123] [(110, 4), (120, 3), (120, 4), (130, 0), (130, 1), (150, 2), (150, 3), (150, 10), (150, 13), (150, 14), (150, 15)]) G (fun q => q.2) (Rf i a G)) (x1 : Int) (x2 : Int) (x3 : Int) (x4 : Int) (x5 : Int) (G : St) : Fr (fS [111, 112, 113, 114, 121, 122, 123] [(110, 4), (120, 3), (120, 4), (130, 0), (130, 1), (150, 2), (150, 3), (150, 10), (150, 13), (150, 14), (150, 15)]) G (Sum.elim (fun q => q.2.2) (fun q => q.2)) (Rd_call_s51 Rf x1 x2 x3 x4 x5 G) := by
  unfold Rd_call_s51
  exact frIf (frEx (frT (fr_Rd_call_b133 _ hRf _ _ _ _ _) (fS_mono rfl rfl) fq_rf)) (frBd (fr_Ft_is _) (fS_mono rfl rfl) fq_rf (fun _ G15 hG15 => frIf (frBd (hRf _ _ _) (fun _ _ h => h) hG15 (fun _ G17 hG17 => frBd (fr_Cd_add _ _ _ _ _) (fS_mono rfl rfl) hG17 (fun _ G19 hG19 => frCI (frBd (fr_Ft_is _) (fS_mono rfl rfl) hG19 (fun _ G21 hG21 => frIf (frBd (fr_Rd_isSign _ _) (fS_mono rfl rfl) hG21 (fun _ G24 hG24 => frT (fr_Rd_call_b113 _ hRf _ _ _ _ _ _) (fS_mono rfl rfl) hG24)) (frT (fr_Rd_call_b113 _ hRf _ _ _ _ _ _) (fS_mono rfl rfl) hG21)))))) (frEx (frT (fr_Rd_call_b133 _ hRf _ _ _ _ _) (fS_mono rfl rfl) hG15))))
theorem fr_Rd_call_l51 (Rf : Nat → List Int → St → Option (Int × St)) (hRf : ∀ (i : Nat) (a : List Int) (G : St), Fr (fS [111, 112, 113, 114, 121, 122, 123] [(110, 4), (120, 3), (120, 4), (130, 0), (130, 1), (150, 2), (150, 3), (150, 10), (150, 13), (150, 14), (150, 15)]) G (fun q => q.2) (Rf i a G)) (x1 : Int) (x2 : Int) (x3 : Int) (x4 : Int) (x5 : Int) (G : St) : Fr (fS [111, 112, 113, 114, 121, 122, 123] [(110, 4), (120, 3), (120, 4), (130, 0), (130, 1), (150, 2), (150, 3), (150, 10), (150, 13), (150, 14), (150, 15)]) G (fun q => q.2) (Rd_call_l51 Rf x1 x2 x3 x4 x5 G) := frWh (pi := fun (s : (Int × Int × St)) => s.2.2) (fun (s : (Int × Int × St)) => fr_Rd_call_s51 Rf hRf x1 x2 x3 s.1 s.2.1 s.2.2)
theorem fr_Rd_call_b49 (Rf : Nat → List Int → St → Option (Int × St)) (hRf : ∀ (i : Nat) (a : List Int) (G : St), Fr (fS [111, 112, 113, 114, 121, 122, 123] [(110, 4), (120, 3), (120, 4), (130, 0), (130, 1), (150, 2), (150, 3), (150, 10), (150, 13), (150, 14), (150, 15)]) G (fun q => q.2) (Rf i a G)) (x1 : Int) (x2 : Int) (x3 : Int) (x4 : Int) (s0 : Int) (G : St) : Fr (fS [111, 112, 113, 114, 121, 122, 123] [(110, 4), (120, 3), (120, 4), (130, 0), (130, 1), (150, 2), (150, 3), (150, 10), (150, 13), (150, 14), (150, 15)]) G (fun q => q.2) (Rd_call_b49 Rf x1 x2 x3 x4 s0 G) := by
  unfold Rd_call_b49
  exact frT (fr_Rd_call_l51 _ hRf _ _ _ _ _ _) (fS_mono rfl rfl) fq_rf
theorem fr_Rd_call (Rf : Nat → List Int → St → Option (Int × St)) (hRf : ∀ (i : Nat) (a : List Int) (G : St), Fr (fS [111, 112, 113, 114, 121, 122, 123] [(110, 4), (120, 3), (120, 4), (130, 0), (130, 1), (150, 2), (150, 3), (150, 10), (150, 13), (150, 14), (150, 15)]) G (fun q => q.2) (Rf i a G)) (x1 : Int) (x2 : Int) (G : St) : Fr (fS [111, 112, 113, 114, 121, 122, 123] [(110, 4), (120, 3), (120, 4), (130, 0), (130, 1), (150, 2), (150, 3), (150, 10), (150, 13), (150, 14), (150, 15)]) G (fun q => q.2) (Rd_call Rf x1 x2 G) := by
  unfold Rd_call
  exact frBd (fr_Cd_add _ _ _ _ _) (fS_mono rfl rfl) fq_rf (fun _ G2 hG2 => frBd (fr_Rd_enter _ _) (fS_mono rfl rfl) hG2 (fun _ G4 hG4 => frCI (frTk (fq_upK rfl hG4) (fun G5 hG5 => frBd (fr_Rd_isSign _ _) (fS_mono rfl rfl) hG5 (fun _ G7 hG7 => frT (fr_Rd_call_b49 _ hRf _ _ _ _ _ _) (fS_mono rfl rfl) hG7)))))
theorem fr_RE : ∀ (d i : Nat) (a : List Int) (G : St), Fr (fS [111, 112, 113, 114, 121, 122, 123] [(110, 4), (120, 3), (120, 4), (130, 0), (130, 1), (150, 2), (150, 3), (150, 10), (150, 13), (150, 14), (150, 15)]) G (fun q => q.2) (RE d i a G)
  | 0, _, _, _ => frN
  | d + 1, 0, a, G => fr_Rd_expr _ (fr_RE d)  G
  | d + 1, 1, a, G => fr_Rd_row _ (fr_RE d) _ G
  | d + 1, 2, a, G => fr_Rd_factor _ (fr_RE d)  G
  | d + 1, 3, a, G => fr_Rd_around _ (fr_RE d)  G
  | d + 1, 4, a, G => fr_Rd_bitOf _ (fr_RE d) _ G
  | d + 1, 5, a, G => fr_Rd_named _ (fr_RE d) _ G
  | d + 1, 6, a, G => fr_Rd_call _ (fr_RE d) _ _ G
  | _ + 1, _ + 7, _, _ => frN
theorem fr_Rd_exprO (G : St) : Fr (fS [111, 112, 113, 114, 121, 122, 123] [(110, 4), (120, 3), (120, 4), (130, 0), (130, 1), (150, 2), (150, 3), (150, 10), (150, 13), (150, 14), (150, 15)]) G (fun q => q.2) (Rd_exprO G) := fr_RE _ _ _ _
theorem fr_Rd_rowO (x1 : Int) (G : St) : Fr (fS [111, 112, 113, 114, 121, 122, 123] [(110, 4), (120, 3), (120, 4), (130, 0), (130, 1), (150, 2), (150, 3), (150, 10), (150, 13), (150, 14), (150, 15)]) G (fun q => q.2) (Rd_rowO x1 G) := fr_RE _ _ _ _
theorem fr_Rd_factorO (G : St) : Fr (fS [111, 112, 113, 114, 121, 122, 123] [(110, 4), (120, 3), (120, 4), (130, 0), (130, 1), (150, 2), (150, 3), (150, 10), (150, 13), (150, 14), (150, 15)]) G (fun q => q.2) (Rd_factorO G) := fr_RE _ _ _ _
theorem fr_Rd_aroundO (G : St) : Fr (fS [111, 112, 113, 114, 121, 122, 123] [(110, 4), (120, 3), (120, 4), (130, 0), (130, 1), (150, 2), (150, 3), (150, 10), (150, 13), (150, 14), (150, 15)]) G (fun q => q.2) (Rd_aroundO G) := fr_RE _ _ _ _
theorem fr_Rd_bitOfO (x1 : Int) (G : St) : Fr (fS [111, 112, 113, 114, 121, 122, 123] [(110, 4), (120, 3), (120, 4), (130, 0), (130, 1), (150, 2), (150, 3), (150, 10), (150, 13), (150, 14), (150, 15)]) G (fun q => q.2) (Rd_bitOfO x1 G) := fr_RE _ _ _ _
theorem fr_Rd_namedO (x1 : Int) (G : St) : Fr (fS [111, 112, 113, 114, 121, 122, 123] [(110, 4), (120, 3), (120, 4), (130, 0), (130, 1), (150, 2), (150, 3), (150, 10), (150, 13), (150, 14), (150, 15)]) G (fun q => q.2) (Rd_namedO x1 G) := fr_RE _ _ _ _
theorem fr_Rd_callO (x1 : Int) (x2 : Int) (G : St) : Fr (fS [111, 112, 113, 114, 121, 122, 123] [(110, 4), (120, 3), (120, 4), (130, 0), (130, 1), (150, 2), (150, 3), (150, 10), (150, 13), (150, 14), (150, 15)]) G (fun q => q.2) (Rd_callO x1 x2 G) := fr_RE _ _ _ _
theorem fr_Rd_sort_b42 (x1 : Int) (G : St) : Fr (fS [] [(150, 2)]) G (fun q => q.2) (Rd_sort_b42 x1 G) := by
  unfold Rd_sort_b42
  exact frCI (frTk (fq_upK rfl fq_rf) (fun G7 hG7 => frS hG7))
theorem fr_Rd_sort (G : St) : Fr (fS [] [(130, 0), (130, 1), (150, 2)]) G (fun q => q.2) (Rd_sort G) := by
  unfold Rd_sort
  exact frBd (fr_Rd_skip _) (fS_mono rfl rfl) fq_rf (fun _ G2 hG2 => frBd (fr_Ft_is _) (fS_mono rfl rfl) hG2 (fun _ G4 hG4 => frIf (frBd (fr_Rd_isWord _ _) (fS_mono rfl rfl) hG4 (fun _ G6 hG6 => frIf (frBd (fr_Rd_isWord _ _) (fS_mono rfl rfl) hG6 (fun _ G9 hG9 => frIf (frBd (fr_Rd_bad _) (fS_mono rfl rfl) hG9 (fun _ G11 hG11 => frS hG11)) (frT (fr_Rd_sort_b42 _ _) (fS_mono rfl rfl) hG9))) (frT (fr_Rd_sort_b42 _ _) (fS_mono rfl rfl) hG6))) (frS hG4)))
theorem fr_Rd_params_b92 (G : St) : Fr (fS [] [(130, 0), (130, 1), (150, 2)]) G (fun q => q.2) (Rd_params_b92 G) := by
  unfold Rd_params_b92
  exact frBd (fr_Rd_sign _ _) (fS_mono rfl rfl) fq_rf (fun _ G2 hG2 => frS hG2)
theorem fr_Rd_params_b74 (s0 : Int) (G : St) : Fr (fS [] [(150, 2)]) G (Sum.elim (fun q => q.2) (fun q => q.2)) (Rd_params_b74 s0 G) := by
  unfold Rd_params_b74
  exact frIf (frS fq_rf) (frCI (frTk (fq_upK rfl fq_rf) (fun G15 hG15 => frS hG15)))
theorem fr_Rd_params_s2 (x1 : Int) (G : St) : Fr (fS [111, 112, 113, 114, 121, 122, 123] [(110, 4), (120, 3), (120, 4), (130, 0), (130, 1), (150, 2), (150, 10)]) G (Sum.elim (fun q => q.2) (fun q => q.2)) (Rd_params_s2 x1 G) := by
  unfold Rd_params_s2
  exact frIf (frEx (frT (fr_Rd_params_b92 _) (fS_mono rfl rfl) fq_rf)) (frBd (fr_Ft_is _) (fS_mono rfl rfl) fq_rf (fun _ G4 hG4 => frIf (frBd (fr_Rd_name _) (fS_mono rfl rfl) hG4 (fun _ G6 hG6 => frBd (fr_Rd_sign _ _) (fS_mono rfl rfl) hG6 (fun _ G8 hG8 => frBd (fr_Rd_sort _) (fS_mono rfl rfl) hG8 (fun _ G10 hG10 => frBd (fr_Cd_add _ _ _ _ _) (fS_mono rfl rfl) hG10 (fun _ G12 hG12 => frBd (fr_Ft_is _) (fS_mono rfl rfl) hG12 (fun _ G14 hG14 => frIf (frBd (fr_Rd_isSign _ _) (fS_mono rfl rfl) hG14 (fun _ G17 hG17 => frT (fr_Rd_params_b74 _ _) (fS_mono rfl rfl) hG17)) (frT (fr_Rd_params_b74 _ _) (fS_mono rfl rfl) hG14))))))) (frEx (frT (fr_Rd_params_b92 _) (fS_mono rfl rfl) hG4))))
theorem fr_Rd_params_l2 (x1 : Int) (G : St) : Fr (fS [111, 112, 113, 114, 121, 122, 123] [(110, 4), (120, 3), (120, 4), (130, 0), (130, 1), (150, 2), (150, 10)]) G (fun q => q.2) (Rd_params_l2 x1 G) := frWh (pi := fun (s : (Int × St)) => s.2) (fun (s : (Int × St)) => fr_Rd_params_s2 s.1 s.2)
theorem fr_Rd_params (G : St) : Fr (fS [111, 112, 113, 114, 121, 122, 123] [(110, 4), (120, 3), (120, 4), (130, 0), (130, 1), (150, 2), (150, 10)]) G (fun q => q.2) (Rd_params G) := by
  unfold Rd_params
  exact frT (fr_Rd_params_l2 _ _) (fS_mono rfl rfl) fq_rf
theorem fr_Rd_def_b74 (x1 : Int) (x2 : Int) (G : St) : Fr (fS [111, 112, 113, 114, 121, 122, 123] [(110, 4), (120, 3), (120, 4), (130, 0), (130, 1), (150, 2), (150, 3), (150, 10), (150, 13), (150, 14), (150, 15)]) G (fun q => q.2) (Rd_def_b74 x1 x2 G) := by
  unfold Rd_def_b74
  exact frBd (fr_Rd_sign _ _) (fS_mono rfl rfl) fq_rf (fun _ G13 hG13 => frBd (fr_Rd_sort _) (fS_mono rfl rfl) hG13 (fun _ G15 hG15 => frBd (fr_Rd_sign _ _) (fS_mono rfl rfl) hG15 (fun _ G17 hG17 => frBd (fr_Rd_exprO _) (fS_mono rfl rfl) hG17 (fun _ G19 hG19 => frBd (fr_Rd_sign _ _) (fS_mono rfl rfl) hG19 (fun _ G21 hG21 => frBd (fr_Cd_add _ _ _ _ _) (fS_mono rfl rfl) hG21 (fun _ G23 hG23 => frCB (frTk (fq_upL rfl hG23) (fun G24 hG24 => frS hG24))))))))
theorem fr_Rd_def_b70 (x1 : Int) (x2 : Int) (G : St) : Fr (fS [111, 112, 113, 114, 121, 122, 123] [(110, 4), (120, 3), (120, 4), (130, 0), (130, 1), (150, 2), (150, 3), (150, 10), (150, 13), (150, 14), (150, 15)]) G (fun q => q.2) (Rd_def_b70 x1 x2 G) := by
  unfold Rd_def_b70
  exact frBd (fr_Rd_params _) (fS_mono rfl rfl) fq_rf (fun _ G11 hG11 => frT (fr_Rd_def_b74 _ _ _) (fS_mono rfl rfl) hG11)
theorem fr_Rd_def (G : St) : Fr (fS [111, 112, 113, 114, 121, 122, 123] [(110, 4), (120, 3), (120, 4), (130, 0), (130, 1), (150, 2), (150, 3), (150, 10), (150, 13), (150, 14), (150, 15)]) G (fun q => q.2) (Rd_def G) := by
  unfold Rd_def
  exact frCI (frTk (fq_upK rfl fq_rf) (fun G1 hG1 => frBd (fr_Rd_name _) (fS_mono rfl rfl) hG1 (fun _ G3 hG3 => frBd (fr_Cd_add _ _ _ _ _) (fS_mono rfl rfl) hG3 (fun _ G5 hG5 => frBd (fr_Rd_sign _ _) (fS_mono rfl rfl) hG5 (fun _ G7 hG7 => frBd (fr_Ft_is _) (fS_mono rfl rfl) hG7 (fun _ G9 hG9 => frIf (frBd (fr_Rd_isSign _ _) (fS_mono rfl rfl) hG9 (fun _ G26 hG26 => frIf (frT (fr_Rd_def_b70 _ _ _) (fS_mono rfl rfl) hG26) (frCI (frTk (fq_upK rfl hG26) (fun G27 hG27 => frT (fr_Rd_def_b74 _ _ _) (fS_mono rfl rfl) hG27))))) (frT (fr_Rd_def_b70 _ _ _) (fS_mono rfl rfl) hG9)))))))
theorem fr_Rd_type (G : St) : Fr (fS [] [(130, 0), (130, 1), (150, 2), (150, 10), (150, 11), (150, 12)]) G (fun q => q.2) (Rd_type G) := by
  unfold Rd_type
  exact frBd (fr_Rd_sort _) (fS_mono rfl rfl) fq_rf (fun _ G2 hG2 => frTk (fq_upK rfl hG2) (fun G3 hG3 => frTk (fq_upK rfl hG3) (fun G4 hG4 => frBd (fr_Ft_is _) (fS_mono rfl rfl) hG4 (fun _ G6 hG6 => frIf (frBd (fr_Rd_isSign _ _) (fS_mono rfl rfl) hG6 (fun _ G8 hG8 => frIf (frS hG8) (frCI (frTk (fq_upK rfl hG8) (fun G9 hG9 => frBd (fr_Rd_number _ _ _) (fS_mono rfl rfl) hG9 (fun _ G11 hG11 => frTk (fq_upK rfl hG11) (fun G12 hG12 => frBd (fr_Rd_sign _ _) (fS_mono rfl rfl) hG12 (fun _ G14 hG14 => frS hG14)))))))) (frS hG6)))))
theorem fr_Rd_word (x1 : Int) (G : St) : Fr (fS [] [(130, 0), (130, 1), (150, 2)]) G (fun q => q.2) (Rd_word x1 G) := by
  unfold Rd_word
  exact frBd (fr_Rd_skip _) (fS_mono rfl rfl) fq_rf (fun _ G2 hG2 => frBd (fr_Ft_is _) (fS_mono rfl rfl) hG2 (fun _ G4 hG4 => frIf (frBd (fr_Rd_isWord _ _) (fS_mono rfl rfl) hG4 (fun _ G6 hG6 => frIf (frBd (fr_Rd_bad _) (fS_mono rfl rfl) hG6 (fun _ G8 hG8 => frS hG8)) (frBd (S' := fS [] []) (frCB (frS fq_rf)) (fS_mono rfl rfl) hG6 (fun _ G10 hG10 => frCI (frTk (fq_upK rfl hG10) (fun G11 hG11 => frS hG11)))))) (frS hG4)))
theorem fr_Rd_input_b96 (P W : Int) (x1 : Int) (x2 : Int) (x3 : Int) (G : St) : Fr (fS [111, 112, 113, 114] [(110, 4), (130, 0), (130, 1), (150, 2)]) G (fun q => q.2) (Rd_input_b96 P W x1 x2 x3 G) := by
  unfold Rd_input_b96
  exact frBd (fr_Rd_sign _ _) (fS_mono rfl rfl) fq_rf (fun _ G16 hG16 => frCI (frCI (frCI (frCI (frBd (fr_Cd_add _ _ _ _ _) (fS_mono rfl rfl) hG16 (fun _ G18 hG18 => frS hG18))))))
theorem fr_Rd_input (P W : Int) (G : St) : Fr (fS [111, 112, 113, 114, 121, 122, 123] [(110, 4), (120, 3), (120, 4), (130, 0), (130, 1), (150, 2), (150, 4), (150, 10), (150, 11), (150, 12)]) G (fun q => q.2) (Rd_input P W G) := by
  unfold Rd_input
  exact frCI (frTk (fq_upK rfl fq_rf) (fun G1 hG1 => frBd (fr_Rd_name _) (fS_mono rfl rfl) hG1 (fun _ G3 hG3 => frBd (fr_Rd_word _ _) (fS_mono rfl rfl) hG3 (fun _ G5 hG5 => frCI (frBd (fr_Rd_number _ _ _) (fS_mono rfl rfl) hG5 (fun _ G7 hG7 => frBd (fr_Rd_sign _ _) (fS_mono rfl rfl) hG7 (fun _ G9 hG9 => frBd (fr_Rd_type _) (fS_mono rfl rfl) hG9 (fun _ G11 hG11 => frBd (fr_Ft_is _) (fS_mono rfl rfl) hG11 (fun _ G13 hG13 => frIf (frCI (frTk (fq_upK rfl hG13) (fun G14 hG14 => frIf (frBd (fr_Ft_set _ _ _) (fS_mono rfl rfl) hG14 (fun _ G20 hG20 => frT (fr_Rd_input_b96 _ _ _ _ _ _) (fS_mono rfl rfl) hG20)) (frT (fr_Rd_input_b96 _ _ _ _ _ _) (fS_mono rfl rfl) hG14)))) (frS hG13))))))))))
theorem fr_Rd_output (G : St) : Fr (fS [111, 112, 113, 114, 121, 122, 123] [(110, 4), (120, 3), (120, 4), (130, 0), (130, 1), (150, 2), (150, 3), (150, 10), (150, 13), (150, 14), (150, 15)]) G (fun q => q.2) (Rd_output G) := by
  unfold Rd_output
  exact frBd (fr_Cd_add _ _ _ _ _) (fS_mono rfl rfl) fq_rf (fun _ G2 hG2 => frCI (frTk (fq_upK rfl hG2) (fun G3 hG3 => frBd (fr_Rd_exprO _) (fS_mono rfl rfl) hG3 (fun _ G5 hG5 => frBd (fr_Rd_sign _ _) (fS_mono rfl rfl) hG5 (fun _ G7 hG7 => frBd (fr_Cd_add _ _ _ _ _) (fS_mono rfl rfl) hG7 (fun _ G9 hG9 => frS hG9))))))
theorem fr_Rd_assignment_b176 (s0 : Int) (s1 : Int) (s2 : Int) (s3 : Int) (G : St) : Fr (fS [111, 112, 113, 114] [(110, 4)]) G (fun q => q.2) (Rd_assignment_b176 s0 s1 s2 s3 G) := by
  unfold Rd_assignment_b176
  exact frBd (fr_Cd_add _ _ _ _ _) (fS_mono rfl rfl) fq_rf (fun _ G16 hG16 => frS hG16)
theorem fr_Rd_assignment_b141 (x2 : Int) (x3 : Int) (x4 : Int) (G : St) : Fr (fS [111, 112, 113, 114, 121, 122, 123] [(110, 4), (120, 3), (120, 4), (130, 0), (130, 1), (150, 2), (150, 3), (150, 10), (150, 13), (150, 14), (150, 15)]) G (fun q => q.2) (Rd_assignment_b141 x2 x3 x4 G) := by
  unfold Rd_assignment_b141
  exact frBd (fr_Rd_sign _ _) (fS_mono rfl rfl) fq_rf (fun _ G10 hG10 => frBd (fr_Rd_exprO _) (fS_mono rfl rfl) hG10 (fun _ G12 hG12 => frBd (fr_Rd_sign _ _) (fS_mono rfl rfl) hG12 (fun _ G14 hG14 => frT (fr_Rd_assignment_b176 _ _ _ _ _) (fS_mono rfl rfl) hG14)))
theorem fr_Rd_assignment_b51 (x2 : Int) (x3 : Int) (s0 : Int) (G : St) : Fr (fS [111, 112, 113, 114, 121, 122, 123] [(110, 4), (120, 3), (120, 4), (130, 0), (130, 1), (150, 2), (150, 3), (150, 10), (150, 13), (150, 14), (150, 15)]) G (fun q => q.2) (Rd_assignment_b51 x2 x3 s0 G) := by
  unfold Rd_assignment_b51
  exact frIf (frBd (fr_Cd_add _ _ _ _ _) (fS_mono rfl rfl) fq_rf (fun _ G8 hG8 => frT (fr_Rd_assignment_b141 _ _ _ _) (fS_mono rfl rfl) hG8)) (frBd (fr_Cd_add _ _ _ _ _) (fS_mono rfl rfl) fq_rf (fun _ G18 hG18 => frBd (fr_Rd_enter _ _) (fS_mono rfl rfl) hG18 (fun _ G20 hG20 => frCI (frTk (fq_upK rfl hG20) (fun G21 hG21 => frBd (fr_Rd_exprO _) (fS_mono rfl rfl) hG21 (fun _ G23 hG23 => frBd (fr_Rd_sign _ _) (fS_mono rfl rfl) hG23 (fun _ G25 hG25 => frCI (frTk (fq_upK rfl hG25) (fun G26 hG26 => frBd (fr_Cd_add _ _ _ _ _) (fS_mono rfl rfl) hG26 (fun _ G28 hG28 => frT (fr_Rd_assignment_b141 _ _ _ _) (fS_mono rfl rfl) hG28))))))))))
theorem fr_Rd_assignment (G : St) : Fr (fS [111, 112, 113, 114, 121, 122, 123] [(110, 4), (120, 3), (120, 4), (130, 0), (130, 1), (150, 2), (150, 3), (150, 10), (150, 13), (150, 14), (150, 15)]) G (fun q => q.2) (Rd_assignment G) := by
  unfold Rd_assignment
  exact frBd (fr_Cd_add _ _ _ _ _) (fS_mono rfl rfl) fq_rf (fun _ G2 hG2 => frBd (fr_Rd_name _) (fS_mono rfl rfl) hG2 (fun _ G4 hG4 => frBd (fr_Ft_is _) (fS_mono rfl rfl) hG4 (fun _ G6 hG6 => frIf (frBd (fr_Rd_isSign _ _) (fS_mono rfl rfl) hG6 (fun _ G30 hG30 => frT (fr_Rd_assignment_b51 _ _ _ _) (fS_mono rfl rfl) hG30)) (frT (fr_Rd_assignment_b51 _ _ _ _) (fS_mono rfl rfl) hG6))))
theorem fr_Rd_variable_b148 (x3 : Int) (x4 : Int) (s0 : Int) (s1 : Int) (s2 : Int) (G : St) : Fr (fS [111, 112, 113, 114] [(110, 4)]) G (fun q => q.2) (Rd_variable_b148 x3 x4 s0 s1 s2 G) := by
  unfold Rd_variable_b148
  exact frCI (frCI (frBd (fr_Cd_add _ _ _ _ _) (fS_mono rfl rfl) fq_rf (fun _ G18 hG18 => frS hG18)))
theorem fr_Rd_variable_b124 (x1 : Int) (x3 : Int) (x4 : Int) (x6 : Int) (G : St) : Fr (fS [111, 112, 113, 114] [(110, 4), (130, 0), (130, 1), (150, 2)]) G (fun q => q.2) (Rd_variable_b124 x1 x3 x4 x6 G) := by
  unfold Rd_variable_b124
  exact frBd (fr_Rd_sign _ _) (fS_mono rfl rfl) fq_rf (fun _ G16 hG16 => frT (fr_Rd_variable_b148 _ _ _ _ _ _) (fS_mono rfl rfl) hG16)
theorem fr_Rd_variable_b86 (x1 : Int) (x2 : Int) (x3 : Int) (x4 : Int) (G : St) : Fr (fS [111, 112, 113, 114, 121, 122, 123] [(110, 4), (120, 3), (120, 4), (130, 0), (130, 1), (150, 2), (150, 3), (150, 10), (150, 13), (150, 14), (150, 15)]) G (fun q => q.2) (Rd_variable_b86 x1 x2 x3 x4 G) := by
  unfold Rd_variable_b86
  exact frBd (fr_Cd_add _ _ _ _ _) (fS_mono rfl rfl) fq_rf (fun _ G12 hG12 => frBd (fr_Rd_isSign _ _) (fS_mono rfl rfl) hG12 (fun _ G14 hG14 => frIf (frT (fr_Rd_variable_b124 _ _ _ _ _) (fS_mono rfl rfl) hG14) (frBd (fr_Rd_sign _ _) (fS_mono rfl rfl) hG14 (fun _ G20 hG20 => frBd (fr_Rd_exprO _) (fS_mono rfl rfl) hG20 (fun _ G22 hG22 => frT (fr_Rd_variable_b124 _ _ _ _ _) (fS_mono rfl rfl) hG22)))))
theorem fr_Rd_variable (G : St) : Fr (fS [111, 112, 113, 114, 121, 122, 123] [(110, 4), (120, 3), (120, 4), (130, 0), (130, 1), (150, 2), (150, 3), (150, 5), (150, 10), (150, 11), (150, 12), (150, 13), (150, 14), (150, 15)]) G (fun q => q.2) (Rd_variable G) := by
  unfold Rd_variable
  exact frCI (frTk (fq_upK rfl fq_rf) (fun G1 hG1 => frBd (fr_Rd_name _) (fS_mono rfl rfl) hG1 (fun _ G3 hG3 => frBd (fr_Rd_sign _ _) (fS_mono rfl rfl) hG3 (fun _ G5 hG5 => frBd (fr_Rd_type _) (fS_mono rfl rfl) hG5 (fun _ G7 hG7 => frBd (fr_Ft_is _) (fS_mono rfl rfl) hG7 (fun _ G9 hG9 => frIf (frCI (frTk (fq_upK rfl hG9) (fun G10 hG10 => frIf (frBd (fr_Ft_set _ _ _) (fS_mono rfl rfl) hG10 (fun _ G24 hG24 => frT (fr_Rd_variable_b86 _ _ _ _ _) (fS_mono rfl rfl) hG24)) (frT (fr_Rd_variable_b86 _ _ _ _ _) (fS_mono rfl rfl) hG10)))) (frS hG9)))))))
theorem fr_Rd_statement (Rf : Nat → List Int → St → Option (Int × St)) (hRf : ∀ (i : Nat) (a : List Int) (G : St), Fr (fS [111, 112, 113, 114, 121, 122, 123] [(110, 4), (120, 3), (120, 4), (130, 0), (130, 1), (150, 2), (150, 3), (150, 5), (150, 10), (150, 11), (150, 12), (150, 13), (150, 14), (150, 15)]) G (fun q => q.2) (Rf i a G)) (G : St) : Fr (fS [111, 112, 113, 114, 121, 122, 123] [(110, 4), (120, 3), (120, 4), (130, 0), (130, 1), (150, 2), (150, 3), (150, 5), (150, 10), (150, 11), (150, 12), (150, 13), (150, 14), (150, 15)]) G (fun q => q.2) (Rd_statement Rf G) := by
  unfold Rd_statement
  exact frBd (fr_Rd_isWord _ _) (fS_mono rfl rfl) fq_rf (fun _ G2 hG2 => frIf (frBd (fr_Rd_isWord _ _) (fS_mono rfl rfl) hG2 (fun _ G4 hG4 => frIf (frBd (fr_Rd_isWord _ _) (fS_mono rfl rfl) hG4 (fun _ G6 hG6 => frIf (frBd (fr_Rd_assignment _) (fS_mono rfl rfl) hG6 (fun _ G8 hG8 => frS hG8)) (frBd (hRf _ _ _) (fun _ _ h => h) hG6 (fun _ G10 hG10 => frS hG10)))) (frBd (hRf _ _ _) (fun _ _ h => h) hG4 (fun _ G12 hG12 => frS hG12)))) (frBd (fr_Cd_add _ _ _ _ _) (fS_mono rfl rfl) hG2 (fun _ G14 hG14 => frBd (fr_Rd_variable _) (fS_mono rfl rfl) hG14 (fun _ G16 hG16 => frS hG16))))
theorem fr_Rd_block_b91 (Rf : Nat → List Int → St → Option (Int × St)) (hRf : ∀ (i : Nat) (a : List Int) (G : St), Fr (fS [111, 112, 113, 114, 121, 122, 123] [(110, 4), (120, 3), (120, 4), (130, 0), (130, 1), (150, 2), (150, 3), (150, 5), (150, 10), (150, 11), (150, 12), (150, 13), (150, 14), (150, 15)]) G (fun q => q.2) (Rf i a G)) (G : St) : Fr (fS [111, 112, 113, 114, 121, 122, 123] [(110, 4), (120, 3), (120, 4), (130, 0), (130, 1), (150, 2), (150, 3), (150, 5), (150, 10), (150, 11), (150, 12), (150, 13), (150, 14), (150, 15)]) G (fun q => q.2) (Rd_block_b91 Rf G) := by
  unfold Rd_block_b91
  exact frCI (frTk (fq_upK rfl fq_rf) (fun G14 hG14 => frCI (frTk (fq_upK rfl hG14) (fun G15 hG15 => frBd (fr_Cd_add _ _ _ _ _) (fS_mono rfl rfl) hG15 (fun _ G17 hG17 => frS hG17)))))
theorem fr_Rd_block_s65 (Rf : Nat → List Int → St → Option (Int × St)) (hRf : ∀ (i : Nat) (a : List Int) (G : St), Fr (fS [111, 112, 113, 114, 121, 122, 123] [(110, 4), (120, 3), (120, 4), (130, 0), (130, 1), (150, 2), (150, 3), (150, 5), (150, 10), (150, 11), (150, 12), (150, 13), (150, 14), (150, 15)]) G (fun q => q.2) (Rf i a G)) (G : St) : Fr (fS [111, 112, 113, 114, 121, 122, 123] [(110, 4), (120, 3), (120, 4), (130, 0), (130, 1), (150, 2), (150, 3), (150, 5), (150, 10), (150, 11), (150, 12), (150, 13), (150, 14), (150, 15)]) G (Sum.elim (fun q => q) (fun q => q.2)) (Rd_block_s65 Rf G) := by
  unfold Rd_block_s65
  exact frBd (fr_Ft_is _) (fS_mono rfl rfl) fq_rf (fun _ G13 hG13 => frIf (frBd (fr_Rd_isSign _ _) (fS_mono rfl rfl) hG13 (fun _ G19 hG19 => frIf (frBd (hRf _ _ _) (fun _ _ h => h) hG19 (fun _ G21 hG21 => frS hG21)) (frEx (frT (fr_Rd_block_b91 _ hRf _) (fS_mono rfl rfl) hG19)))) (frEx (frT (fr_Rd_block_b91 _ hRf _) (fS_mono rfl rfl) hG13)))
theorem fr_Rd_block_l65 (Rf : Nat → List Int → St → Option (Int × St)) (hRf : ∀ (i : Nat) (a : List Int) (G : St), Fr (fS [111, 112, 113, 114, 121, 122, 123] [(110, 4), (120, 3), (120, 4), (130, 0), (130, 1), (150, 2), (150, 3), (150, 5), (150, 10), (150, 11), (150, 12), (150, 13), (150, 14), (150, 15)]) G (fun q => q.2) (Rf i a G)) (G : St) : Fr (fS [111, 112, 113, 114, 121, 122, 123] [(110, 4), (120, 3), (120, 4), (130, 0), (130, 1), (150, 2), (150, 3), (150, 5), (150, 10), (150, 11), (150, 12), (150, 13), (150, 14), (150, 15)]) G (fun q => q.2) (Rd_block_l65 Rf G) := frWh (pi := fun (s : (St)) => s) (fun (s : (St)) => fr_Rd_block_s65 Rf hRf s)
theorem fr_Rd_block (Rf : Nat → List Int → St → Option (Int × St)) (hRf : ∀ (i : Nat) (a : List Int) (G : St), Fr (fS [111, 112, 113, 114, 121, 122, 123] [(110, 4), (120, 3), (120, 4), (130, 0), (130, 1), (150, 2), (150, 3), (150, 5), (150, 10), (150, 11), (150, 12), (150, 13), (150, 14), (150, 15)]) G (fun q => q.2) (Rf i a G)) (G : St) : Fr (fS [111, 112, 113, 114, 121, 122, 123] [(110, 4), (120, 3), (120, 4), (130, 0), (130, 1), (150, 2), (150, 3), (150, 5), (150, 10), (150, 11), (150, 12), (150, 13), (150, 14), (150, 15)]) G (fun q => q.2) (Rd_block Rf G) := by
  unfold Rd_block
  exact frBd (fr_Rd_skip _) (fS_mono rfl rfl) fq_rf (fun _ G2 hG2 => frBd (fr_Ft_is _) (fS_mono rfl rfl) hG2 (fun _ G4 hG4 => frIf (frBd (fr_Rd_look _ _) (fS_mono rfl rfl) hG4 (fun _ G6 hG6 => frIf (frBd (fr_Rd_enter _ _) (fS_mono rfl rfl) hG6 (fun _ G8 hG8 => frCI (frTk (fq_upK rfl hG8) (fun G9 hG9 => frBd (fr_Cd_add _ _ _ _ _) (fS_mono rfl rfl) hG9 (fun _ G11 hG11 => frT (fr_Rd_block_l65 _ hRf _) (fS_mono rfl rfl) hG11))))) (frBd (fr_Rd_bad _) (fS_mono rfl rfl) hG6 (fun _ G23 hG23 => frS hG23)))) (frS hG4)))
theorem fr_Rd_condition_b164 (Rf : Nat → List Int → St → Option (Int × St)) (hRf : ∀ (i : Nat) (a : List Int) (G : St), Fr (fS [111, 112, 113, 114, 121, 122, 123] [(110, 4), (120, 3), (120, 4), (130, 0), (130, 1), (150, 2), (150, 3), (150, 5), (150, 10), (150, 11), (150, 12), (150, 13), (150, 14), (150, 15)]) G (fun q => q.2) (Rf i a G)) (x1 : Int) (G : St) : Fr (fS [111, 112, 113, 114, 121, 122, 123] [(110, 4), (120, 3), (120, 4), (130, 0), (130, 1), (150, 2), (150, 3), (150, 5), (150, 10), (150, 11), (150, 12), (150, 13), (150, 14), (150, 15)]) G (fun q => q.2) (Rd_condition_b164 Rf x1 G) := by
  unfold Rd_condition_b164
  exact frBd (fr_Cd_add _ _ _ _ _) (fS_mono rfl rfl) fq_rf (fun _ G18 hG18 => frS hG18)
theorem fr_Rd_condition_b79 (Rf : Nat → List Int → St → Option (Int × St)) (hRf : ∀ (i : Nat) (a : List Int) (G : St), Fr (fS [111, 112, 113, 114, 121, 122, 123] [(110, 4), (120, 3), (120, 4), (130, 0), (130, 1), (150, 2), (150, 3), (150, 5), (150, 10), (150, 11), (150, 12), (150, 13), (150, 14), (150, 15)]) G (fun q => q.2) (Rf i a G)) (x1 : Int) (x3 : Int) (s0 : Int) (G : St) : Fr (fS [111, 112, 113, 114, 121, 122, 123] [(110, 4), (120, 3), (120, 4), (130, 0), (130, 1), (150, 2), (150, 3), (150, 5), (150, 10), (150, 11), (150, 12), (150, 13), (150, 14), (150, 15)]) G (fun q => q.2) (Rd_condition_b79 Rf x1 x3 s0 G) := by
  unfold Rd_condition_b79
  exact frBd (fr_Cd_add _ _ _ _ _) (fS_mono rfl rfl) fq_rf (fun _ G15 hG15 => frCB (frTk (fq_upL rfl hG15) (fun G16 hG16 => frIf (frT (fr_Rd_condition_b164 _ hRf _ _) (fS_mono rfl rfl) hG16) (frCI (frTk (fq_upK rfl hG16) (fun G19 hG19 => frBd (fr_Rd_skip _) (fS_mono rfl rfl) hG19 (fun _ G21 hG21 => frBd (fr_Rd_isWord _ _) (fS_mono rfl rfl) hG21 (fun _ G23 hG23 => frIf (frBd (hRf _ _ _) (fun _ _ h => h) hG23 (fun _ G25 hG25 => frT (fr_Rd_condition_b164 _ hRf _ _) (fS_mono rfl rfl) hG25)) (frBd (fr_Rd_enter _ _) (fS_mono rfl rfl) hG23 (fun _ G27 hG27 => frBd (hRf _ _ _) (fun _ _ h => h) hG27 (fun _ G29 hG29 => frCI (frTk (fq_upK rfl hG29) (fun G30 hG30 => frT (fr_Rd_condition_b164 _ hRf _ _) (fS_mono rfl rfl) hG30)))))))))))))
theorem fr_Rd_condition (Rf : Nat → List Int → St → Option (Int × St)) (hRf : ∀ (i : Nat) (a : List Int) (G : St), Fr (fS [111, 112, 113, 114, 121, 122, 123] [(110, 4), (120, 3), (120, 4), (130, 0), (130, 1), (150, 2), (150, 3), (150, 5), (150, 10), (150, 11), (150, 12), (150, 13), (150, 14), (150, 15)]) G (fun q => q.2) (Rf i a G)) (G : St) : Fr (fS [111, 112, 113, 114, 121, 122, 123] [(110, 4), (120, 3), (120, 4), (130, 0), (130, 1), (150, 2), (150, 3), (150, 5), (150, 10), (150, 11), (150, 12), (150, 13), (150, 14), (150, 15)]) G (fun q => q.2) (Rd_condition Rf G) := by
  unfold Rd_condition
  exact frBd (fr_Cd_add _ _ _ _ _) (fS_mono rfl rfl) fq_rf (fun _ G2 hG2 => frCI (frTk (fq_upK rfl hG2) (fun G3 hG3 => frBd (fr_Rd_aroundO _) (fS_mono rfl rfl) hG3 (fun _ G5 hG5 => frBd (fr_Cd_add _ _ _ _ _) (fS_mono rfl rfl) hG5 (fun _ G7 hG7 => frBd (hRf _ _ _) (fun _ _ h => h) hG7 (fun _ G9 hG9 => frBd (fr_Rd_skip _) (fS_mono rfl rfl) hG9 (fun _ G11 hG11 => frBd (fr_Ft_is _) (fS_mono rfl rfl) hG11 (fun _ G13 hG13 => frIf (frBd (fr_Rd_isWord _ _) (fS_mono rfl rfl) hG13 (fun _ G32 hG32 => frT (fr_Rd_condition_b79 _ hRf _ _ _ _) (fS_mono rfl rfl) hG32)) (frT (fr_Rd_condition_b79 _ hRf _ _ _ _) (fS_mono rfl rfl) hG13)))))))))
theorem fr_Rd_loop (Rf : Nat → List Int → St → Option (Int × St)) (hRf : ∀ (i : Nat) (a : List Int) (G : St), Fr (fS [111, 112, 113, 114, 121, 122, 123] [(110, 4), (120, 3), (120, 4), (130, 0), (130, 1), (150, 2), (150, 3), (150, 5), (150, 10), (150, 11), (150, 12), (150, 13), (150, 14), (150, 15)]) G (fun q => q.2) (Rf i a G)) (G : St) : Fr (fS [111, 112, 113, 114, 121, 122, 123] [(110, 4), (120, 3), (120, 4), (130, 0), (130, 1), (150, 2), (150, 3), (150, 5), (150, 10), (150, 11), (150, 12), (150, 13), (150, 14), (150, 15)]) G (fun q => q.2) (Rd_loop Rf G) := by
  unfold Rd_loop
  exact frBd (fr_Cd_add _ _ _ _ _) (fS_mono rfl rfl) fq_rf (fun _ G2 hG2 => frCI (frTk (fq_upK rfl hG2) (fun G3 hG3 => frBd (fr_Rd_name _) (fS_mono rfl rfl) hG3 (fun _ G5 hG5 => frBd (fr_Cd_add _ _ _ _ _) (fS_mono rfl rfl) hG5 (fun _ G7 hG7 => frBd (fr_Rd_sign _ _) (fS_mono rfl rfl) hG7 (fun _ G9 hG9 => frBd (fr_Rd_exprO _) (fS_mono rfl rfl) hG9 (fun _ G11 hG11 => frBd (fr_Cd_add _ _ _ _ _) (fS_mono rfl rfl) hG11 (fun _ G13 hG13 => frBd (fr_Rd_word _ _) (fS_mono rfl rfl) hG13 (fun _ G15 hG15 => frBd (fr_Rd_exprO _) (fS_mono rfl rfl) hG15 (fun _ G17 hG17 => frBd (fr_Cd_add _ _ _ _ _) (fS_mono rfl rfl) hG17 (fun _ G19 hG19 => frBd (fr_Cd_add _ _ _ _ _) (fS_mono rfl rfl) hG19 (fun _ G21 hG21 => frBd (hRf _ _ _) (fun _ _ h => h) hG21 (fun _ G23 hG23 => frBd (fr_Cd_add _ _ _ _ _) (fS_mono rfl rfl) hG23 (fun _ G25 hG25 => frCB (frTk (fq_upL rfl hG25) (fun G26 hG26 => frS hG26))))))))))))))))
theorem fr_RS : ∀ (d i : Nat) (a : List Int) (G : St), Fr (fS [111, 112, 113, 114, 121, 122, 123] [(110, 4), (120, 3), (120, 4), (130, 0), (130, 1), (150, 2), (150, 3), (150, 5), (150, 10), (150, 11), (150, 12), (150, 13), (150, 14), (150, 15)]) G (fun q => q.2) (RS d i a G)
  | 0, _, _, _ => frN
  | d + 1, 0, a, G => fr_Rd_statement _ (fr_RS d)  G
  | d + 1, 1, a, G => fr_Rd_block _ (fr_RS d)  G
  | d + 1, 2, a, G => fr_Rd_condition _ (fr_RS d)  G
  | d + 1, 3, a, G => fr_Rd_loop _ (fr_RS d)  G
  | _ + 1, _ + 4, _, _ => frN
theorem fr_Rd_statementO (G : St) : Fr (fS [111, 112, 113, 114, 121, 122, 123] [(110, 4), (120, 3), (120, 4), (130, 0), (130, 1), (150, 2), (150, 3), (150, 5), (150, 10), (150, 11), (150, 12), (150, 13), (150, 14), (150, 15)]) G (fun q => q.2) (Rd_statementO G) := fr_RS _ _ _ _
theorem fr_Rd_blockO (G : St) : Fr (fS [111, 112, 113, 114, 121, 122, 123] [(110, 4), (120, 3), (120, 4), (130, 0), (130, 1), (150, 2), (150, 3), (150, 5), (150, 10), (150, 11), (150, 12), (150, 13), (150, 14), (150, 15)]) G (fun q => q.2) (Rd_blockO G) := fr_RS _ _ _ _
theorem fr_Rd_conditionO (G : St) : Fr (fS [111, 112, 113, 114, 121, 122, 123] [(110, 4), (120, 3), (120, 4), (130, 0), (130, 1), (150, 2), (150, 3), (150, 5), (150, 10), (150, 11), (150, 12), (150, 13), (150, 14), (150, 15)]) G (fun q => q.2) (Rd_conditionO G) := fr_RS _ _ _ _
theorem fr_Rd_loopO (G : St) : Fr (fS [111, 112, 113, 114, 121, 122, 123] [(110, 4), (120, 3), (120, 4), (130, 0), (130, 1), (150, 2), (150, 3), (150, 5), (150, 10), (150, 11), (150, 12), (150, 13), (150, 14), (150, 15)]) G (fun q => q.2) (Rd_loopO G) := fr_RS _ _ _ _
theorem fr_Rd_item (P W : Int) (G : St) : Fr (fS [111, 112, 113, 114, 121, 122, 123] [(110, 4), (120, 3), (120, 4), (130, 0), (130, 1), (150, 2), (150, 3), (150, 4), (150, 5), (150, 10), (150, 11), (150, 12), (150, 13), (150, 14), (150, 15)]) G (fun q => q.2) (Rd_item P W G) := by
  unfold Rd_item
  exact frBd (fr_Rd_isWord _ _) (fS_mono rfl rfl) fq_rf (fun _ G2 hG2 => frIf (frBd (fr_Rd_isWord _ _) (fS_mono rfl rfl) hG2 (fun _ G4 hG4 => frIf (frBd (fr_Rd_isWord _ _) (fS_mono rfl rfl) hG4 (fun _ G6 hG6 => frIf (frBd (fr_Rd_statementO _) (fS_mono rfl rfl) hG6 (fun _ G8 hG8 => frS hG8)) (frBd (fr_Rd_output _) (fS_mono rfl rfl) hG6 (fun _ G10 hG10 => frS hG10)))) (frBd (fr_Rd_def _) (fS_mono rfl rfl) hG4 (fun _ G12 hG12 => frS hG12)))) (frBd (fr_Rd_input _ _ _) (fS_mono rfl rfl) hG2 (fun _ G14 hG14 => frS hG14)))
theorem fr_Rd_read_b72 (P W : Int) (G : St) : Fr (fS [111, 112, 113, 114] [(110, 4)]) G (fun q => q.2) (Rd_read_b72 P W G) := by
  unfold Rd_read_b72
  exact frBd (fr_Cd_add _ _ _ _ _) (fS_mono rfl rfl) fq_rf (fun _ G10 hG10 => frS hG10)
theorem fr_Rd_read_s40 (P W : Int) (G : St) : Fr (fS [111, 112, 113, 114, 121, 122, 123] [(110, 4), (120, 3), (120, 4), (130, 0), (130, 1), (150, 2), (150, 3), (150, 4), (150, 5), (150, 10), (150, 11), (150, 12), (150, 13), (150, 14), (150, 15)]) G (Sum.elim (fun q => q) (fun q => q.2)) (Rd_read_s40 P W G) := by
  unfold Rd_read_s40
  exact frIf (frBd (fr_Ft_is _) (fS_mono rfl rfl) fq_rf (fun _ G12 hG12 => frIf (frBd (fr_Rd_item _ _ _) (fS_mono rfl rfl) hG12 (fun _ G14 hG14 => frBd (fr_Rd_skip _) (fS_mono rfl rfl) hG14 (fun _ G16 hG16 => frS hG16))) (frEx (frT (fr_Rd_read_b72 _ _ _) (fS_mono rfl rfl) hG12)))) (frEx (frT (fr_Rd_read_b72 _ _ _) (fS_mono rfl rfl) fq_rf))
theorem fr_Rd_read_l40 (P W : Int) (G : St) : Fr (fS [111, 112, 113, 114, 121, 122, 123] [(110, 4), (120, 3), (120, 4), (130, 0), (130, 1), (150, 2), (150, 3), (150, 4), (150, 5), (150, 10), (150, 11), (150, 12), (150, 13), (150, 14), (150, 15)]) G (fun q => q.2) (Rd_read_l40 P W G) := frWh (pi := fun (s : (St)) => s) (fun (s : (St)) => fr_Rd_read_s40 P W s)
theorem fr_Rd_read (P W : Int) (x2 : Int) (G : St) : Fr (fS [111, 112, 113, 114, 121, 122, 123, 151] [(110, 4), (120, 3), (120, 4), (130, 0), (130, 1), (150, 1), (150, 2), (150, 3), (150, 4), (150, 5), (150, 10), (150, 11), (150, 12), (150, 13), (150, 14), (150, 15)]) G (fun q => q.2) (Rd_read P W x2 G) := by
  unfold Rd_read
  exact frCA (frCA (frTk (fq_acp rfl fq_rf) (fun G1 hG1 => frTk (fq_upK rfl hG1) (fun G2 hG2 => frTk (fq_upK rfl hG2) (fun G3 hG3 => frTk (fq_upK rfl hG3) (fun G4 hG4 => frTk (fq_upK rfl hG4) (fun G5 hG5 => frTk (fq_upK rfl hG5) (fun G6 hG6 => frBd (fr_Rd_skip _) (fS_mono rfl rfl) hG6 (fun _ G8 hG8 => frT (fr_Rd_read_l40 _ _ _) (fS_mono rfl rfl) hG8)))))))))
theorem fr_Ho_compile_s131 (P W : Int) (x2 : Int) (G : St) : Fr (fS [104] [(100, 18)]) G (Sum.elim (fun q => q.2) (fun q => q.2)) (Ho_compile_s131 P W x2 G) := by
  unfold Ho_compile_s131
  exact frIf (frCB (frTk (fq_upL rfl fq_rf) (fun G23 hG23 => frCI (frS hG23)))) (frEx (frCB (frTk (fq_upK rfl fq_rf) (fun G22 hG22 => frS hG22))))
theorem fr_Ho_compile_l131 (P W : Int) (x2 : Int) (G : St) : Fr (fS [104] [(100, 18)]) G (fun q => q.2) (Ho_compile_l131 P W x2 G) := frWh (pi := fun (s : (Int × St)) => s.2) (fun (s : (Int × St)) => fr_Ho_compile_s131 P W s.1 s.2)
theorem fr_Ho_compile_b104 (P W : Int) (G : St) : Fr (fS [104, 221, 222, 223, 224, 225, 226, 227, 228, 229] [(100, 18), (220, 12)]) G (fun q => q.2) (Ho_compile_b104 P W G) := by
  unfold Ho_compile_b104
  exact frBd (fr_Ft_is _) (fS_mono rfl rfl) fq_rf (fun _ G19 hG19 => frIf (frBd (fr_Pl_make _ _ _) (fS_mono rfl rfl) hG19 (fun _ G21 hG21 => frT (fr_Ho_compile_l131 _ _ _ _) (fS_mono rfl rfl) hG21)) (frS hG19))
theorem fr_Ho_circuitLook_b52 (P W : Int) (G : St) : Fr (fS [] []) G (fun q => q.2) (Ho_circuitLook_b52 P W G) := by
  unfold Ho_circuitLook_b52
  exact frS fq_rf
theorem fr_Ho_circuitLook_b60 (P W : Int) (G : St) : Fr (fS [] []) G (fun q => q.2) (Ho_circuitLook_b60 P W G) := by
  unfold Ho_circuitLook_b60
  exact frS fq_rf
theorem fr_Ho_circuitLook_b68 (P W : Int) (G : St) : Fr (fS [] []) G (fun q => q.2) (Ho_circuitLook_b68 P W G) := by
  unfold Ho_circuitLook_b68
  exact frS fq_rf
theorem fr_Ho_circuitLook_b76 (P W : Int) (G : St) : Fr (fS [] []) G (fun q => q.2) (Ho_circuitLook_b76 P W G) := by
  unfold Ho_circuitLook_b76
  exact frS fq_rf
theorem fr_Ho_circuitLook_b84 (P W : Int) (G : St) : Fr (fS [] []) G (fun q => q.2) (Ho_circuitLook_b84 P W G) := by
  unfold Ho_circuitLook_b84
  exact frS fq_rf
theorem fr_Ho_circuitLook_b92 (P W : Int) (G : St) : Fr (fS [] []) G (fun q => q.2) (Ho_circuitLook_b92 P W G) := by
  unfold Ho_circuitLook_b92
  exact frS fq_rf
theorem fr_Ho_circuitLook_b100 (P W : Int) (G : St) : Fr (fS [] []) G (fun q => q.2) (Ho_circuitLook_b100 P W G) := by
  unfold Ho_circuitLook_b100
  exact frCI (frCI (frCI (frCI (frCI (frCI (frS fq_rf))))))
theorem fr_Ho_circuitLook_b132 (P W : Int) (G : St) : Fr (fS [] []) G (fun q => q.2) (Ho_circuitLook_b132 P W G) := by
  unfold Ho_circuitLook_b132
  exact frS fq_rf
theorem fr_Ho_circuitLook (P W : Int) (x1 : Int) (G : St) : Fr (fS [] []) G (fun q => q.2) (Ho_circuitLook P W x1 G) := by
  unfold Ho_circuitLook
  exact frIf (frS fq_rf) (frSwt (List.forall_mem_cons.mpr ⟨frT (fr_Ho_circuitLook_b52 _ _ _) (fS_mono rfl rfl) fq_rf, (List.forall_mem_cons.mpr ⟨frT (fr_Ho_circuitLook_b60 _ _ _) (fS_mono rfl rfl) fq_rf, (List.forall_mem_cons.mpr ⟨frT (fr_Ho_circuitLook_b68 _ _ _) (fS_mono rfl rfl) fq_rf, (List.forall_mem_cons.mpr ⟨frT (fr_Ho_circuitLook_b76 _ _ _) (fS_mono rfl rfl) fq_rf, (List.forall_mem_cons.mpr ⟨frT (fr_Ho_circuitLook_b84 _ _ _) (fS_mono rfl rfl) fq_rf, (List.forall_mem_cons.mpr ⟨frT (fr_Ho_circuitLook_b92 _ _ _) (fS_mono rfl rfl) fq_rf, (List.forall_mem_cons.mpr ⟨frT (fr_Ho_circuitLook_b100 _ _ _) (fS_mono rfl rfl) fq_rf, (fun _ h => nomatch h)⟩)⟩)⟩)⟩)⟩)⟩)⟩) (frT (fr_Ho_circuitLook_b132 _ _ _) (fS_mono rfl rfl) fq_rf))
theorem fr_Pa_isDone (p : Int) (G : St) : Fr (fS [] []) G (fun q => q.2) (Pa_isDone p G) := by
  unfold Pa_isDone
  exact frCI (frCB (frS fq_rf))
theorem fr_Ho_done_b37 (P W : Int) (x2 : Int) (s0 : Int) (s1 : Int) (G : St) : Fr (fS [] []) G (Sum.elim (fun q => q.2.2) (fun q => q.2)) (Ho_done_b37 P W x2 s0 s1 G) := by
  unfold Ho_done_b37
  exact frCI (frCI (frS fq_rf))
theorem fr_Ho_done_s4 (P W : Int) (x1 : Int) (x2 : Int) (G : St) : Fr (fS [] []) G (Sum.elim (fun q => q.2.2) (fun q => q.2)) (Ho_done_s4 P W x1 x2 G) := by
  unfold Ho_done_s4
  exact frIf (frIf (frT (fr_Ho_done_b37 _ _ _ _ _ _) (fS_mono rfl rfl) fq_rf) (frCQ (fun _ => frBd (fr_Pa_isDone _ _) (fS_mono rfl rfl) fq_rf (fun _ G3 hG3 => frT (fr_Ho_done_b37 _ _ _ _ _ _) (fS_mono rfl rfl) hG3)))) (frEx (frS fq_rf))
theorem fr_Ho_done_l4 (P W : Int) (x1 : Int) (x2 : Int) (G : St) : Fr (fS [] []) G (fun q => q.2) (Ho_done_l4 P W x1 x2 G) := frWh (pi := fun (s : (Int × Int × St)) => s.2.2) (fun (s : (Int × Int × St)) => fr_Ho_done_s4 P W s.1 s.2.1 s.2.2)
theorem fr_Ho_done (P W : Int) (G : St) : Fr (fS [] []) G (fun q => q.2) (Ho_done P W G) := by
  unfold Ho_done
  exact frT (fr_Ho_done_l4 _ _ _ _ _) (fS_mono rfl rfl) fq_rf
theorem fr_Ho_look_b76 (P W : Int) (G : St) : Fr (fS [] []) G (fun q => q.2) (Ho_look_b76 P W G) := by
  unfold Ho_look_b76
  exact frS fq_rf
theorem fr_Ho_look_b84 (P W : Int) (x1 : Int) (G : St) : Fr (fS [] []) G (fun q => q.2) (Ho_look_b84 P W x1 G) := by
  unfold Ho_look_b84
  exact frBd (fr_Ho_circuitLook _ _ _ _) (fS_mono rfl rfl) fq_rf (fun _ G2 hG2 => frS hG2)
theorem fr_Ho_look_b90 (P W : Int) (G : St) : Fr (fS [] []) G (fun q => q.2) (Ho_look_b90 P W G) := by
  unfold Ho_look_b90
  exact frS fq_rf
theorem fr_Ho_look_b95 (P W : Int) (G : St) : Fr (fS [] []) G (fun q => q.2) (Ho_look_b95 P W G) := by
  unfold Ho_look_b95
  exact frS fq_rf
theorem fr_Ho_look_b100 (P W : Int) (G : St) : Fr (fS [] []) G (fun q => q.2) (Ho_look_b100 P W G) := by
  unfold Ho_look_b100
  exact frBd (fr_Ho_done _ _ _) (fS_mono rfl rfl) fq_rf (fun _ G4 hG4 => frS hG4)
theorem fr_Ho_look_b105 (P W : Int) (G : St) : Fr (fS [] []) G (fun q => q.2) (Ho_look_b105 P W G) := by
  unfold Ho_look_b105
  exact frS fq_rf
theorem fr_Ho_look_b129 (P W : Int) (G : St) : Fr (fS [] []) G (fun q => q.2) (Ho_look_b129 P W G) := by
  unfold Ho_look_b129
  exact frS fq_rf
theorem fr_Ho_look_b137 (P W : Int) (G : St) : Fr (fS [] []) G (fun q => q.2) (Ho_look_b137 P W G) := by
  unfold Ho_look_b137
  exact frS fq_rf
theorem fr_Ho_look (P W : Int) (x1 : Int) (G : St) : Fr (fS [] []) G (fun q => q.2) (Ho_look P W x1 G) := by
  unfold Ho_look
  exact frSwt (List.forall_mem_cons.mpr ⟨frT (fr_Ho_look_b76 _ _ _) (fS_mono rfl rfl) fq_rf, (List.forall_mem_cons.mpr ⟨frT (fr_Ho_look_b84 _ _ _ _) (fS_mono rfl rfl) fq_rf, (List.forall_mem_cons.mpr ⟨frT (fr_Ho_look_b84 _ _ _ _) (fS_mono rfl rfl) fq_rf, (List.forall_mem_cons.mpr ⟨frT (fr_Ho_look_b84 _ _ _ _) (fS_mono rfl rfl) fq_rf, (List.forall_mem_cons.mpr ⟨frT (fr_Ho_look_b84 _ _ _ _) (fS_mono rfl rfl) fq_rf, (List.forall_mem_cons.mpr ⟨frT (fr_Ho_look_b84 _ _ _ _) (fS_mono rfl rfl) fq_rf, (List.forall_mem_cons.mpr ⟨frT (fr_Ho_look_b84 _ _ _ _) (fS_mono rfl rfl) fq_rf, (List.forall_mem_cons.mpr ⟨frT (fr_Ho_look_b84 _ _ _ _) (fS_mono rfl rfl) fq_rf, (List.forall_mem_cons.mpr ⟨frT (fr_Ho_look_b84 _ _ _ _) (fS_mono rfl rfl) fq_rf, (List.forall_mem_cons.mpr ⟨frT (fr_Ho_look_b90 _ _ _) (fS_mono rfl rfl) fq_rf, (List.forall_mem_cons.mpr ⟨frT (fr_Ho_look_b95 _ _ _) (fS_mono rfl rfl) fq_rf, (List.forall_mem_cons.mpr ⟨frT (fr_Ho_look_b100 _ _ _) (fS_mono rfl rfl) fq_rf, (List.forall_mem_cons.mpr ⟨frT (fr_Ho_look_b105 _ _ _) (fS_mono rfl rfl) fq_rf, (List.forall_mem_cons.mpr ⟨frT (fr_Ho_look_b129 _ _ _) (fS_mono rfl rfl) fq_rf, (List.forall_mem_cons.mpr ⟨frT (fr_Ho_look_b137 _ _ _) (fS_mono rfl rfl) fq_rf, (fun _ h => nomatch h)⟩)⟩)⟩)⟩)⟩)⟩)⟩)⟩)⟩)⟩)⟩)⟩)⟩)⟩)⟩) (frS fq_rf)
theorem fr_Ho_gate_b56 (x1 : Int) (G : St) : Fr (fS [] []) G (fun q => q.2) (Ho_gate_b56 x1 G) := by
  unfold Ho_gate_b56
  exact frCB (frS fq_rf)
theorem fr_Ho_gate_b74 (x1 : Int) (G : St) : Fr (fS [] []) G (fun q => q.2) (Ho_gate_b74 x1 G) := by
  unfold Ho_gate_b74
  exact frCB (frS fq_rf)
theorem fr_Ho_gate_b84 (x1 : Int) (G : St) : Fr (fS [] []) G (fun q => q.2) (Ho_gate_b84 x1 G) := by
  unfold Ho_gate_b84
  exact frCB (frS fq_rf)
theorem fr_Ho_gate_b94 (x1 : Int) (G : St) : Fr (fS [] []) G (fun q => q.2) (Ho_gate_b94 x1 G) := by
  unfold Ho_gate_b94
  exact frCB (frS fq_rf)
theorem fr_Ho_gate (x1 : Int) (x2 : Int) (G : St) : Fr (fS [] []) G (fun q => q.2) (Ho_gate x1 x2 G) := by
  unfold Ho_gate
  exact frIf (frS fq_rf) (frIf (frS fq_rf) (frIf (frSwt (List.forall_mem_cons.mpr ⟨frT (fr_Ho_gate_b56 _ _) (fS_mono rfl rfl) fq_rf, (List.forall_mem_cons.mpr ⟨frT (fr_Ho_gate_b74 _ _) (fS_mono rfl rfl) fq_rf, (List.forall_mem_cons.mpr ⟨frT (fr_Ho_gate_b84 _ _) (fS_mono rfl rfl) fq_rf, (List.forall_mem_cons.mpr ⟨frT (fr_Ho_gate_b94 _ _) (fS_mono rfl rfl) fq_rf, (fun _ h => nomatch h)⟩)⟩)⟩)⟩) (frS fq_rf)) (frS fq_rf)))
theorem fr_Ho_isOutput (x1 : Int) (G : St) : Fr (fS [] []) G (fun q => q.2) (Ho_isOutput x1 G) := by
  unfold Ho_isOutput
  exact frCB (frS fq_rf)
theorem fr_Ho_literal (P W : Int) (x1 : Int) (x2 : Int) (G : St) : Fr (fS [] []) G (fun q => q.2) (Ho_literal P W x1 x2 G) := by
  unfold Ho_literal
  exact frBd (fr_Ho_isOutput _ _) (fS_mono rfl rfl) fq_rf (fun _ G2 hG2 => frIf (frS hG2) (frIf (frS hG2) (frCB (frIf (frCI (frCI (frCB (frS hG2)))) (frS hG2)))))
theorem fr_Ho_isInput (x1 : Int) (G : St) : Fr (fS [] []) G (fun q => q.2) (Ho_isInput x1 G) := by
  unfold Ho_isInput
  exact frCB (frS fq_rf)
theorem fr_Ho_input_b40 (x1 : Int) (G : St) : Fr (fS [] []) G (fun q => q.2) (Ho_input_b40 x1 G) := by
  unfold Ho_input_b40
  exact frCB (frS fq_rf)
theorem fr_Ho_input_b51 (x1 : Int) (G : St) : Fr (fS [] []) G (fun q => q.2) (Ho_input_b51 x1 G) := by
  unfold Ho_input_b51
  exact frCB (frS fq_rf)
theorem fr_Ho_input_b62 (x1 : Int) (G : St) : Fr (fS [] []) G (fun q => q.2) (Ho_input_b62 x1 G) := by
  unfold Ho_input_b62
  exact frCB (frCB (frCL (frS fq_rf)))
theorem fr_Ho_input_b84 (G : St) : Fr (fS [] []) G (fun q => q.2) (Ho_input_b84 G) := by
  unfold Ho_input_b84
  exact frS fq_rf
theorem fr_Ho_input (x1 : Int) (x2 : Int) (G : St) : Fr (fS [] []) G (fun q => q.2) (Ho_input x1 x2 G) := by
  unfold Ho_input
  exact frBd (fr_Ho_isInput _ _) (fS_mono rfl rfl) fq_rf (fun _ G2 hG2 => frIf (frS hG2) (frSwt (List.forall_mem_cons.mpr ⟨frT (fr_Ho_input_b40 _ _) (fS_mono rfl rfl) hG2, (List.forall_mem_cons.mpr ⟨frT (fr_Ho_input_b51 _ _) (fS_mono rfl rfl) hG2, (List.forall_mem_cons.mpr ⟨frT (fr_Ho_input_b62 _ _) (fS_mono rfl rfl) hG2, (fun _ h => nomatch h)⟩)⟩)⟩) (frT (fr_Ho_input_b84 _) (fS_mono rfl rfl) hG2)))
theorem fr_Ho_give (x1 : Int) (x2 : Int) (G : St) : Fr (fS [104] []) G (fun q => q.2) (Ho_give x1 x2 G) := by
  unfold Ho_give
  exact frBd (fr_Ho_isInput _ _) (fS_mono rfl rfl) fq_rf (fun _ G2 hG2 => frIf (frCB (frS hG2)) (frCB (frTk (fq_upL rfl hG2) (fun G3 hG3 => frCB (frS hG3)))))
theorem fr_Ho_seed (x1 : Int) (G : St) : Fr (fS [] [(240, 3)]) G (fun q => q.2) (Ho_seed x1 G) := by
  unfold Ho_seed
  exact frTk (fq_upK rfl fq_rf) (fun G1 hG1 => frS hG1)
theorem fr_Bt_get (o : Int) (x1 : Int) (G : St) : Fr (fS [] []) G (fun q => q.2) (Bt_get o x1 G) := by
  unfold Bt_get
  exact frCD (frCB (frCD (frS fq_rf)))
theorem fr_Dr_draw (G : St) : Fr (fS [] [(240, 1), (240, 2), (240, 3)]) G (fun q => q.2) (Dr_draw G) := by
  unfold Dr_draw
  exact frIf (frBd (fr_Bt_get _ _ _) (fS_mono rfl rfl) fq_rf (fun _ G3 hG3 => frCD (frTk (fq_upK rfl hG3) (fun G4 hG4 => frTk (fq_upK rfl hG4) (fun G5 hG5 => frS hG5))))) (frTk (fq_upK rfl fq_rf) (fun G1 hG1 => frS hG1))
theorem fr_Ho_cutInputs_b127 (P W : Int) (x1 : Int) (x2 : Int) (x3 : Int) (x4 : Int) (x5 : Int) (x6 : Int) (G : St) : Fr (fS [] []) G (Sum.elim (fun q => q.2.2) (Sum.elim (fun q => q.2) (Sum.elim (fun q => q.2) (fun q => q.2)))) (Ho_cutInputs_b127 P W x1 x2 x3 x4 x5 x6 G) := by
  unfold Ho_cutInputs_b127
  exact frCI (frS fq_rf)
theorem fr_Ho_send_b66 (P W : Int) (x1 : Int) (x2 : Int) (G : St) : Fr (fS [] []) G (Sum.elim (fun q => q.2) (fun q => q.2)) (Ho_send_b66 P W x1 x2 G) := by
  unfold Ho_send_b66
  exact frCI (frS fq_rf)
theorem fr_Ho_send_s2 (P W : Int) (x1 : Int) (x2 : Int) (G : St) : Fr (fS [170, 171, 172] [(100, 23)]) G (Sum.elim (fun q => q.2) (fun q => q.2)) (Ho_send_s2 P W x1 x2 G) := by
  unfold Ho_send_s2
  exact frIf (frIf (frT (fr_Ho_send_b66 _ _ _ _ _) (fS_mono rfl rfl) fq_rf) (frCB (frTk (fq_upL rfl fq_rf) (fun G1 hG1 => frCB (frTk (fq_upL rfl hG1) (fun G2 hG2 => frCQ (fun _ => frCB (frTk (fq_upL rfl hG2) (fun G4 hG4 => frCI (frTk (fq_upK rfl hG4) (fun G5 hG5 => frT (fr_Ho_send_b66 _ _ _ _ _) (fS_mono rfl rfl) hG5))))))))))) (frEx (frCI (frS fq_rf)))
theorem fr_Ho_send_l2 (P W : Int) (x1 : Int) (x2 : Int) (G : St) : Fr (fS [170, 171, 172] [(100, 23)]) G (fun q => q.2) (Ho_send_l2 P W x1 x2 G) := frWh (pi := fun (s : (Int × St)) => s.2) (fun (s : (Int × St)) => fr_Ho_send_s2 P W x1 s.1 s.2)
theorem fr_Ho_send (P W : Int) (x1 : Int) (G : St) : Fr (fS [170, 171, 172] [(100, 23)]) G (fun q => q.2) (Ho_send P W x1 G) := by
  unfold Ho_send
  exact frT (fr_Ho_send_l2 _ _ _ _ _) (fS_mono rfl rfl) fq_rf
theorem fr_Ho_deal_s91 (P W : Int) (x1 : Int) (G : St) : Fr (fS [170, 171, 172] [(100, 23)]) G (Sum.elim (fun q => q.2) (fun q => q.2)) (Ho_deal_s91 P W x1 G) := by
  unfold Ho_deal_s91
  exact frIf (frBd (fr_Ho_send _ _ _ _) (fS_mono rfl rfl) fq_rf (fun _ G7 hG7 => frCI (frS hG7))) (frEx (frCB (frS fq_rf)))
theorem fr_Ho_deal_l91 (P W : Int) (x1 : Int) (G : St) : Fr (fS [170, 171, 172] [(100, 23)]) G (fun q => q.2) (Ho_deal_l91 P W x1 G) := frWh (pi := fun (s : (Int × St)) => s.2) (fun (s : (Int × St)) => fr_Ho_deal_s91 P W s.1 s.2)
theorem fr_Ho_deal_b43 (P W : Int) (x1 : Int) (G : St) : Fr (fS [] []) G (Sum.elim (fun q => q.2) (fun q => q.2)) (Ho_deal_b43 P W x1 G) := by
  unfold Ho_deal_b43
  exact frCI (frS fq_rf)
theorem fr_Pa_shareOf_b14 (p : Int) (x1 : Int) (s0 : Int) (G : St) : Fr (fS [] []) G (fun q => q.2) (Pa_shareOf_b14 p x1 s0 G) := by
  unfold Pa_shareOf_b14
  exact frIf (frS fq_rf) (frCD (frBd (fr_Bt_get _ _ _) (fS_mono rfl rfl) fq_rf (fun _ G2 hG2 => frS hG2)))
theorem fr_Pa_shareOf (p : Int) (x1 : Int) (G : St) : Fr (fS [] []) G (fun q => q.2) (Pa_shareOf p x1 G) := by
  unfold Pa_shareOf
  exact frIf (frT (fr_Pa_shareOf_b14 _ _ _ _) (fS_mono rfl rfl) fq_rf) (frT (fr_Pa_shareOf_b14 _ _ _ _) (fS_mono rfl rfl) fq_rf)
theorem fr_Pl_wireOf (P W : Int) (x1 : Int) (x2 : Int) (G : St) : Fr (fS [] []) G (fun q => q.2) (Pl_wireOf P W x1 x2 G) := by
  unfold Pl_wireOf
  exact frCB (frCI (frCB (frS fq_rf)))
theorem fr_Pa_bit (P W : Int) (p : Int) (p1 : Int) (x2 : Int) (x3 : Int) (G : St) : Fr (fS [] []) G (fun q => q.2) (Pa_bit P W p p1 x2 x3 G) := by
  unfold Pa_bit
  exact frIf (frBd (fr_Pl_wireOf _ _ _ _ _) (fS_mono rfl rfl) fq_rf (fun _ G12 hG12 => frBd (fr_Bt_get _ _ _) (fS_mono rfl rfl) hG12 (fun _ G14 hG14 => frS hG14))) (frIf (frCB (frBd (fr_Pa_shareOf _ _ _) (fS_mono rfl rfl) fq_rf (fun _ G10 hG10 => frS hG10))) (frCB (frCD (frCI (frCB (frCD (frIf (frCB (frBd (fr_Pa_shareOf _ _ _) (fS_mono rfl rfl) fq_rf (fun _ G6 hG6 => frBd (fr_Bt_get _ _ _) (fS_mono rfl rfl) hG6 (fun _ G8 hG8 => frS hG8)))) (frCB (frBd (fr_Pa_shareOf _ _ _) (fS_mono rfl rfl) fq_rf (fun _ G2 hG2 => frBd (fr_Bt_get _ _ _) (fS_mono rfl rfl) hG2 (fun _ G4 hG4 => frS hG4)))))))))))
theorem fr_Pl_owned (P W : Int) (x1 : Int) (G : St) : Fr (fS [] []) G (fun q => q.2) (Pl_owned P W x1 G) := by
  unfold Pl_owned
  exact frCI (frCB (frCB (frCI (frS fq_rf))))
theorem fr_Pl_length (P W : Int) (x1 : Int) (x2 : Int) (G : St) : Fr (fS [] []) G (fun q => q.2) (Pl_length P W x1 x2 G) := by
  unfold Pl_length
  exact frIf (frBd (fr_Pl_owned _ _ _ _) (fS_mono rfl rfl) fq_rf (fun _ G2 hG2 => frS hG2)) (frIf (frS fq_rf) (frCI (frCB (frCB (frCI (frCI (frS fq_rf)))))))
theorem fr_Ho_message_b64 (P W : Int) (x1 : Int) (G : St) : Fr (fS [] []) G (fun q => q.2) (Ho_message_b64 P W x1 G) := by
  unfold Ho_message_b64
  exact frCB (frS fq_rf)
theorem fr_Ho_message_b71 (P W : Int) (x1 : Int) (G : St) : Fr (fS [] []) G (fun q => q.2) (Ho_message_b71 P W x1 G) := by
  unfold Ho_message_b71
  exact frCB (frS fq_rf)
theorem fr_Ho_message_b78 (P W : Int) (x1 : Int) (G : St) : Fr (fS [] []) G (fun q => q.2) (Ho_message_b78 P W x1 G) := by
  unfold Ho_message_b78
  exact frCB (frS fq_rf)
theorem fr_Ho_message_b85 (P W : Int) (x3 : Int) (G : St) : Fr (fS [] []) G (fun q => q.2) (Ho_message_b85 P W x3 G) := by
  unfold Ho_message_b85
  exact frS fq_rf
theorem fr_Ho_message_b87 (P W : Int) (x1 : Int) (x2 : Int) (x3 : Int) (G : St) : Fr (fS [] []) G (fun q => q.2) (Ho_message_b87 P W x1 x2 x3 G) := by
  unfold Ho_message_b87
  exact frIf (frS fq_rf) (frCI (frIf (frCB (frCQ (fun _ => frCB (frCQ (fun _ => frCB (frCI (frBd (fr_Pa_bit _ _ _ _ _ _ _) (fS_mono rfl rfl) fq_rf (fun _ G6 hG6 => frS hG6)))))))) (frS fq_rf)))
theorem fr_Ho_message (P W : Int) (x1 : Int) (x2 : Int) (G : St) : Fr (fS [] []) G (fun q => q.2) (Ho_message P W x1 x2 G) := by
  unfold Ho_message
  exact frIf (frS fq_rf) (frIf (frCB (frCB (frBd (fr_Pl_length _ _ _ _ _) (fS_mono rfl rfl) fq_rf (fun _ G2 hG2 => frSwt (List.forall_mem_cons.mpr ⟨frT (fr_Ho_message_b64 _ _ _ _) (fS_mono rfl rfl) hG2, (List.forall_mem_cons.mpr ⟨frT (fr_Ho_message_b71 _ _ _ _) (fS_mono rfl rfl) hG2, (List.forall_mem_cons.mpr ⟨frT (fr_Ho_message_b78 _ _ _ _) (fS_mono rfl rfl) hG2, (List.forall_mem_cons.mpr ⟨frT (fr_Ho_message_b85 _ _ _ _) (fS_mono rfl rfl) hG2, (fun _ h => nomatch h)⟩)⟩)⟩)⟩) (frT (fr_Ho_message_b87 _ _ _ _ _ _) (fS_mono rfl rfl) hG2))))) (frS fq_rf))
theorem fr_Pa_product_b113 (P W : Int) (p : Int) (s0 : Int) (s1 : Int) (G : St) : Fr (fS [] []) G (fun q => q.2) (Pa_product_b113 P W p s0 s1 G) := by
  unfold Pa_product_b113
  exact frS fq_rf
theorem fr_Pa_product_s9 (P W : Int) (p : Int) (x2 : Int) (x3 : Int) (x4 : Int) (x5 : Int) (x6 : Int) (G : St) : Fr (fS [] []) G (Sum.elim (fun q => q.2.2.2) (fun q => q.2)) (Pa_product_s9 P W p x2 x3 x4 x5 x6 G) := by
  unfold Pa_product_s9
  exact frIf (frCQ (fun _ => frBd (fr_Pa_bit _ _ _ _ _ _ _) (fS_mono rfl rfl) fq_rf (fun _ G9 hG9 => frCQ (fun _ => frCI (frBd (fr_Pa_bit _ _ _ _ _ _ _) (fS_mono rfl rfl) hG9 (fun _ G12 hG12 => frCI (frS hG12))))))) (frEx (frBd (fr_Bt_get _ _ _) (fS_mono rfl rfl) fq_rf (fun _ G2 hG2 => frBd (fr_Bt_get _ _ _) (fS_mono rfl rfl) hG2 (fun _ G4 hG4 => frBd (fr_Bt_get _ _ _) (fS_mono rfl rfl) hG4 (fun _ G6 hG6 => frIf (frT (fr_Pa_product_b113 _ _ _ _ _ _) (fS_mono rfl rfl) hG6) (frT (fr_Pa_product_b113 _ _ _ _ _ _) (fS_mono rfl rfl) hG6))))))
theorem fr_Pa_product_l9 (P W : Int) (p : Int) (x2 : Int) (x3 : Int) (x4 : Int) (x5 : Int) (x6 : Int) (G : St) : Fr (fS [] []) G (fun q => q.2) (Pa_product_l9 P W p x2 x3 x4 x5 x6 G) := frWh (pi := fun (s : (Int × Int × Int × St)) => s.2.2.2) (fun (s : (Int × Int × Int × St)) => fr_Pa_product_s9 P W p x2 x3 s.1 s.2.1 s.2.2.1 s.2.2.2)
theorem fr_Pa_product (P W : Int) (p : Int) (x2 : Int) (x3 : Int) (G : St) : Fr (fS [] []) G (fun q => q.2) (Pa_product P W p x2 x3 G) := by
  unfold Pa_product
  exact frT (fr_Pa_product_l9 _ _ _ _ _ _ _ _ _) (fS_mono rfl rfl) fq_rf
theorem fr_Ho_deliver_b172 (P W : Int) (p4 : Int) (s0 : Int) (s1 : Int) (G : St) : Fr (fS [] []) G (Sum.elim (fun q => q.2) (fun q => q.2)) (Ho_deliver_b172 P W p4 s0 s1 G) := by
  unfold Ho_deliver_b172
  exact frCI (frS fq_rf)
theorem fr_Ho_rush_b49 (P W : Int) (x3 : Int) (G : St) : Fr (fS [] []) G (fun q => q.2) (Ho_rush_b49 P W x3 G) := by
  unfold Ho_rush_b49
  exact frS fq_rf
theorem fr_Ho_isParty (P W : Int) (x1 : Int) (G : St) : Fr (fS [] []) G (fun q => q.2) (Ho_isParty P W x1 G) := by
  unfold Ho_isParty
  exact frCB (frS fq_rf)
theorem fr_Pa_ownBits (P W : Int) (p : Int) (G : St) : Fr (fS [] []) G (fun q => q.2) (Pa_ownBits P W p G) := by
  unfold Pa_ownBits
  exact frBd (fr_Pl_owned _ _ _ _) (fS_mono rfl rfl) fq_rf (fun _ G2 hG2 => frCI (frS hG2))
theorem fr_Pa_viewSize_s20 (P W : Int) (p : Int) (x1 : Int) (x2 : Int) (G : St) : Fr (fS [] []) G (Sum.elim (fun q => q.2.2) (fun q => q.2)) (Pa_viewSize_s20 P W p x1 x2 G) := by
  unfold Pa_viewSize_s20
  exact frIf (frCB (frCD (frCB (frCD (frBd (fr_Pl_length _ _ _ _ _) (fS_mono rfl rfl) fq_rf (fun _ G4 hG4 => frCI (frCI (frS hG4)))))))) (frEx (frS fq_rf))
theorem fr_Pa_viewSize_l20 (P W : Int) (p : Int) (x1 : Int) (x2 : Int) (G : St) : Fr (fS [] []) G (fun q => q.2) (Pa_viewSize_l20 P W p x1 x2 G) := frWh (pi := fun (s : (Int × Int × St)) => s.2.2) (fun (s : (Int × Int × St)) => fr_Pa_viewSize_s20 P W p s.1 s.2.1 s.2.2)
theorem fr_Pa_viewSize (P W : Int) (p : Int) (G : St) : Fr (fS [] []) G (fun q => q.2) (Pa_viewSize P W p G) := by
  unfold Pa_viewSize
  exact frBd (fr_Pa_ownBits _ _ _ _) (fS_mono rfl rfl) fq_rf (fun _ G2 hG2 => frCI (frCI (frT (fr_Pa_viewSize_l20 _ _ _ _ _ _) (fS_mono rfl rfl) hG2)))
theorem fr_Ho_party (P W : Int) (x1 : Int) (x2 : Int) (G : St) : Fr (fS [] []) G (fun q => q.2) (Ho_party P W x1 x2 G) := by
  unfold Ho_party
  exact frBd (fr_Ho_isParty _ _ _ _) (fS_mono rfl rfl) fq_rf (fun _ G2 hG2 => frIf (frS hG2) (frIf (frCQ (fun _ => frS hG2)) (frIf (frCQ (fun _ => frS hG2)) (frIf (frCQ (fun _ => frBd (fr_Pa_viewSize _ _ _ _) (fS_mono rfl rfl) hG2 (fun _ G5 hG5 => frS hG5))) (frS hG2)))))
theorem fr_Ho_dealt (P W : Int) (x1 : Int) (x2 : Int) (x3 : Int) (G : St) : Fr (fS [] []) G (fun q => q.2) (Ho_dealt P W x1 x2 x3 G) := by
  unfold Ho_dealt
  exact frBd (fr_Ho_isParty _ _ _ _) (fS_mono rfl rfl) fq_rf (fun _ G2 hG2 => frIf (frS hG2) (frIf (frS hG2) (frIf (frCB (frIf (frS hG2) (frIf (frCQ (fun _ => frBd (fr_Bt_get _ _ _) (fS_mono rfl rfl) hG2 (fun _ G11 hG11 => frS hG11))) (frIf (frCQ (fun _ => frBd (fr_Bt_get _ _ _) (fS_mono rfl rfl) hG2 (fun _ G8 hG8 => frS hG8))) (frIf (frCQ (fun _ => frBd (fr_Bt_get _ _ _) (fS_mono rfl rfl) hG2 (fun _ G5 hG5 => frS hG5))) (frS hG2)))))) (frS hG2))))
theorem fr_Ho_share_b65 (P W : Int) (x1 : Int) (x2 : Int) (s0 : Int) (G : St) : Fr (fS [] []) G (fun q => q.2) (Ho_share_b65 P W x1 x2 s0 G) := by
  unfold Ho_share_b65
  exact frCQ (fun _ => frIf (frCQ (fun _ => frBd (fr_Bt_get _ _ _) (fS_mono rfl rfl) fq_rf (fun _ G6 hG6 => frS hG6))) (frS fq_rf))
theorem fr_Ho_share (P W : Int) (x1 : Int) (x2 : Int) (G : St) : Fr (fS [] []) G (fun q => q.2) (Ho_share P W x1 x2 G) := by
  unfold Ho_share
  exact frBd (fr_Ho_isParty _ _ _ _) (fS_mono rfl rfl) fq_rf (fun _ G2 hG2 => frIf (frS hG2) (frIf (frS hG2) (frCI (frIf (frIf (frT (fr_Ho_share_b65 _ _ _ _ _ _) (fS_mono rfl rfl) hG2) (frCI (frCB (frT (fr_Ho_share_b65 _ _ _ _ _ _) (fS_mono rfl rfl) hG2)))) (frS hG2)))))
theorem fr_Pa_and_b44 (p : Int) (x3 : Int) (s0 : Int) (s1 : Int) (G : St) : Fr (fS [] []) G (Sum.elim (fun q => q.2.2) (fun q => q.2)) (Pa_and_b44 p x3 s0 s1 G) := by
  unfold Pa_and_b44
  exact frCI (frCI (frS fq_rf))
theorem fr_Pa_and_b23 (p : Int) (x2 : Int) (x3 : Int) (G : St) : Fr (fS [] []) G (Sum.elim (fun q => q.2.2) (fun q => q.2)) (Pa_and_b23 p x2 x3 G) := by
  unfold Pa_and_b23
  exact frCB (frT (fr_Pa_and_b44 _ _ _ _ _) (fS_mono rfl rfl) fq_rf)
theorem fr_Pa_and_s4 (p : Int) (x2 : Int) (x3 : Int) (G : St) : Fr (fS [] []) G (Sum.elim (fun q => q.2.2) (fun q => q.2)) (Pa_and_s4 p x2 x3 G) := by
  unfold Pa_and_s4
  exact frIf (frT (fr_Pa_and_b23 _ _ _ _) (fS_mono rfl rfl) fq_rf) (frCB (frIf (frT (fr_Pa_and_b23 _ _ _ _) (fS_mono rfl rfl) fq_rf) (frEx (frS fq_rf))))
theorem fr_Pa_and_l4 (p : Int) (x2 : Int) (x3 : Int) (G : St) : Fr (fS [] []) G (fun q => q.2) (Pa_and_l4 p x2 x3 G) := frWh (pi := fun (s : (Int × Int × St)) => s.2.2) (fun (s : (Int × Int × St)) => fr_Pa_and_s4 p s.1 s.2.1 s.2.2)
theorem fr_Pa_and (p : Int) (x1 : Int) (G : St) : Fr (fS [] []) G (fun q => q.2) (Pa_and p x1 G) := by
  unfold Pa_and
  exact frT (fr_Pa_and_l4 _ _ _ _) (fS_mono rfl rfl) fq_rf
theorem fr_Pa_view_s216 (P W : Int) (p : Int) (x5 : Int) (x6 : Int) (G : St) : Fr (fS [] []) G (Sum.elim (fun q => q.2.2) (fun q => q.2)) (Pa_view_s216 P W p x5 x6 G) := by
  unfold Pa_view_s216
  exact frIf (frCB (frCD (frCB (frCD (frBd (fr_Pl_length _ _ _ _ _) (fS_mono rfl rfl) fq_rf (fun _ G8 hG8 => frIf (frEx (frCB (frCD (frCQ (fun _ => frCB (frCD (frBd (fr_Pa_bit _ _ _ _ _ _ _) (fS_mono rfl rfl) hG8 (fun _ G11 hG11 => frS hG11)))))))) (frCI (frCI (frS hG8))))))))) (frEx (frS fq_rf))
theorem fr_Pa_view_l216 (P W : Int) (p : Int) (x5 : Int) (x6 : Int) (G : St) : Fr (fS [] []) G (fun q => q.2) (Pa_view_l216 P W p x5 x6 G) := frWh (pi := fun (s : (Int × Int × St)) => s.2.2) (fun (s : (Int × Int × St)) => fr_Pa_view_s216 P W p s.1 s.2.1 s.2.2)
theorem fr_Pa_view_b79 (P W : Int) (p : Int) (x3 : Int) (x4 : Int) (s0 : Int) (G : St) : Fr (fS [] []) G (fun q => q.2) (Pa_view_b79 P W p x3 x4 s0 G) := by
  unfold Pa_view_b79
  exact frCQ (fun _ => frCI (frCI (frCD (frBd (fr_Pl_wireOf _ _ _ _ _) (fS_mono rfl rfl) fq_rf (fun _ G22 hG22 => frBd (fr_Bt_get _ _ _) (fS_mono rfl rfl) hG22 (fun _ G24 hG24 => frS hG24))))))
theorem fr_Pa_view (P W : Int) (p : Int) (x3 : Int) (G : St) : Fr (fS [] []) G (fun q => q.2) (Pa_view P W p x3 G) := by
  unfold Pa_view
  exact frBd (fr_Pl_owned _ _ _ _) (fS_mono rfl rfl) fq_rf (fun _ G2 hG2 => frIf (frBd (fr_Pl_wireOf _ _ _ _ _) (fS_mono rfl rfl) hG2 (fun _ G26 hG26 => frBd (fr_Bt_get _ _ _) (fS_mono rfl rfl) hG26 (fun _ G28 hG28 => frS hG28))) (frBd (fr_Pa_ownBits _ _ _ _) (fS_mono rfl rfl) hG2 (fun _ G4 hG4 => frIf (frCI (frCI (frCD (frIf (frT (fr_Pa_view_b79 _ _ _ _ _ _ _) (fS_mono rfl rfl) hG4) (frCI (frT (fr_Pa_view_b79 _ _ _ _ _ _ _) (fS_mono rfl rfl) hG4)))))) (frBd (fr_Pa_ownBits _ _ _ _) (fS_mono rfl rfl) hG4 (fun _ G6 hG6 => frCI (frCI (frIf (frCD (frBd (fr_Pa_and _ _ _) (fS_mono rfl rfl) hG6 (fun _ G13 hG13 => frCD (frIf (frBd (fr_Bt_get _ _ _) (fS_mono rfl rfl) hG13 (fun _ G19 hG19 => frS hG19)) (frCD (frIf (frBd (fr_Bt_get _ _ _) (fS_mono rfl rfl) hG13 (fun _ G17 hG17 => frS hG17)) (frBd (fr_Bt_get _ _ _) (fS_mono rfl rfl) hG13 (fun _ G15 hG15 => frS hG15)))))))) (frCI (frCI (frT (fr_Pa_view_l216 _ _ _ _ _ _) (fS_mono rfl rfl) hG6))))))))))
theorem fr_Ho_view (P W : Int) (x1 : Int) (x2 : Int) (G : St) : Fr (fS [] []) G (fun q => q.2) (Ho_view P W x1 x2 G) := by
  unfold Ho_view
  exact frBd (fr_Ho_isParty _ _ _ _) (fS_mono rfl rfl) fq_rf (fun _ G2 hG2 => frIf (frS hG2) (frIf (frS hG2) (frCQ (fun _ => frBd (fr_Pa_view _ _ _ _ _) (fS_mono rfl rfl) hG2 (fun _ G5 hG5 => frS hG5)))))
theorem fr_Ho_told_b28 (P W : Int) (G : St) : Fr (fS [] []) G (fun q => q.2) (Ho_told_b28 P W G) := by
  unfold Ho_told_b28
  exact frS fq_rf
theorem fr_Ho_told_s57 (P W : Int) (x2 : Int) (x3 : Int) (x5 : Int) (x6 : Int) (x7 : Int) (G : St) : Fr (fS [] []) G (Sum.elim (fun q => q.2.2) (Sum.elim (fun q => q.2.2) (fun q => q.2))) (Ho_told_s57 P W x2 x3 x5 x6 x7 G) := by
  unfold Ho_told_s57
  exact frIf (frCQ (fun _ => frCI (frCI (frCB (frBd (fr_Pa_shareOf _ _ _) (fS_mono rfl rfl) fq_rf (fun _ G10 hG10 => frCI (frS hG10))))))) (frEx (frCI (frS fq_rf)))
theorem fr_Ho_told_l57 (P W : Int) (x2 : Int) (x3 : Int) (x5 : Int) (x6 : Int) (x7 : Int) (G : St) : Fr (fS [] []) G (Sum.elim (fun q => q.2.2) (fun q => q.2)) (Ho_told_l57 P W x2 x3 x5 x6 x7 G) := frWh (pi := fun (s : (Int × Int × St)) => s.2.2) (fun (s : (Int × Int × St)) => fr_Ho_told_s57 P W x2 x3 x5 s.1 s.2.1 s.2.2)
theorem fr_Ho_told_s37 (P W : Int) (x2 : Int) (x3 : Int) (x5 : Int) (G : St) : Fr (fS [] []) G (Sum.elim (fun q => q.2.2) (fun q => q.2)) (Ho_told_s37 P W x2 x3 x5 G) := by
  unfold Ho_told_s37
  exact frCB (frIf (frT (fr_Ho_told_l57 _ _ _ _ _ _ _ _) (fS_mono rfl rfl) fq_rf) (frEx (frS fq_rf)))
theorem fr_Ho_told_l37 (P W : Int) (x2 : Int) (x3 : Int) (x5 : Int) (G : St) : Fr (fS [] []) G (fun q => q.2) (Ho_told_l37 P W x2 x3 x5 G) := frWh (pi := fun (s : (Int × Int × St)) => s.2.2) (fun (s : (Int × Int × St)) => fr_Ho_told_s37 P W x2 s.1 s.2.1 s.2.2)
theorem fr_Ho_told (P W : Int) (x1 : Int) (x2 : Int) (G : St) : Fr (fS [] []) G (fun q => q.2) (Ho_told P W x1 x2 G) := by
  unfold Ho_told
  exact frBd (fr_Ho_isParty _ _ _ _) (fS_mono rfl rfl) fq_rf (fun _ G2 hG2 => frIf (frT (fr_Ho_told_b28 _ _ _) (fS_mono rfl rfl) hG2) (frCQ (fun _ => frBd (fr_Pa_isDone _ _) (fS_mono rfl rfl) hG2 (fun _ G5 hG5 => frIf (frT (fr_Ho_told_b28 _ _ _) (fS_mono rfl rfl) hG5) (frBd (fr_Ho_isOutput _ _) (fS_mono rfl rfl) hG5 (fun _ G7 hG7 => frIf (frT (fr_Ho_told_b28 _ _ _) (fS_mono rfl rfl) hG7) (frT (fr_Ho_told_l37 _ _ _ _ _ _) (fS_mono rfl rfl) hG7)))))))
theorem fr_Ho_plainOf (x1 : Int) (G : St) : Fr (fS [] []) G (fun q => q.2) (Ho_plainOf x1 G) := by
  unfold Ho_plainOf
  exact frIf (frS fq_rf) (frCD (frBd (fr_Bt_get _ _ _) (fS_mono rfl rfl) fq_rf (fun _ G2 hG2 => frS hG2)))
theorem fr_Ho_truth_s195 (P W : Int) (x1 : Int) (x2 : Int) (x4 : Int) (G : St) : Fr (fS [] []) G (Sum.elim (fun q => q.2.2) (fun q => q.2)) (Ho_truth_s195 P W x1 x2 x4 G) := by
  unfold Ho_truth_s195
  exact frCB (frIf (frCI (frCI (frCB (frBd (fr_Ho_plainOf _ _) (fS_mono rfl rfl) fq_rf (fun _ G4 hG4 => frCI (frS hG4)))))) (frEx (frS fq_rf)))
theorem fr_Ho_truth_l195 (P W : Int) (x1 : Int) (x2 : Int) (x4 : Int) (G : St) : Fr (fS [] []) G (fun q => q.2) (Ho_truth_l195 P W x1 x2 x4 G) := frWh (pi := fun (s : (Int × Int × St)) => s.2.2) (fun (s : (Int × Int × St)) => fr_Ho_truth_s195 P W x1 s.1 s.2.1 s.2.2)
