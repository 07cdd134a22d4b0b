/-! PLAIN: the arguments of a call -/
theorem caT_s {T : St} {hd g l : Int} (hh : T 123 (T 100 20 - 1) = hd) (h1 : hd < T 100 13) (hl : l = 0 ∨ l = 1) :
    kT T (caT T g l) ∧ caT T g l 100 6 = T 100 6 + 1 ∧ caT T g l 100 13 = T 100 13 + 2 - l ∧ caT T g l 100 19 = T 100 19 - 1 ∧ caT T g l 100 20 = T 100 20 - 1 ∧ caT T g l 100 26 = T 100 26 ∧ (∀ o k, 115 ≤ o → ¬ (o = 117 ∧ k = hd) → k < T 100 13 ∨ 119 < o → caT T g l o k = T o k) ∧ caT T g l 117 hd = g ∧ (l = 0 → caT T g l 115 (T 100 13) = 16 ∧ caT T g l 116 (T 100 13) = hd) ∧ caT T g l 115 (T 100 13 + 1 - l) = 9 ∧ caT T g l 118 (T 100 13 + 1 - l) = T 124 (T 100 20 - 1) ∧ caT T g l 100 25 = T 100 25 := by
  unfold caT
  rw [hh]
  have kX : kT T (up (up (up (up T 100 6 (T 100 6 + 1)) 100 20 (T 100 20 - 1)) 100 19 (T 100 19 - 1)) 117 hd g) := (((kT_up (Or.inr (by decide)) _ _).tr (kT_up (Or.inr (by decide)) _ _)).tr (kT_up (Or.inr (by decide)) _ _)).tr (kT_up (Or.inl (by decide)) _ _)
  have x1 : up (up (up (up T 100 6 (T 100 6 + 1)) 100 20 (T 100 20 - 1)) 100 19 (T 100 19 - 1)) 117 hd g 100 6 = T 100 6 + 1 := by rw [up_o _ (by decide), up_k _ (by decide), up_k _ (by decide), up_s]
  have x2 : up (up (up (up T 100 6 (T 100 6 + 1)) 100 20 (T 100 20 - 1)) 100 19 (T 100 19 - 1)) 117 hd g 100 13 = T 100 13 := by rw [up_o _ (by decide), up_k _ (by decide), up_k _ (by decide), up_k _ (by decide)]
  have x3 : up (up (up (up T 100 6 (T 100 6 + 1)) 100 20 (T 100 20 - 1)) 100 19 (T 100 19 - 1)) 117 hd g 100 19 = T 100 19 - 1 := by rw [up_o _ (by decide), up_s]
  have x4 : up (up (up (up T 100 6 (T 100 6 + 1)) 100 20 (T 100 20 - 1)) 100 19 (T 100 19 - 1)) 117 hd g 100 20 = T 100 20 - 1 := by rw [up_o _ (by decide), up_k _ (by decide), up_s]
  have x5 : up (up (up (up T 100 6 (T 100 6 + 1)) 100 20 (T 100 20 - 1)) 100 19 (T 100 19 - 1)) 117 hd g 100 26 = T 100 26 := by rw [up_o _ (by decide), up_k _ (by decide), up_k _ (by decide), up_k _ (by decide)]
  have x6 : up (up (up (up T 100 6 (T 100 6 + 1)) 100 20 (T 100 20 - 1)) 100 19 (T 100 19 - 1)) 117 hd g 100 25 = T 100 25 := by rw [up_o _ (by decide), up_k _ (by decide), up_k _ (by decide), up_k _ (by decide)]
  have x7 : ∀ o k, 115 ≤ o → ¬ (o = 117 ∧ k = hd) → up (up (up (up T 100 6 (T 100 6 + 1)) 100 20 (T 100 20 - 1)) 100 19 (T 100 19 - 1)) 117 hd g o k = T o k := fun o k q q2 => by rw [up_ap, if_neg q2, up_o _ (by omega), up_o _ (by omega), up_o _ (by omega)]
  have x8 : up (up (up (up T 100 6 (T 100 6 + 1)) 100 20 (T 100 20 - 1)) 100 19 (T 100 19 - 1)) 117 hd g 117 hd = g := up_s _ _ _ _
  generalize up (up (up (up T 100 6 (T 100 6 + 1)) 100 20 (T 100 20 - 1)) 100 19 (T 100 19 - 1)) 117 hd g = X at kX x1 x2 x3 x4 x5 x6 x7 x8 ⊢
  generalize T 116 hd = u
  generalize T 124 (T 100 20 - 1) = p
  rcases hl with h | h
  · subst h
    rw [if_pos rfl]
    have v := adT_v X 16 hd 0 (T 100 6 + 1)
    rw [x2] at v
    have y : ∀ o j, ¬ ((o = 115 ∨ o = 116 ∨ o = 117 ∨ o = 118) ∧ j = T 100 13) → ¬ (o = 100 ∧ j = 13) → adT X 16 hd 0 (T 100 6 + 1) o j = X o j := fun o j q q2 => adT_o (by rw [x2]; exact q) q2
    have ym : adT X 16 hd 0 (T 100 6 + 1) 100 13 = T 100 13 + 1 := by rw [adT_s, x2]
    have ky := kX.tr (kT_ad X 16 hd 0 (T 100 6 + 1))
    generalize adT X 16 hd 0 (T 100 6 + 1) = Y at v y ym ky ⊢
    have v2 := adT_v Y 9 u 0 p
    rw [ym] at v2
    have z : ∀ o j, ¬ ((o = 115 ∨ o = 116 ∨ o = 117 ∨ o = 118) ∧ j = T 100 13 + 1) → ¬ (o = 100 ∧ j = 13) → adT Y 9 u 0 p o j = Y o j := fun o j q q2 => adT_o (by rw [ym]; exact q) q2
    refine ⟨ky.tr (kT_ad _ _ _ _ _), ?_, ?_, ?_, ?_, ?_, ?_, ?_, ?_, ?_, ?_, ?_⟩
    · rw [z _ _ (by omega) (by omega), y _ _ (by omega) (by omega)]; exact x1
    · rw [adT_s, ym]; omega
    · rw [z _ _ (by omega) (by omega), y _ _ (by omega) (by omega)]; exact x3
    · rw [z _ _ (by omega) (by omega), y _ _ (by omega) (by omega)]; exact x4
    · rw [z _ _ (by omega) (by omega), y _ _ (by omega) (by omega)]; exact x5
    · intro o k q1 q2 q3
      rw [z _ _ (by omega) (by omega), y _ _ (by omega) (by omega)]; exact x7 o k q1 q2
    · rw [z _ _ (by omega) (by omega), y _ _ (by omega) (by omega)]; exact x8
    · intro _
      exact ⟨by rw [z _ _ (by omega) (by omega)]; exact v.1, by rw [z _ _ (by omega) (by omega)]; exact v.2.1⟩
    · rw [show T 100 13 + 1 - 0 = T 100 13 + 1 by omega]; exact v2.1
    · rw [show T 100 13 + 1 - 0 = T 100 13 + 1 by omega]; exact v2.2.2.2
    · rw [z _ _ (by omega) (by omega), y _ _ (by omega) (by omega)]; exact x6
  · subst h
    rw [if_neg (by decide)]
    have v2 := adT_v X 9 u 0 p
    rw [x2] at v2
    have z : ∀ o j, ¬ ((o = 115 ∨ o = 116 ∨ o = 117 ∨ o = 118) ∧ j = T 100 13) → ¬ (o = 100 ∧ j = 13) → adT X 9 u 0 p o j = X o j := fun o j q q2 => adT_o (by rw [x2]; exact q) q2
    refine ⟨kX.tr (kT_ad _ _ _ _ _), ?_, ?_, ?_, ?_, ?_, ?_, ?_, ?_, ?_, ?_, ?_⟩
    · rw [z _ _ (by omega) (by omega)]; exact x1
    · rw [adT_s, x2]; omega
    · rw [z _ _ (by omega) (by omega)]; exact x3
    · rw [z _ _ (by omega) (by omega)]; exact x4
    · rw [z _ _ (by omega) (by omega)]; exact x5
    · intro o k q1 q2 q3
      rw [z _ _ (by omega) (by omega)]; exact x7 o k q1 q2
    · rw [z _ _ (by omega) (by omega)]; exact x8
    · intro h; exact absurd h (by decide)
    · rw [show T 100 13 + 1 - 1 = T 100 13 by omega]; exact v2.1
    · rw [show T 100 13 + 1 - 1 = T 100 13 by omega]; exact v2.2.2.2
    · rw [z _ _ (by omega) (by omega)]; exact x6
theorem cmT_s {T : St} (u : Int) : kT T (cmT T u) ∧ cmT T u 100 6 = T 100 6 + 1 ∧ cmT T u 100 13 = T 100 13 + 1 ∧ cmT T u 100 19 = T 100 19 ∧ cmT T u 100 20 = T 100 20 ∧ cmT T u 100 26 = T 100 26 ∧ (∀ o k, 115 ≤ o → ¬ (o = 125 ∧ k = T 100 20 - 1) → k < T 100 13 ∨ 119 < o → cmT T u o k = T o k) ∧ cmT T u 125 (T 100 20 - 1) = T 125 (T 100 20 - 1) + 1 ∧ cmT T u 115 (T 100 13) = 16 ∧ cmT T u 116 (T 100 13) = u ∧ cmT T u 100 25 = 1 := by
  unfold cmT
  have v := adT_v T 16 u 0 (T 100 6)
  have s := TS_ad T 16 u 0 (T 100 6)
  have y : ∀ o j, ¬ ((o = 115 ∨ o = 116 ∨ o = 117 ∨ o = 118) ∧ j = T 100 13) → ¬ (o = 100 ∧ j = 13) → adT T 16 u 0 (T 100 6) o j = T o j := fun o j q q2 => adT_o q q2
  generalize adT T 16 u 0 (T 100 6) = X at v s y ⊢
  obtain ⟨s1, s2, s3, s4, s5, s6, s7⟩ := s
  refine ⟨((s1.tr (kT_up (Or.inl (by decide)) _ _)).tr (kT_up (Or.inr (by decide)) _ _)).tr (kT_up (Or.inr (by decide)) _ _), ?_, ?_, ?_, ?_, ?_, ?_, ?_, ?_, ?_, up_s _ _ _ _⟩
  · rw [up_k _ (by decide), up_s]
  · rw [up_k _ (by decide), up_k _ (by decide), up_o _ (by decide)]; exact s3
  · rw [up_k _ (by decide), up_k _ (by decide), up_o _ (by decide)]; exact s4
  · rw [up_k _ (by decide), up_k _ (by decide), up_o _ (by decide)]; exact s5
  · rw [up_k _ (by decide), up_k _ (by decide), up_o _ (by decide)]; exact s6
  · intro o k q1 q2 q3
    rw [up_o _ (by omega), up_o _ (by omega), up_ap, if_neg q2]; exact y o k (by omega) (by omega)
  · rw [up_o _ (by decide), up_o _ (by decide), up_s]
  · rw [up_o _ (by decide), up_o _ (by decide), up_o _ (by decide)]; exact v.1
  · rw [up_o _ (by decide), up_o _ (by decide), up_o _ (by decide)]; exact v.2.1
theorem arg_wf {n : Int} {f : Int → Int} {P W i m g z y : Int} {Gk Tk G5 T5 G' T' : St} (hW : WF P W Gk Tk 1 i (Gk 110 4) m (Tk 100 13) g z y) (hO : OKX n f P W Gk Tk G5 T5) (hy : y = 31 - Gk 150 3) (g0 : 0 ≤ g) (i0 : 0 ≤ i) (m0 : 0 ≤ m) (c : agC G5 G' i (G5 110 4)) (t : agT T5 T' m (T5 100 13)) (r1 : G' 111 (G5 110 4) = 29) (r2 : G' 112 (G5 110 4) = z) (r3 : G' 114 (G5 110 4) = g) (s1 : T' 115 (T5 100 13) = 16) (s2 : 0 ≤ T' 116 (T5 100 13)) : WF P W G' T' 1 i (G5 110 4 + 1) m (T5 100 13 + 1) (g + 1) z y := by
  obtain ⟨p1, p2, p3, p4, p5, p6, p7, p8, p9, p10, p11, p12⟩ := hO
  have l1 := wf_le hW
  have l2 := wf_le p7
  have w1 := (hW.cg (G1 := G') (T1 := T')).2.2 ((p6.mono i0 (Int.le_refl _)).tr c (Int.le_refl _) (by omega)) ((p5.1.mono m0 (Int.le_refl _)).tr t (Int.le_refl _) (by omega))
  have w2 := (p7.cg (G1 := G') (T1 := T')).2.2 (c.mono (by omega) (Int.le_refl _)) (t.mono (by omega) (Int.le_refl _))
  exact wf_arg P W _ _ _ _ _ _ _ _ _ _ _ _ w1 w2 (by omega) g0 r1 r2 r3 s1 s2
/-- between two arguments of a call: g are read -/
def CI (n : Int) (f : Int → Int) (P W : Int) (G1 T1 : St) (z a g : Int) (Gk Tk : St) : Prop :=
  PR n f Gk Tk ∧ Gk 150 3 = G1 150 3 + 1 ∧ Tk 100 20 = T1 100 20 + 1 ∧ Tk 100 26 = T1 100 26 ∧ tb T1 Tk ∧ agC G1 Gk 0 (G1 110 4) ∧
  (Gk 111 (G1 110 4) = 28 ∧ Gk 112 (G1 110 4) = z ∧ Gk 113 (G1 110 4) = a) ∧ (Tk 115 (T1 100 13) = 1 ∧ Tk 115 (T1 100 13 + 1) = 8 ∧ Tk 116 (T1 100 13 + 1) = z ∧ Tk 118 (T1 100 13 + 1) = a) ∧
  WF P W Gk Tk 1 (G1 110 4 + 1) (Gk 110 4) (T1 100 13 + 2) (Tk 100 13) g z (31 - (G1 150 3 + 1)) ∧
  (Tk 122 (T1 100 20) = 7 ∧ Tk 123 (T1 100 20) = T1 100 13 + 1 ∧ Tk 124 (T1 100 20) = a ∧ Tk 125 (T1 100 20) = g) ∧ (0 ≤ g ∧ g ≤ Gk 150 2) ∧
  Gk 110 4 + 2 * G1 150 2 + 1 ≤ G1 110 4 + 2 * Gk 150 2 ∧ Tk 100 13 + 4 * T1 100 6 + 2 ≤ T1 100 13 + 4 * Tk 100 6
/-- the call is closed -/
theorem call_fin {n : Int} {f : Int → Int} {P W z a g j q : Int} {G1 T1 Gk Tk G' T' : St} (hP : PR n f G1 T1) (hC : agC Gk G' 0 (G1 110 4)) (hT : tb T1 T') (c6 : agC G1 Gk 0 (G1 110 4)) (pr : PR n f G' T') (e1 : T' 100 20 = T1 100 20) (e2 : T' 100 26 = T1 100 26) (e3 : G' 150 3 = G1 150 3) (e4 : G' 110 4 = j + 1) (e5 : T' 100 13 = q + 1) (e6 : G1 150 2 < G' 150 2) (e7 : G' 110 4 + 2 * G1 150 2 ≤ G1 110 4 + 2 * G' 150 2) (e8 : T' 100 13 + 4 * T1 100 6 ≤ T1 100 13 + 4 * T' 100 6)
    (g1 : G' 111 (G1 110 4) = 28) (g2 : G' 112 (G1 110 4) = z) (g3 : G' 113 (G1 110 4) = a) (g4 : G' 114 (G1 110 4) = g) (t1 : T' 115 (T1 100 13) = 1) (t2 : T' 115 (T1 100 13 + 1) = 8) (t3 : T' 116 (T1 100 13 + 1) = z) (t4 : T' 117 (T1 100 13 + 1) = g) (t5 : T' 118 (T1 100 13 + 1) = a) (wf : WF P W G' T' 1 (G1 110 4 + 1) j (T1 100 13 + 2) q g z (31 - (G1 150 3 + 1))) (h1 : G' 111 j = 30) (h2 : G' 112 j = z) (h3 : G' 113 j = a) (h4 : G' 114 j = g) (k1 : T' 115 q = 9) (k2 : T' 118 q = a) : OKX n f P W G1 T1 G' T' := by
  have l := wf_le wf
  refine ⟨pr, e1, e2, e3, hT, c6.tr hC (Int.le_refl _) (Int.le_refl _), ?_, ?_, by omega, e6, e7, e8⟩
  · rw [e4, e5]
    exact wf_call P W _ _ _ _ _ _ g _ (31 - (G1 150 3 + 1)) g1 g4 t1 t2 (by rw [t3, g2]) t4 (by rw [t5, g3]) (by rw [g2]; exact wf) (by omega) h1 (by rw [h2, g2]) (by rw [h3, g3]) h4 k1 (by rw [k2, g3])
  · rw [e5, show q + 1 - 1 = q by omega, k1]; decide
