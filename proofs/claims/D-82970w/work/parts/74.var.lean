/-! PLAIN: variables -/
/-- the words of inputs and variables are counted alike -/
def VQ (G T : St) : Prop := (G 150 5 = T 100 30 ∧ 0 ≤ T 100 30 ∧ T 100 30 ≤ 256) ∧ (G 150 4 = T 100 29 ∧ 0 ≤ T 100 29 ∧ T 100 29 ≤ 256)
theorem FX.ps' {w p : Int} {T : St} (h : FX w p T) : 0 < T 100 7 := by have h1 := h.1; have h2 := h.2.2; omega
theorem PR.vt {n : Int} {f : Int → Int} {G T : St} (h : PR n f G T) {k : Int} (v : Int) (hk : k = 29 ∨ k = 30) : PR n f G (up T 100 k v) := by
  obtain ⟨⟨x1, x2, x3, x4, x5⟩, ⟨z1, z2, z3, z4⟩, w1, w2, w3, w4⟩ := h
  have u : ∀ j, j ≠ 29 → j ≠ 30 → up T 100 k v 100 j = T 100 j := fun j h1 h2 => up_k _ (by omega)
  have a : ∀ o, o ≠ 100 → up T 100 k v o = T o := fun o ho => funext fun j => up_o _ ho
  refine ⟨⟨x1, x2.at _ _ (by omega), ?_, x4, ?_⟩, ⟨z1, ?_, ?_, z4⟩, ?_, w2, ?_, w4⟩
  · rw [u 6 (by decide) (by decide)]; exact x3
  · rw [u 7 (by decide) (by decide)]; exact x5
  · unfold NmT at *
    rw [u 9 (by decide) (by decide), a 111 (by decide), a 112 (by decide)]; exact z2
  · unfold NmR at *
    rw [u 9 (by decide) (by decide), a 111 (by decide), a 112 (by decide), a 105 (by decide)]; exact z3
  · rw [u 19 (by decide) (by decide)]; exact w1
  · rw [u 13 (by decide) (by decide), u 20 (by decide) (by decide), u 26 (by decide) (by decide), u 19 (by decide) (by decide), u 6 (by decide) (by decide)]; exact w3
theorem PR.vg {n : Int} {f : Int → Int} {G T : St} (h : PR n f G T) {k v : Int} (hk : k = 4 ∨ k = 5) (v0 : 0 ≤ v) (v1 : v ≤ 330) : PR n f (up G 150 k v) T := by
  obtain ⟨⟨x1, x2, x3, x4, x5⟩, ⟨z1, z2, z3, z4⟩, w1, w2, w3, w4⟩ := h
  have u : ∀ j, j ≠ 4 → j ≠ 5 → up G 150 k v 150 j = G 150 j := fun j h1 h2 => up_k _ (by omega)
  have a : ∀ o, o ≠ 150 → up G 150 k v o = G o := fun o ho => funext fun j => up_o _ ho
  refine ⟨⟨x1.at _ _ (by omega), x2, ?_, ?_, x5⟩, ⟨?_, z2, ?_, ?_⟩, ?_, ?_, w3, ?_⟩
  · rw [u 2 (by decide) (by decide)]; exact x3
  · rw [a 130 (by decide)]; exact x4
  · unfold NmC at *
    rw [a 120 (by decide), a 122 (by decide), a 123 (by decide)]; exact z1
  · unfold NmR at *
    rw [a 120 (by decide), a 121 (by decide), a 122 (by decide), a 123 (by decide)]; exact z3
  · rw [a 120 (by decide), u 2 (by decide) (by decide)]; exact z4
  · rw [u 3 (by decide) (by decide)]; exact w1
  · rw [a 110 (by decide), u 2 (by decide) (by decide)]; exact w2
  · rcases hk with h | h <;> subst h
    · rw [up_s, up_k _ (by decide)]; omega
    · rw [up_s, up_k _ (by decide)]; omega
/-- an offset above is written -/
theorem TS.wo {T T1 : St} {a m d w : Int} (h : TS T T1 a m d w) {k : Int} (v : Int) (hk : T 100 13 ≤ k) : TS T (up T1 134 k v) a m d w := by
  obtain ⟨x1, x2, x3, x4, x5, x6, x7⟩ := h
  refine ⟨x1.tr (kT_up (Or.inl (by decide)) _ _), ?_, ?_, ?_, ?_, ?_, ?_, ?_⟩
  · rw [up_o _ (by decide)]; exact x2
  · rw [up_o _ (by decide)]; exact x3
  · rw [up_o _ (by decide)]; exact x4
  · rw [up_o _ (by decide)]; exact x5
  · rw [up_o _ (by decide)]; exact x6
  · intro o' k' b1 b2 b3
    rw [up_ap, if_neg (by omega)]; exact x7.1 o' k' b1 b2 b3
  · intro o' k' b1 b2 b3
    rw [up_ap, if_neg (by omega)]; exact x7.2 o' k' b1 b2 b3
theorem sg_fx {n : Int} {f : Int → Int} {c w p : Int} {T T7 : St} (h : TT n f T) (h0 : 0 ≤ T 100 6) (hm : T 100 6 ≤ n) (hF : T 100 7 = 0) (e : Tw_sign c T = some (0, T7)) (fx : FX w p T7) : w = 1 ∧ p = sk n f (T 100 6) := by
  rw [Tw_sign_e h h0 hm hF] at e
  injection e with e
  injection e with e1 e2
  by_cases q : sg n f (sk n f (T 100 6)) c = 1
  · rw [if_pos q] at e2
    have h1 := fx.ps'
    rw [← e2, up_k _ (by decide)] at h1
    omega
  · rw [if_neg q] at e2
    have h1 := fx.1
    have h2 := fx.2.1
    rw [← e2] at h1 h2
    simp [fT, up_ap] at h1 h2
    omega
theorem ft_type {n : Int} {f : Int → Int} {k w p : Int} {G : St} (h : FG n f k w p G) : ∃ G', Rd_type G = some (0, G') ∧ FG n f k w p G' := by
  unfold Rd_type Rd_sort
  have h1 := FG_sk h
  rw [Rd_skip_e h.1 h.2.1, bd_some, show up G 150 2 (sk n f (G 150 2)) = skC n f G from rfl, Ft_is_1 (FG_F h1), bd_some, if_neg (by decide), bd_some, tk_e, tk_e]
  have h12 : FG n f k w p (up (up (skC n f G) 150 11 0) 150 12 0) := by
    obtain ⟨a, b, c, d, e, g, hh, i1, i2, i3, i4, i, j, l, m⟩ := h1
    refine ⟨(a.at _ _ (by decide)).at _ _ (by decide), ?_, ?_, ?_, ?_, ?_, ?_, ?_, ?_, ?_, ?_, ?_, ?_, l, m⟩ <;> simp only [up_ap] <;> simp <;> assumption
  rw [Ft_is_1 (FG_F h12), bd_some, if_neg (by decide)]
  exact ⟨_, rfl, h12⟩
theorem ve_f {n : Int} {f : Int → Int} {k w p z s m q : Int} {G : St} (h : FG n f k w p G) (hk : k ≤ 6000) (s0 : 0 ≤ s) (s1 : s ≤ 1) (m0 : 0 ≤ m) (m1 : m ≤ 64) : ∃ G', Rd_variable_b124 z s m q G = some (0, G') ∧ FG n f (k + 1) w p G' := by
  unfold Rd_variable_b124 Rd_variable_b148
  rw [FG_sign h (by omega) (by decide), bd_some, ckI_p (by omega) (by omega), ckI_p (by omega) (by omega), FG_add_e (FG_sk h) (by omega) z _ _ (by decide) (by decide), bd_some]
  exact ⟨_, rfl, FG_add (FG_sk h) _ _ _ _⟩
/-- the end of a variable's statement -/
theorem ve_ok {n : Int} {f : Int → Int} {P W z a b s m s0 q x : Int} {G T : St} (hP : PR n f G T) (hx : T 100 30 = x) (x0 : 0 ≤ x) (x1 : x + s0 ≤ 256) (c0 : 1 ≤ s0) (hs0 : 0 ≤ s) (hs1 : s ≤ 1) (hm0 : 0 ≤ m) (hm1 : m ≤ 64) (sl : T 100 13 + 2 * T 100 20 + 4 * T 100 26 ≤ 4 * T 100 6 + 3) :
    ∃ G' T', Rd_variable_b124 z s m q G = some (0, G') ∧ Tw_varStatement_b158 P W a b z s0 s m q T = some (0, T') ∧ ((∃ w p, FG n f 1 w p G' ∧ FX w p T' ∧ w = 1 ∧ p = sk n f (G 150 2)) ∨ ∃ c, lkF n f (sk n f (G 150 2)) = 59 ∧ CS G G' c (G 110 4 + 1) (G 150 3) ∧ T' 100 6 = c ∧ T' 100 13 = T 100 13 + 2 ∧ T' 100 19 = T 100 19 ∧ T' 100 20 = T 100 20 ∧ T' 100 26 = T 100 26 ∧ T' 100 30 = x + s0 ∧ T' 100 29 = T 100 29 ∧ tb T T' ∧ PR n f G' T' ∧ G 150 2 < c ∧ T 100 6 < c ∧ c ≤ n ∧ (G' 111 (G 110 4) = 8 ∧ G' 112 (G 110 4) = z ∧ G' 113 (G 110 4) = (if q = 0 then 0 else 1) ∧ G' 114 (G 110 4) = 2 * m + s) ∧ (T' 115 (T 100 13) = 25 ∧ T' 116 (T 100 13) = z ∧ T' 117 (T 100 13) = s ∧ T' 119 (T 100 13) = (if q = 0 then 0 else 65536) + 256 * m ∧ T' 134 (T 100 13) = x ∧ T' 115 (T 100 13 + 1) = 21)) := by
  have N := hP.nums
  unfold Tw_varStatement_b158 Tw_varStatement_b195
  rw [if_neg (by omega), Tw_put_e (by omega) (by omega), bd_some]
  have qb : 0 ≤ (if q = 0 then (0 : Int) else 65536) ∧ (if q = 0 then (0 : Int) else 65536) ≤ 65536 := by split <;> omega
  obtain ⟨Q, hQ⟩ : ∃ Q, Q = (if q = 0 then (0 : Int) else 65536) := ⟨_, rfl⟩
  rw [← hQ] at qb ⊢
  have t1 := TS_ad T 25 z s b
  have v1 := adT_v T 25 z s b
  have f1 : adT T 25 z s b 100 30 = x := by rw [adT_o (by omega) (by omega)]; exact hx
  have i1 : adT T 25 z s b 100 29 = T 100 29 := adT_o (by omega) (by omega)
  generalize adT T 25 z s b = X1 at t1 v1 f1 i1 ⊢
  rw [ckL_p (by omega) (by omega), ckL_p (by omega) (by omega), ckB_p (by omega) (by omega), tk_e]
  have t2 := t1.wr (o := 119) (k := T 100 13) (Q + 256 * m) (by decide) (by omega)
  have v2 : up X1 119 (T 100 13) (Q + 256 * m) 119 (T 100 13) = Q + 256 * m := up_s _ _ _ _
  have k2 : ∀ o k, o ≠ 119 → up X1 119 (T 100 13) (Q + 256 * m) o k = X1 o k := fun o k h => up_o _ h
  generalize up X1 119 (T 100 13) (Q + 256 * m) = X2 at t2 v2 k2 ⊢
  rw [ckB_p (by omega) (by omega), tk_e]
  have t3 := t2.wr (o := 117) (k := T 100 13) s (by decide) (by omega)
  have v3 : up X2 117 (T 100 13) s 117 (T 100 13) = s := up_s _ _ _ _
  have k3 : ∀ o k, o ≠ 117 → up X2 117 (T 100 13) s o k = X2 o k := fun o k h => up_o _ h
  generalize up X2 117 (T 100 13) s = X3 at t3 v3 k3 ⊢
  have y3 : X3 100 30 = x := by rw [k3 _ _ (by decide), k2 _ _ (by decide)]; exact f1
  rw [ckB_p (by omega) (by omega), tk_e, y3]
  have t4 := t3.wo (k := T 100 13) x (by omega)
  have v4 : up X3 134 (T 100 13) x 134 (T 100 13) = x := up_s _ _ _ _
  have k4 : ∀ o k, o ≠ 134 → up X3 134 (T 100 13) x o k = X3 o k := fun o k h => up_o _ h
  generalize up X3 134 (T 100 13) x = X4 at t4 v4 k4 ⊢
  have y4 : X4 100 30 = x := by rw [k4 _ _ (by decide)]; exact y3
  rw [y4, ckI_p (by omega) (by omega), tk_e]
  have p4 : PR n f G X4 := hP.mv (CS.rf G) t4 (by omega) (by omega) (by omega) (by omega) N.1.2.2.2.2 (by omega) (by omega) (by omega) (by omega) (by omega) (by omega) (by omega) (by omega) (by omega)
  have p5 := p4.vt (k := 30) (x + s0) (Or.inr rfl)
  have k5 : ∀ o k, ¬ (o = 100 ∧ k = 30) → up X4 100 30 (x + s0) o k = X4 o k := fun o k h => by rw [up_ap, if_neg h]
  have y5 : up X4 100 30 (x + s0) 100 30 = x + s0 := up_s _ _ _ _
  have e6 : X4 100 29 = T 100 29 := by rw [k4 _ _ (by decide), k3 _ _ (by decide), k2 _ _ (by decide)]; exact i1
  generalize up X4 100 30 (x + s0) = X5 at p5 k5 y5 ⊢
  obtain ⟨a1, a2, a3, a4, a5, a6, a7⟩ := t4
  have m5 : X5 100 13 = T 100 13 + 1 := by rw [k5 _ _ (by omega)]; exact a3
  obtain ⟨G7, T7, e7, e8, R⟩ := P_sign (c := 59) (by decide) p5
  have fr := fr_Tw_sign 59 X5 (0, T7) e8
  have tm : T7 100 13 = X5 100 13 := fr _ _ (by simp [fS])
  clear fr
  rw [e8, bd_some, Tw_put_e (by omega) (by omega), bd_some]
  unfold Rd_variable_b124 Rd_variable_b148
  rw [e7, bd_some, ckI_p (by omega) (by omega), ckI_p (by omega) (by omega)]
  have h5 := sk_ge n f (G 150 2)
  have h5' := sk_ge n f (T 100 6)
  rcases R with ⟨r1', p7, r3', r4'⟩ | ⟨w, p, fg, fx⟩
  · have lt' := lkF_lt (sg_1 r1').1 (by decide)
    have s7 := CS_at G (sk n f (G 150 2) + 1)
    rw [← r3'] at s7
    have z7 := s7.2.2.1
    have s8 := s7.nad (Int.le_refl _) 8 z (if q = 0 then 0 else 1) (2 * m + s)
    have cv := adC_v G7 8 z (if q = 0 then 0 else 1) (2 * m + s)
    rw [z7] at cv
    have x7 := s7.2.1
    rw [Cd_add_e (by omega) (by omega) (by decide) (by decide), bd_some]
    have k7 : ∀ o k, ¬ (o = 100 ∧ (k = 30 ∨ k = 6)) → T7 o k = X4 o k := fun o k h => by rw [r4', up_ap, if_neg (by omega)]; exact k5 o k (by omega)
    have q6 : T7 100 6 = sk n f (G 150 2) + 1 := by rw [r4']; exact up_s _ _ _ _
    have q30 : T7 100 30 = x + s0 := by rw [r4', up_k _ (by decide)]; exact y5
    have t8 := TS_ad T7 21 0 0 a
    have v8 := adT_v T7 21 0 0 a
    rw [tm, m5] at v8
    have k8 : ∀ o k, 115 ≤ o → k < T 100 13 + 1 ∨ 119 < o → adT T7 21 0 0 a o k = X4 o k := fun o k h1 h2 => by rw [adT_o (by omega) (by omega)]; exact k7 o k (by omega)
    have j30 : adT T7 21 0 0 a 100 30 = x + s0 := by rw [adT_o (by omega) (by omega)]; exact q30
    have j29 : adT T7 21 0 0 a 100 29 = T 100 29 := by rw [adT_o (by omega) (by omega), k7 _ _ (by omega)]; exact e6
    have p8 : PR n f (adC G7 8 z (if q = 0 then 0 else 1) (2 * m + s)) (adT T7 21 0 0 a) := by
      have u1 := k7 100 19 (by omega)
      have u2 := k7 100 20 (by omega)
      have u3 := k7 100 26 (by omega)
      have N7 := p7.nums
      exact p7.mv (CS_ad G7 8 z (if q = 0 then 0 else 1) (2 * m + s)) t8 (by omega) (by omega) (by omega) (by omega) N7.1.2.2.2.2 (by omega) (by omega) (by omega) (by omega) (by omega) (by omega) (by omega) (by omega) (by omega)
    obtain ⟨b1, b2, b3, b4, b5, b6, b7⟩ := t8
    refine ⟨_, _, rfl, rfl, Or.inr ⟨sk n f (G 150 2) + 1, (sg_1 r1').1, s8, by rw [b2]; exact q6, by omega, by rw [b4, k7 _ _ (by omega)]; exact a4, by rw [b5, k7 _ _ (by omega)]; exact a5, by rw [b6, k7 _ _ (by omega)]; exact a6, j30, j29, ⟨?_, ?_⟩, p8, by omega, by rw [N.1.2.2.2.2]; omega, by omega, cv, ?_, ?_, ?_, ?_, ?_, v8.1⟩⟩
    · intro o k h1 h2 h3
      rw [k8 o k (by omega) (by omega)]; exact a7.1 o k h1 h2 h3
    · intro o k h1 h2 h3
      rw [k8 o k (by omega) (by omega)]; exact a7.2 o k h1 h2 h3
    · rw [k8 _ _ (by decide) (by omega), k4 _ _ (by decide), k3 _ _ (by decide), k2 _ _ (by decide)]; exact v1.1
    · rw [k8 _ _ (by decide) (by omega), k4 _ _ (by decide), k3 _ _ (by decide), k2 _ _ (by decide)]; exact v1.2.1
    · rw [k8 _ _ (by decide) (by omega), k4 _ _ (by decide)]; exact v3
    · rw [k8 _ _ (by decide) (by omega), k4 _ _ (by decide), k3 _ _ (by decide), v2, hQ]
    · rw [k8 _ _ (by decide) (by omega)]; exact v4
  · rw [FG_add_e fg (by decide) z _ _ (by decide) (by decide), bd_some]
    have N5 := p5.nums
    have sf := sg_fx p5.1.2.1 (by omega) (by omega) N5.2.2.2.2.2.2 e8 fx
    rw [← N5.1.2.2.2.2] at sf
    exact ⟨_, _, rfl, rfl, Or.inl ⟨w, p, FG_add fg _ _ _ _, fx_ad fx _ _ _ _, sf⟩⟩
