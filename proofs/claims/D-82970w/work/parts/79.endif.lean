/-! PLAIN: the end of an if in the twin -/
def enT (T : St) (x y : Int) : St := adT (up (adT T 37 x 0 (T 118 x)) 117 y (T 100 13)) 21 0 0 (T 118 x)
theorem enT_s {T : St} (x : Int) {y : Int} (y1 : y < T 100 13) : kT T (enT T x y) ∧ enT T x y 100 6 = T 100 6 ∧ enT T x y 100 13 = T 100 13 + 2 ∧ enT T x y 100 19 = T 100 19 ∧ enT T x y 100 20 = T 100 20 ∧ enT T x y 100 26 = T 100 26 ∧ (∀ o k, 115 ≤ o → ¬ (o = 117 ∧ k = y) → k < T 100 13 ∨ 119 < o → enT T x y o k = T o k) ∧ enT T x y 117 y = T 100 13 ∧ enT T x y 115 (T 100 13) = 37 ∧ enT T x y 115 (T 100 13 + 1) = 21 ∧ enT T x y 100 30 = T 100 30 ∧ enT T x y 100 29 = T 100 29 := by
  unfold enT
  generalize T 118 x = p
  have s1 := TS_ad T 37 x 0 p
  have v1 := adT_v T 37 x 0 p
  have k1 : ∀ o j, ¬ ((o = 115 ∨ o = 116 ∨ o = 117 ∨ o = 118) ∧ j = T 100 13) → ¬ (o = 100 ∧ j = 13) → adT T 37 x 0 p o j = T o j := fun o j h h2 => adT_o h h2
  generalize adT T 37 x 0 p = X at s1 v1 k1 ⊢
  obtain ⟨a1, a2, a3, a4, a5, a6, a7⟩ := s1
  have kY := a1.tr (kT_up (o := 117) (k := y) (Or.inl (by decide)) X (T 100 13))
  have b1 : ∀ o j, ¬ (o = 117 ∧ j = y) → up X 117 y (T 100 13) o j = X o j := fun o j h => by rw [up_ap, if_neg h]
  have b2 : up X 117 y (T 100 13) 117 y = T 100 13 := up_s _ _ _ _
  generalize up X 117 y (T 100 13) = Y at kY b1 b2 ⊢
  have mY : Y 100 13 = T 100 13 + 1 := by rw [b1 _ _ (by omega)]; exact a3
  have v2 := adT_v Y 21 0 0 p
  rw [mY] at v2
  have k2 : ∀ o j, ¬ ((o = 115 ∨ o = 116 ∨ o = 117 ∨ o = 118) ∧ j = T 100 13 + 1) → ¬ (o = 100 ∧ j = 13) → adT Y 21 0 0 p o j = Y o j := fun o j h h2 => adT_o (by rw [mY]; exact h) h2
  refine ⟨kY.tr (kT_ad _ _ _ _ _), ?_, ?_, ?_, ?_, ?_, ?_, ?_, ?_, v2.1, ?_, ?_⟩
  · rw [k2 _ _ (by omega) (by omega), b1 _ _ (by omega)]; exact a2
  · rw [adT_s, mY]; omega
  · rw [k2 _ _ (by omega) (by omega), b1 _ _ (by omega)]; exact a4
  · rw [k2 _ _ (by omega) (by omega), b1 _ _ (by omega)]; exact a5
  · rw [k2 _ _ (by omega) (by omega), b1 _ _ (by omega)]; exact a6
  · intro o k h1 h2 h3
    rw [k2 _ _ (by omega) (by omega), b1 _ _ h2]; exact k1 o k (by omega) (by omega)
  · rw [k2 _ _ (by omega) (by omega)]; exact b2
  · rw [k2 _ _ (by omega) (by omega), b1 _ _ (by omega)]; exact v1.1
  · rw [k2 _ _ (by omega) (by omega), b1 _ _ (by omega)]; exact k1 _ _ (by omega) (by omega)
  · rw [k2 _ _ (by omega) (by omega), b1 _ _ (by omega)]; exact k1 _ _ (by omega) (by omega)
theorem en_e {T : St} {x y : Int} (x0 : 0 ≤ x) (x1 : x < T 100 13) (m1 : T 100 13 < 11000) (hy : (T 117 x = 0 ∧ y = x) ∨ (T 117 x = y ∧ 0 < y ∧ y < T 100 13)) : Tw_endIf x T = some (0, enT T x y) := by
  unfold Tw_endIf Tw_endIf_b46 enT
  rw [ckB_p x0 (by omega), Tw_put_e (by omega) (by omega), bd_some, ckB_p x0 (by omega)]
  have e1 : adT T 37 x 0 (T 118 x) 117 x = T 117 x := adT_o (by omega) (by omega)
  have e2 : adT T 37 x 0 (T 118 x) 118 x = T 118 x := adT_o (by omega) (by omega)
  have e3 : adT T 37 x 0 (T 118 x) 100 13 = T 100 13 + 1 := adT_s _ _ _ _ _
  generalize adT T 37 x 0 (T 118 x) = X at e1 e2 e3 ⊢
  rw [e1]
  rcases hy with ⟨h1, h2⟩ | ⟨h1, h2, h3⟩
  · subst h2
    rw [if_pos h1, ckB_p x0 (by omega), tk_e, ckB_p x0 (by omega), up_o _ (show 118 ≠ 117 by decide), e2, Tw_put_e (by rw [up_o _ (by decide), e3]; omega) (by rw [up_o _ (by decide), e3]; omega), bd_some]
  · rw [if_neg (by omega), h1, ckB_p x0 (by omega), ckB_p (by omega) (by omega), tk_e, ckB_p x0 (by omega), up_o _ (show 118 ≠ 117 by decide), e2, Tw_put_e (by rw [up_o _ (by decide), e3]; omega) (by rw [up_o _ (by decide), e3]; omega), bd_some]
theorem kb_stop {P W : Int} {T : St} (b0 : 0 ≤ T 100 26) (b1 : T 100 26 ≤ 60) (h : T 100 26 = 0 ∨ T 128 (T 100 26 - 1) ≠ 12) : KB P W T = Lp P W T := by
  unfold KB
  rw [Tw_closeBlock_l220_eq]
  unfold Tw_closeBlock_s220
  by_cases q : 0 < T 100 26
  · rw [if_pos q, ckI_p (by omega) (by omega), ckB_p (by omega) (by omega), if_neg (by rcases h with h | h; omega; exact h)]
    rfl
  · rw [if_neg q]
    rfl
/-- what waited behind an else is left -/
def pbT (T : St) : St := up (up T 100 26 (T 100 26 - 1)) 100 19 (T 100 19 - 1)
theorem kb_pop {P W : Int} {T : St} {x y : Int} (b0 : 0 < T 100 26) (b1 : T 100 26 ≤ 60) (d0 : -1000 ≤ T 100 19) (d1 : T 100 19 ≤ 1000) (h : T 128 (T 100 26 - 1) = 12) (hx : T 129 (T 100 26 - 1) = x) (x0 : 0 ≤ x) (x1 : x < T 100 13) (m1 : T 100 13 < 11000) (hy : (T 117 x = 0 ∧ y = x) ∨ (T 117 x = y ∧ 0 < y ∧ y < T 100 13)) : KB P W T = KB P W (enT (pbT T) x y) := by
  conv => lhs; unfold KB
  rw [Tw_closeBlock_l220_eq]
  unfold Tw_closeBlock_s220
  have e1 : up T 100 26 (T 100 26 - 1) 100 19 = T 100 19 := up_k _ (by decide)
  have e2 : pbT T 100 26 = T 100 26 - 1 := by unfold pbT; rw [up_k _ (by decide), up_s]
  have e3 : ∀ o k, o ≠ 100 → pbT T o k = T o k := fun o k q => by unfold pbT; rw [up_o _ q, up_o _ q]
  have e4 : pbT T 100 13 = T 100 13 := by unfold pbT; rw [up_k _ (by decide), up_k _ (by decide)]
  rw [if_pos b0, ckI_p (by omega) (by omega), ckB_p (by omega) (by omega), if_pos h, ckI_p (by omega) (by omega), tk_e, e1, ckI_p (by omega) (by omega), tk_e, show up (up T 100 26 (T 100 26 - 1)) 100 19 (T 100 19 - 1) = pbT T from rfl, e2, ckB_p (by omega) (by omega), e3 _ _ (by decide), hx, en_e x0 (by rw [e4]; exact x1) (by omega) (by rw [e4, e3 _ _ (by decide)]; exact hy), bd_some]
  rfl
/-- a block's end is left -/
def cbT (T : St) (b : Int) : St := up (up (up T 100 6 (b + 1)) 100 19 (T 100 19 - 1)) 100 26 (T 100 26 - 1)
theorem cbT_s (T : St) (b : Int) : kT T (cbT T b) ∧ cbT T b 100 6 = b + 1 ∧ cbT T b 100 13 = T 100 13 ∧ cbT T b 100 19 = T 100 19 - 1 ∧ cbT T b 100 20 = T 100 20 ∧ cbT T b 100 26 = T 100 26 - 1 ∧ (∀ o k, o ≠ 100 → cbT T b o k = T o k) ∧ cbT T b 100 30 = T 100 30 ∧ cbT T b 100 29 = T 100 29 ∧ cbT T b 100 7 = T 100 7 ∧ cbT T b 100 5 = T 100 5 := by
  unfold cbT
  refine ⟨((kT_up (Or.inr (by decide)) _ _).tr (kT_up (Or.inr (by decide)) _ _)).tr (kT_up (Or.inr (by decide)) _ _), ?_, ?_, ?_, ?_, up_s _ _ _ _, ?_, ?_, ?_, ?_, ?_⟩
  · rw [up_k _ (by decide), up_k _ (by decide), up_s]
  · rw [up_k _ (by decide), up_k _ (by decide), up_k _ (by decide)]
  · rw [up_k _ (by decide), up_s]
  · rw [up_k _ (by decide), up_k _ (by decide), up_k _ (by decide)]
  · intro o k h
    rw [up_o _ h, up_o _ h, up_o _ h]
  · rw [up_k _ (by decide), up_k _ (by decide), up_k _ (by decide)]
  · rw [up_k _ (by decide), up_k _ (by decide), up_k _ (by decide)]
  · rw [up_k _ (by decide), up_k _ (by decide), up_k _ (by decide)]
  · rw [up_k _ (by decide), up_k _ (by decide), up_k _ (by decide)]
theorem pbT_s (T : St) : kT T (pbT T) ∧ pbT T 100 6 = T 100 6 ∧ pbT T 100 13 = T 100 13 ∧ pbT T 100 19 = T 100 19 - 1 ∧ pbT T 100 20 = T 100 20 ∧ pbT T 100 26 = T 100 26 - 1 ∧ (∀ o k, o ≠ 100 → pbT T o k = T o k) ∧ pbT T 100 30 = T 100 30 ∧ pbT T 100 29 = T 100 29 := by
  unfold pbT
  refine ⟨(kT_up (Or.inr (by decide)) _ _).tr (kT_up (Or.inr (by decide)) _ _), ?_, ?_, up_s _ _ _ _, ?_, ?_, ?_, ?_, ?_⟩
  · rw [up_k _ (by decide), up_k _ (by decide)]
  · rw [up_k _ (by decide), up_k _ (by decide)]
  · rw [up_k _ (by decide), up_k _ (by decide)]
  · rw [up_k _ (by decide), up_s]
  · intro o k h
    rw [up_o _ h, up_o _ h]
  · rw [up_k _ (by decide), up_k _ (by decide)]
  · rw [up_k _ (by decide), up_k _ (by decide)]
/-- a block of a condition closes: both kinds -/
theorem cb_2 {P W : Int} {T : St} {b idx : Int} (a0 : 0 ≤ T 100 6) (a1 : T 100 6 ≤ 3000) (hb : T 100 6 = b) (d0 : -1000 ≤ T 100 19) (d1 : T 100 19 ≤ 1000) (b0 : 1 ≤ T 100 26) (b1 : T 100 26 ≤ 60) (hk : T 128 (T 100 26 - 1) = 2) (hi : T 129 (T 100 26 - 1) = idx) : Tw_closeBlock P W T = Tw_closeBlock_b215 P W idx (cbT T b) := by
  have e1 : up T 100 6 (b + 1) 100 19 = T 100 19 := up_k _ (by decide)
  have e2 : up (up T 100 6 (b + 1)) 100 19 (T 100 19 - 1) 100 26 = T 100 26 := by rw [up_k _ (by decide), up_k _ (by decide)]
  obtain ⟨c1, c2, c3, c4, c5, c6, c7, c8, c9, c10, c11⟩ := cbT_s T b
  unfold Tw_closeBlock
  rw [hb, ckI_p (by omega) (by omega), tk_e, e1, ckI_p (by omega) (by omega), tk_e, e2, ckI_p (by omega) (by omega), tk_e, show up (up (up T 100 6 (b + 1)) 100 19 (T 100 19 - 1)) 100 26 (T 100 26 - 1) = cbT T b from rfl]
  generalize cbT T b = X at c1 c2 c3 c4 c5 c6 c7 c8 c9 c10 c11 ⊢
  rw [c6, ckB_p (by omega) (by omega), ckB_p (by omega) (by omega), c7 _ _ (by decide), hk, if_neg (by decide), if_neg (by decide), c7 _ _ (by decide), hi]
theorem cb_1 {P W : Int} {T : St} {b idx : Int} (a0 : 0 ≤ T 100 6) (a1 : T 100 6 ≤ 3000) (hb : T 100 6 = b) (d0 : -1000 ≤ T 100 19) (d1 : T 100 19 ≤ 1000) (b0 : 1 ≤ T 100 26) (b1 : T 100 26 ≤ 60) (hk : T 128 (T 100 26 - 1) = 1) (hi : T 129 (T 100 26 - 1) = idx) : Tw_closeBlock P W T = (bd (Tw_gap (cbT T b)) fun _ G11 => bd (Tw_isWord 77 G11) fun z12 G13 => if z12 = 0 then (Tw_closeBlock_b215 P W idx G13) else (ckI ((G13 100 6) + 4) <| tk (up G13 100 6 ((G13 100 6) + 4)) fun G14 => ckB idx 12000 <| bd (Tw_put 36 idx 0 (G14 118 idx) G14) fun z15 G16 => ckB idx 12000 <| tk (up G16 117 idx z15) fun G17 => bd (Tw_gap G17) fun _ G19 => bd (Tw_isWord 76 G19) fun z20 G21 => if z20 = 0 then (bd (Tw_openBlock 2 idx G21) fun _ G23 => some (0, G23)) else (bd (Tw_deeper (G21 100 6) G21) fun _ G25 => ckB (G25 100 26) 70 <| tk (up G25 128 (G25 100 26) 12) fun G26 => ckB (G26 100 26) 70 <| tk (up G26 129 (G26 100 26) idx) fun G27 => ckI ((G27 100 26) + 1) <| tk (up G27 100 26 ((G27 100 26) + 1)) fun G28 => bd (Tw_ifStatement P W (G28 100 6) G28) fun _ G30 => some (0, G30)))) := by
  have e1 : up T 100 6 (b + 1) 100 19 = T 100 19 := up_k _ (by decide)
  have e2 : up (up T 100 6 (b + 1)) 100 19 (T 100 19 - 1) 100 26 = T 100 26 := by rw [up_k _ (by decide), up_k _ (by decide)]
  obtain ⟨c1, c2, c3, c4, c5, c6, c7, c8, c9, c10, c11⟩ := cbT_s T b
  unfold Tw_closeBlock
  rw [hb, ckI_p (by omega) (by omega), tk_e, e1, ckI_p (by omega) (by omega), tk_e, e2, ckI_p (by omega) (by omega), tk_e, show up (up (up T 100 6 (b + 1)) 100 19 (T 100 19 - 1)) 100 26 (T 100 26 - 1) = cbT T b from rfl]
  generalize cbT T b = X at c1 c2 c3 c4 c5 c6 c7 c8 c9 c10 c11 ⊢
  rw [c6, ckB_p (by omega) (by omega), ckB_p (by omega) (by omega), c7 _ _ (by decide), hk, if_neg (by decide), if_pos rfl, c7 _ _ (by decide), hi]
theorem b215_e {P W : Int} {T : St} {x y : Int} (x0 : 0 ≤ x) (x1 : x < T 100 13) (m1 : T 100 13 < 11000) (hy : (T 117 x = 0 ∧ y = x) ∨ (T 117 x = y ∧ 0 < y ∧ y < T 100 13)) : (bd (Tw_closeBlock_b215 P W x T) fun _ T' => Lp P W T') = KB P W (enT T x y) := by
  unfold Tw_closeBlock_b215
  rw [en_e x0 x1 m1 hy, bd_some]
  rfl
