/-! PLAIN: moves of the readers, told by their frames and counts -/
def kC (G G' : St) : Prop := ∀ o k, ¬ fS [111, 112, 113, 114] [(110, 4), (150, 2), (150, 3), (150, 10), (150, 11), (150, 12), (150, 13), (150, 14), (150, 15)] o k → G' o k = G o k
def kT (T T' : St) : Prop := ∀ o k, ¬ fS [115, 116, 117, 118, 119, 122, 123, 124, 125, 134, 128, 129] [(100, 6), (100, 12), (100, 13), (100, 19), (100, 20), (100, 25), (100, 31), (100, 32), (100, 26)] o k → T' o k = T o k
theorem kC.rf (G : St) : kC G G := fun _ _ _ => rfl
theorem kT.rf (G : St) : kT G G := fun _ _ _ => rfl
theorem kC.tr {G G1 G2 : St} (h : kC G G1) (h2 : kC G1 G2) : kC G G2 := fun o k q => (h2 o k q).trans (h o k q)
theorem kT.tr {G G1 G2 : St} (h : kT G G1) (h2 : kT G1 G2) : kT G G2 := fun o k q => (h2 o k q).trans (h o k q)
theorem kC_up {o k : Int} (h : fS [111, 112, 113, 114] [(110, 4), (150, 2), (150, 3), (150, 10), (150, 11), (150, 12), (150, 13), (150, 14), (150, 15)] o k) (G : St) (v : Int) : kC G (up G o k v) := by
  intro o' k' q
  rw [up_ap, if_neg]
  intro e
  rw [e.1, e.2] at q
  exact q h
theorem kT_up {o k : Int} (h : fS [115, 116, 117, 118, 119, 122, 123, 124, 125, 134, 128, 129] [(100, 6), (100, 12), (100, 13), (100, 19), (100, 20), (100, 25), (100, 31), (100, 32), (100, 26)] o k) (G : St) (v : Int) : kT G (up G o k v) := by
  intro o' k' q
  rw [up_ap, if_neg]
  intro e
  rw [e.1, e.2] at q
  exact q h
theorem kC_ad (G : St) (op w p m : Int) : kC G (adC G op w p m) := by
  unfold adC
  exact ((((kC_up (Or.inl (by decide)) _ _).tr (kC_up (Or.inl (by decide)) _ _)).tr (kC_up (Or.inl (by decide)) _ _)).tr (kC_up (Or.inl (by decide)) _ _)).tr (kC_up (Or.inr (by decide)) _ _)
theorem kT_ad (T : St) (k a b p : Int) : kT T (adT T k a b p) := by
  unfold adT
  exact ((((kT_up (Or.inl (by decide)) _ _).tr (kT_up (Or.inl (by decide)) _ _)).tr (kT_up (Or.inl (by decide)) _ _)).tr (kT_up (Or.inl (by decide)) _ _)).tr (kT_up (Or.inr (by decide)) _ _)
theorem kT_ps (T : St) (k a p : Int) : kT T (psT T k a p) := by
  unfold psT
  exact ((((kT_up (Or.inl (by decide)) _ _).tr (kT_up (Or.inl (by decide)) _ _)).tr (kT_up (Or.inl (by decide)) _ _)).tr (kT_up (Or.inl (by decide)) _ _)).tr (kT_up (Or.inr (by decide)) _ _)
/-- the component's reader went on -/
def CS (G G' : St) (a s d : Int) : Prop := kC G G' ∧ G' 150 2 = a ∧ G' 110 4 = s ∧ G' 150 3 = d ∧ agC G G' 0 (G 110 4)
theorem CS.tr {G G1 G2 : St} {a s d a' s' d' : Int} (h : CS G G1 a s d) (h2 : CS G1 G2 a' s' d') (hs : G 110 4 ≤ s) : CS G G2 a' s' d' := by
  obtain ⟨x1, x2, x3, x4, x5⟩ := h
  obtain ⟨y1, y2, y3, y4, y5⟩ := h2
  rw [x3] at y5
  exact ⟨x1.tr y1, y2, y3, y4, fun o k b1 b2 b3 b4 => (y5 o k b1 b2 b3 (by omega)).trans (x5 o k b1 b2 b3 b4)⟩
theorem agC_f (G : St) (k v i j : Int) : agC G (up G 150 k v) i j := fun o _ _ _ _ _ => up_o _ (by omega)
theorem CS.rf (G : St) : CS G G (G 150 2) (G 110 4) (G 150 3) := ⟨kC.rf _, rfl, rfl, rfl, fun _ _ _ _ _ _ => rfl⟩
theorem CS_at (G : St) (x : Int) : CS G (up G 150 2 x) x (G 110 4) (G 150 3) := ⟨kC_up (Or.inr (by decide)) _ _, up_s _ _ _ _, up_o _ (by decide), up_k _ (by decide), agC_f _ _ _ _ _⟩
theorem CS_deep (G : St) (x : Int) : CS G (up G 150 3 x) (G 150 2) (G 110 4) x := ⟨kC_up (Or.inr (by decide)) _ _, up_k _ (by decide), up_o _ (by decide), up_s _ _ _ _, agC_f _ _ _ _ _⟩
theorem CS_place (G : St) (x : Int) : CS G (up G 150 10 x) (G 150 2) (G 110 4) (G 150 3) := ⟨kC_up (Or.inr (by decide)) _ _, up_k _ (by decide), up_o _ (by decide), up_k _ (by decide), agC_f _ _ _ _ _⟩
theorem CS_ad (G : St) (op w p m : Int) : CS G (adC G op w p m) (G 150 2) (G 110 4 + 1) (G 150 3) := ⟨kC_ad _ _ _ _ _, adC_o (by omega) (by omega), adC_s _ _ _ _ _, adC_o (by omega) (by omega), fun _ _ _ _ _ _ => adC_o (by omega) (by omega)⟩
theorem CS_sk (n : Int) (f : Int → Int) (G : St) : CS G (skC n f G) (sk n f (G 150 2)) (G 110 4) (G 150 3) := CS_at _ _
theorem CS_fop (n : Int) (f : Int → Int) (G : St) (t l : Int) : CS G (fop n f G t l) (sk n f (G 150 2)) (G 110 4) (G 150 3) := by
  refine ⟨?_, fop_at, fop_o (by omega), fop_o (by omega), fun o k b1 b2 b3 b4 => fop_o (by omega)⟩
  unfold fop skC
  exact (((kC_up (Or.inr (by decide)) _ _).tr (kC_up (Or.inr (by decide)) _ _)).tr (kC_up (Or.inr (by decide)) _ _)).tr (kC_up (Or.inr (by decide)) _ _)
/-- the twin's reader went on -/
def TS (T T' : St) (a m d w : Int) : Prop := kT T T' ∧ T' 100 6 = a ∧ T' 100 13 = m ∧ T' 100 19 = d ∧ T' 100 20 = w ∧ T' 100 26 = T 100 26 ∧ tb T T'
theorem TS.tr {T T1 T2 : St} {a m d w a' m' d' w' : Int} (h : TS T T1 a m d w) (h2 : TS T1 T2 a' m' d' w') (hm : T 100 13 ≤ m) (hw : T 100 20 ≤ w) : TS T T2 a' m' d' w' := by
  obtain ⟨x1, x2, x3, x4, x5, x6, x7⟩ := h
  obtain ⟨y1, y2, y3, y4, y5, y6, y7⟩ := h2
  exact ⟨x1.tr y1, y2, y3, y4, y5, y6.trans x6, x7.tr y7 (by omega) (by omega)⟩
theorem tb_f (T : St) (k v : Int) : tb T (up T 100 k v) := ⟨fun _ _ _ _ _ => up_o _ (by omega), fun _ _ _ _ _ => up_o _ (by omega)⟩
theorem TS.rf (T : St) : TS T T (T 100 6) (T 100 13) (T 100 19) (T 100 20) := ⟨kT.rf _, rfl, rfl, rfl, rfl, rfl, tb.rf _⟩
theorem TS_at (T : St) (x : Int) : TS T (up T 100 6 x) x (T 100 13) (T 100 19) (T 100 20) := ⟨kT_up (Or.inr (by decide)) _ _, up_s _ _ _ _, up_k _ (by decide), up_k _ (by decide), up_k _ (by decide), up_k _ (by decide), tb_f _ _ _⟩
theorem TS_deep (T : St) (x : Int) : TS T (up T 100 19 x) (T 100 6) (T 100 13) x (T 100 20) := ⟨kT_up (Or.inr (by decide)) _ _, up_k _ (by decide), up_k _ (by decide), up_s _ _ _ _, up_k _ (by decide), up_k _ (by decide), tb_f _ _ _⟩
theorem TS_waits (T : St) (x : Int) : TS T (up T 100 20 x) (T 100 6) (T 100 13) (T 100 19) x := ⟨kT_up (Or.inr (by decide)) _ _, up_k _ (by decide), up_k _ (by decide), up_k _ (by decide), up_s _ _ _ _, up_k _ (by decide), tb_f _ _ _⟩
theorem TS_want (T : St) (x : Int) : TS T (up T 100 25 x) (T 100 6) (T 100 13) (T 100 19) (T 100 20) := ⟨kT_up (Or.inr (by decide)) _ _, up_k _ (by decide), up_k _ (by decide), up_k _ (by decide), up_k _ (by decide), up_k _ (by decide), tb_f _ _ _⟩
theorem TS_num (T : St) (x : Int) : TS T (up T 100 12 x) (T 100 6) (T 100 13) (T 100 19) (T 100 20) := ⟨kT_up (Or.inr (by decide)) _ _, up_k _ (by decide), up_k _ (by decide), up_k _ (by decide), up_k _ (by decide), up_k _ (by decide), tb_f _ _ _⟩
theorem TS_sk (n : Int) (f : Int → Int) (T : St) : TS T (skT n f T) (sk n f (T 100 6)) (T 100 13) (T 100 19) (T 100 20) := TS_at _ _
theorem TS_md (T : St) (x y : Int) : TS T (md T x y) x (T 100 13) (T 100 19) (T 100 20) := by
  have h := (TS_at T x).tr (TS_want (up T 100 6 x) y) (Int.le_refl _) (Int.le_refl _)
  rw [up_s, up_k _ (by decide), up_k _ (by decide), up_k _ (by decide)] at h
  exact h
theorem TS_ad (T : St) (k a b p : Int) : TS T (adT T k a b p) (T 100 6) (T 100 13 + 1) (T 100 19) (T 100 20) := ⟨kT_ad _ _ _ _ _, adT_o (by omega) (by omega), adT_s _ _ _ _ _, adT_o (by omega) (by omega), adT_o (by omega) (by omega), adT_o (by omega) (by omega), ⟨fun _ _ _ _ _ => adT_o (by omega) (by omega), fun _ _ _ _ _ => adT_o (by omega) (by omega)⟩⟩
theorem TS_ps (T : St) (k a p : Int) : TS T (psT T k a p) (T 100 6) (T 100 13) (T 100 19) (T 100 20 + 1) := ⟨kT_ps _ _ _ _, psT_o (by omega) (by omega), psT_o (by omega) (by omega), psT_o (by omega) (by omega), psT_s _ _ _ _, psT_o (by omega) (by omega), ⟨fun _ _ _ _ _ => psT_o (by omega) (by omega), fun _ _ _ _ _ => psT_o (by omega) (by omega)⟩⟩
/-- a step is put behind waits that were taken away -/
theorem TS_adx {T T1 : St} (h : kT T T1) (ho : ∀ o k, o ≠ 100 → T1 o k = T o k) (hm : T1 100 13 = T 100 13) (hb : T1 100 26 = T 100 26) (k a b p : Int) : TS T (adT T1 k a b p) (T1 100 6) (T 100 13 + 1) (T1 100 19) (T1 100 20) :=
  ⟨h.tr (kT_ad _ _ _ _ _), adT_o (by omega) (by omega), by rw [adT_s, hm], adT_o (by omega) (by omega), adT_o (by omega) (by omega), (adT_o (by omega) (by omega)).trans hb,
   ⟨fun o k b1 b2 b3 => (adT_o (by rw [hm]; omega) (by omega)).trans (ho o k (by omega)), fun o k b1 b2 b3 => (adT_o (by omega) (by omega)).trans (ho o k (by omega))⟩⟩
theorem TS_popB (T : St) : TS T (popB T) (T 100 6) (T 100 13 + 1) (T 100 19) (T 100 20 - 1) := by
  have h := TS_adx (T := T) (T1 := up T 100 20 (T 100 20 - 1)) (kT_up (Or.inr (by decide)) _ _) (fun o k q => up_o _ q) (up_k _ (by decide)) (up_k _ (by decide)) 13 (T 123 (T 100 20 - 1)) 0 (T 124 (T 100 20 - 1))
  rw [up_s, up_k _ (by decide), up_k _ (by decide)] at h
  exact h
theorem TS_dw (T : St) (w d k a b p : Int) : TS T (adT (up (up T 100 20 w) 100 19 d) k a b p) (T 100 6) (T 100 13 + 1) d w := by
  have h := TS_adx (T := T) (T1 := up (up T 100 20 w) 100 19 d) ((kT_up (Or.inr (by decide)) _ _).tr (kT_up (Or.inr (by decide)) _ _)) (fun o k q => by rw [up_o _ q, up_o _ q]) (by rw [up_k _ (by decide), up_k _ (by decide)]) (by rw [up_k _ (by decide), up_k _ (by decide)]) k a b p
  rw [up_s, up_k (k' := 6) _ (by decide), up_k (k' := 6) _ (by decide), up_k (k' := 20) _ (by decide), up_s] at h
  exact h
theorem TS_popU (T : St) : TS T (popU T) (T 100 6) (T 100 13 + 1) (T 100 19 - 1) (T 100 20 - 1) := TS_dw _ _ _ _ _ _ _
theorem TS_popS (T : St) : TS T (popS T) (T 100 6) (T 100 13 + 1) (T 100 19 - 1) (T 100 20 - 1) := TS_dw _ _ _ _ _ _ _
theorem TS_cl (T : St) (x w d k a b p : Int) : TS T (adT (up (up (up T 100 6 x) 100 20 w) 100 19 d) k a b p) x (T 100 13 + 1) d w := by
  have h := (TS_at T x).tr (TS_dw (up T 100 6 x) w d k a b p) (Int.le_refl _) (Int.le_refl _)
  rw [up_s, up_k _ (by decide)] at h
  exact h
theorem agC.tr {G G1 G2 : St} {i j i' j' : Int} (h : agC G G1 i j) (h2 : agC G1 G2 i' j') (hi : i' ≤ i) (hj : j ≤ j') : agC G G2 i j := fun o k a b c d => (h2 o k a b (by omega) (by omega)).trans (h o k a b c d)
theorem agT.tr {G G1 G2 : St} {i j i' j' : Int} (h : agT G G1 i j) (h2 : agT G1 G2 i' j') (hi : i' ≤ i) (hj : j ≤ j') : agT G G2 i j := fun o k a c d => (h2 o k a (by omega) (by omega)).trans (h o k a c d)
theorem TS.nat {T T1 : St} {a m d w : Int} (h : TS T T1 a m d w) (hm : T 100 13 ≤ m) (hw : T 100 20 ≤ w) (x : Int) : TS T (up T1 100 6 x) x m d w := by
  have e := h.tr (TS_at T1 x) hm hw
  obtain ⟨_, x2, x3, x4, x5, _, _⟩ := h
  rw [x3, x4, x5] at e
  exact e
theorem TS.ndeep {T T1 : St} {a m d w : Int} (h : TS T T1 a m d w) (hm : T 100 13 ≤ m) (hw : T 100 20 ≤ w) (x : Int) : TS T (up T1 100 19 x) a m x w := by
  have e := h.tr (TS_deep T1 x) hm hw
  obtain ⟨_, x2, x3, x4, x5, _, _⟩ := h
  rw [x2, x3, x5] at e
  exact e
theorem TS.nwant {T T1 : St} {a m d w : Int} (h : TS T T1 a m d w) (hm : T 100 13 ≤ m) (hw : T 100 20 ≤ w) (x : Int) : TS T (up T1 100 25 x) a m d w := by
  have e := h.tr (TS_want T1 x) hm hw
  obtain ⟨_, x2, x3, x4, x5, _, _⟩ := h
  rw [x2, x3, x4, x5] at e
  exact e
theorem TS.nnum {T T1 : St} {a m d w : Int} (h : TS T T1 a m d w) (hm : T 100 13 ≤ m) (hw : T 100 20 ≤ w) (x : Int) : TS T (up T1 100 12 x) a m d w := by
  have e := h.tr (TS_num T1 x) hm hw
  obtain ⟨_, x2, x3, x4, x5, _, _⟩ := h
  rw [x2, x3, x4, x5] at e
  exact e
theorem TS.nad {T T1 : St} {a m d w : Int} (h : TS T T1 a m d w) (hm : T 100 13 ≤ m) (hw : T 100 20 ≤ w) (k u v p : Int) : TS T (adT T1 k u v p) a (m + 1) d w := by
  have e := h.tr (TS_ad T1 k u v p) hm hw
  obtain ⟨_, x2, x3, x4, x5, _, _⟩ := h
  rw [x2, x3, x4, x5] at e
  exact e
theorem TS.nps {T T1 : St} {a m d w : Int} (h : TS T T1 a m d w) (hm : T 100 13 ≤ m) (hw : T 100 20 ≤ w) (k u p : Int) : TS T (psT T1 k u p) a m d (w + 1) := by
  have e := h.tr (TS_ps T1 k u p) hm hw
  obtain ⟨_, x2, x3, x4, x5, _, _⟩ := h
  rw [x2, x3, x4, x5] at e
  exact e
theorem TS.nB {T T1 : St} {a m d w : Int} (h : TS T T1 a m d w) (hm : T 100 13 ≤ m) (hw : T 100 20 ≤ w) : TS T (popB T1) a (m + 1) d (w - 1) := by
  have e := h.tr (TS_popB T1 ) hm hw
  obtain ⟨_, x2, x3, x4, x5, _, _⟩ := h
  rw [x2, x3, x4, x5] at e
  exact e
theorem TS.nU {T T1 : St} {a m d w : Int} (h : TS T T1 a m d w) (hm : T 100 13 ≤ m) (hw : T 100 20 ≤ w) : TS T (popU T1) a (m + 1) (d - 1) (w - 1) := by
  have e := h.tr (TS_popU T1 ) hm hw
  obtain ⟨_, x2, x3, x4, x5, _, _⟩ := h
  rw [x2, x3, x4, x5] at e
  exact e
theorem TS.nS {T T1 : St} {a m d w : Int} (h : TS T T1 a m d w) (hm : T 100 13 ≤ m) (hw : T 100 20 ≤ w) : TS T (popS T1) a (m + 1) (d - 1) (w - 1) := by
  have e := h.tr (TS_popS T1 ) hm hw
  obtain ⟨_, x2, x3, x4, x5, _, _⟩ := h
  rw [x2, x3, x4, x5] at e
  exact e
theorem TS.ncl {T T1 : St} {a m d w : Int} (h : TS T T1 a m d w) (hm : T 100 13 ≤ m) (hw : T 100 20 ≤ w) (x y z k u v p : Int) : TS T (adT (up (up (up T1 100 6 x) 100 20 y) 100 19 z) k u v p) x (m + 1) z y := by
  have e := h.tr (TS_cl T1 x y z k u v p) hm hw
  obtain ⟨_, x2, x3, x4, x5, _, _⟩ := h
  rw [x3] at e
  exact e
theorem CS.nat {G G1 : St} {a s d : Int} (h : CS G G1 a s d) (hs : G 110 4 ≤ s) (x : Int) : CS G (up G1 150 2 x) x s d := by
  have e := h.tr (CS_at G1 x) hs
  obtain ⟨_, x2, x3, x4, _⟩ := h
  rw [x3, x4] at e
  exact e
theorem CS.ndeep {G G1 : St} {a s d : Int} (h : CS G G1 a s d) (hs : G 110 4 ≤ s) (x : Int) : CS G (up G1 150 3 x) a s x := by
  have e := h.tr (CS_deep G1 x) hs
  obtain ⟨_, x2, x3, x4, _⟩ := h
  rw [x2, x3] at e
  exact e
theorem CS.nplace {G G1 : St} {a s d : Int} (h : CS G G1 a s d) (hs : G 110 4 ≤ s) (x : Int) : CS G (up G1 150 10 x) a s d := by
  have e := h.tr (CS_place G1 x) hs
  obtain ⟨_, x2, x3, x4, _⟩ := h
  rw [x2, x3, x4] at e
  exact e
theorem CS.nad {G G1 : St} {a s d : Int} (h : CS G G1 a s d) (hs : G 110 4 ≤ s) (k u v p : Int) : CS G (adC G1 k u v p) a (s + 1) d := by
  have e := h.tr (CS_ad G1 k u v p) hs
  obtain ⟨_, x2, x3, x4, _⟩ := h
  rw [x2, x3, x4] at e
  exact e
theorem CS.nfop {G G1 : St} {a s d : Int} (h : CS G G1 a s d) (hs : G 110 4 ≤ s) (n : Int) (f : Int → Int) (t l : Int) : CS G (fop n f G1 t l) (sk n f a) s d := by
  have e := h.tr (CS_fop n f G1 t l) hs
  obtain ⟨_, x2, x3, x4, _⟩ := h
  rw [x2, x3, x4] at e
  exact e
theorem CS.nsk {G G1 : St} {a s d : Int} (h : CS G G1 a s d) (hs : G 110 4 ≤ s) (n : Int) (f : Int → Int) : CS G (skC n f G1) (sk n f a) s d := by
  have e := h.tr (CS_sk n f G1) hs
  obtain ⟨_, x2, x3, x4, _⟩ := h
  rw [x2, x3, x4] at e
  exact e
/-- a row above is written -/
theorem TS.wr {T T1 : St} {a m d w : Int} (h : TS T T1 a m d w) {o k : Int} (v : Int) (ho : o = 115 ∨ o = 116 ∨ o = 117 ∨ o = 118 ∨ o = 119) (hk : T 100 13 ≤ k) : TS T (up T1 o k v) a m d w := by
  obtain ⟨x1, x2, x3, x4, x5, x6, x7⟩ := h
  have ne : o ≠ 100 := by omega
  refine ⟨x1.tr (kT_up (Or.inl (by rcases ho with h | h | h | h | h <;> rw [h] <;> decide)) _ _), ?_, ?_, ?_, ?_, ?_, ?_, ?_⟩
  · rw [up_o _ (Ne.symm ne)]; exact x2
  · rw [up_o _ (Ne.symm ne)]; exact x3
  · rw [up_o _ (Ne.symm ne)]; exact x4
  · rw [up_o _ (Ne.symm ne)]; exact x5
  · rw [up_o _ (Ne.symm ne)]; exact x6
  · intro o' k' b1 b2 b3
    rw [up_ap, if_neg (by omega)]; exact x7.1 o' k' b1 b2 b3
  · intro o' k' b1 b2 b3
    rw [up_ap, if_neg (by omega)]; exact x7.2 o' k' b1 b2 b3
/-- both went on: the pair holds anew -/
theorem PR.mv {n : Int} {f : Int → Int} {G T G' T' : St} {a s d a' m d' w : Int} (h : PR n f G T) (hC : CS G G' a s d) (hT : TS T T' a' m d' w)
    (q1 : G 150 2 ≤ a) (q2 : a ≤ n) (q3 : T 100 6 ≤ a') (q4 : a' ≤ n) (q5 : sk n f a = sk n f a') (q6 : d = d') (q7 : 0 ≤ d) (q8 : d ≤ 30) (q9 : 0 ≤ s) (q10 : s ≤ 2 * a + 2) (q11 : 0 ≤ m) (q12 : 0 ≤ w) (q13 : T 100 26 ≤ d') (q14 : m + 2 * w + 4 * T 100 26 ≤ 4 * a' + 4) : PR n f G' T' := by
  obtain ⟨x1, x2, x3, x4, x5⟩ := hC
  obtain ⟨y1, y2, y3, y4, y5, y6, y7⟩ := hT
  have hb := h.2.2.2.2.1
  refine h.st x1 y1 ?_ ?_ ?_ ?_ ?_ ?_ ?_ ?_ <;> simp only [x2, x3, x4, y2, y3, y4, y5, y6]
  · exact q1
  · exact q2
  · exact q3
  · exact q4
  · exact q5
  · exact ⟨q6, q7, q8⟩
  · exact ⟨q9, q10⟩
  · exact ⟨q11, q12, hb.2.2.1, q13, q14⟩
/-- the numbers of a pair -/
theorem PR.nums {n : Int} {f : Int → Int} {G T : St} (h : PR n f G T) : (0 ≤ G 150 2 ∧ G 150 2 ≤ n ∧ 0 ≤ T 100 6 ∧ T 100 6 ≤ n ∧ sk n f (G 150 2) = sk n f (T 100 6)) ∧ (G 150 3 = T 100 19 ∧ 0 ≤ G 150 3 ∧ G 150 3 ≤ 30) ∧ (0 ≤ G 110 4 ∧ G 110 4 ≤ 2 * G 150 2 + 2) ∧ (0 ≤ T 100 13 ∧ 0 ≤ T 100 20 ∧ 0 ≤ T 100 26 ∧ T 100 26 ≤ T 100 19 ∧ T 100 13 + 2 * T 100 20 + 4 * T 100 26 ≤ 4 * T 100 6 + 4) ∧ n ≤ 1999 ∧ G 130 0 = 0 ∧ T 100 7 = 0 :=
  ⟨h.1.2.2.1, h.2.2.1, h.2.2.2.1, h.2.2.2.2.1, h.1.1.2.2.1, h.1.2.2.2.1, h.1.2.2.2.2⟩
