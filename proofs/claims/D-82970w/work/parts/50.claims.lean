/-! PLAIN: what is said of the readers' expressions -/
noncomputable def Lx (P W base w : Int) (T : St) : Option (Int × St) := Tw_expression_l9 P W base w 0 T
noncomputable def KS (P W base : Int) (T : St) : Option (Int × St) := bd (Tw_signsOver base T) fun _ T' => Lx P W base 0 T'
/-- the twin's place and mark, changed -/
def md (T : St) (x y : Int) : St := up (up T 100 6 x) 100 25 y
/-- what lay below is still there -/
def tb (T T1 : St) : Prop := agT T T1 0 (T 100 13) ∧ ∀ o k, (o = 122 ∨ o = 123 ∨ o = 124 ∨ o = 125) → 0 ≤ k → k < T 100 20 → T1 o k = T o k
theorem tb.rf (T : St) : tb T T := ⟨fun _ _ _ _ _ => rfl, fun _ _ _ _ _ => rfl⟩
theorem tb.tr {T T1 T2 : St} (h : tb T T1) (h2 : tb T1 T2) (hm : T 100 13 ≤ T1 100 13) (hw : T 100 20 ≤ T1 100 20) : tb T T2 :=
  ⟨fun o k a b c => (h2.1 o k a b (by omega)).trans (h.1 o k a b c), fun o k a b c => (h2.2 o k a b (by omega)).trans (h.2 o k a b c)⟩
/-- an expression was read in both, from G T on -/
def OKX (n : Int) (f : Int → Int) (P W : Int) (G T G' T1 : St) : Prop :=
  PR n f G' T1 ∧ T1 100 20 = T 100 20 ∧ T1 100 26 = T 100 26 ∧ G' 150 3 = G 150 3 ∧ tb T T1 ∧ agC G G' 0 (G 110 4) ∧ WF P W G' T1 0 (G 110 4) (G' 110 4) (T 100 13) (T1 100 13) 0 0 (31 - G 150 3) ∧ T1 115 (T1 100 13 - 1) ≠ 8 ∧ T 100 13 < T1 100 13 ∧ G 150 2 < G' 150 2 ∧ G' 110 4 + 2 * G 150 2 ≤ G 110 4 + 2 * G' 150 2 ∧ T1 100 13 + 4 * T 100 6 ≤ T 100 13 + 4 * T1 100 6
/-- both found the same fault -/
def FLX (n : Int) (f : Int → Int) (k P W base : Int) (G' T : St) : Prop := ∃ w p T', FG n f k w p G' ∧ Lx P W base 1 T = some (0, T') ∧ FX w p T'
def AD (D : Int) : Int := 16 * (31 - D)
def FactorOK (n : Int) (f : Int → Int) (P W : Int) (d : Nat) : Prop := ∀ (G T : St) (base : Int), PR n f G T → 0 ≤ base → base ≤ T 100 20 → AD (G 150 3) ≤ d → ∃ G', RE d 2 [] G = some (0, G') ∧ (FLX n f (4 * d) P W base G' T ∨ ∃ T1, Lx P W base 1 T = KS P W base T1 ∧ OKX n f P W G T G' T1)
/-- what still waits, T1, will become T2 -/
def SY (n : Int) (f : Int → Int) (base : Int) (T1 T2 : St) : Prop := TT n f T1 ∧ T1 100 6 = T2 100 6 ∧ T1 100 7 = 0 ∧ TB T1 ∧ T2 100 20 ≤ T1 100 20 ∧ 0 < T1 100 13 ∧ T1 115 (T1 100 13 - 1) ≠ 8
def RowOK (n : Int) (f : Int → Int) (P W : Int) (d : Nat) : Prop := ∀ (G T : St) (base least : Int), PR n f G T → 0 ≤ base → base ≤ T 100 20 → 0 ≤ least → least ≤ 9 → (T 100 20 = base ∨ (T 122 (T 100 20 - 1) ≠ 2 ∧ (T 122 (T 100 20 - 1) ≠ 1 ∨ rkF (T 123 (T 100 20 - 1)) ≤ least))) → AD (G 150 3) + 11 - least ≤ d →
  ∃ G', RE d 1 [least] G = some (0, G') ∧ (FLX n f (4 * d) P W base G' T ∨ ∃ T1 T2, Lx P W base 1 T = Lx P W base 0 T1 ∧ (∀ x y r, r ≤ least + 1 → Tw_reduce base r (md T1 x y) = Tw_reduce base r (md T2 x y)) ∧ OKX n f P W G T G' T2 ∧ SY n f base T1 T2 ∧ G' 150 2 = sk n f (G' 150 2) ∧ rkF (opn n f (G' 150 2)) ≤ least)
def ExprOK (n : Int) (f : Int → Int) (P W : Int) (d : Nat) : Prop := ∀ (G T : St) (base : Int), PR n f G T → 0 ≤ base → base ≤ T 100 20 → (T 100 20 = base ∨ (T 122 (T 100 20 - 1) ≠ 2 ∧ T 122 (T 100 20 - 1) ≠ 1)) → AD (G 150 3) + 13 ≤ d →
  ∃ G', RE d 0 [] G = some (0, G') ∧ (FLX n f (4 * d) P W base G' T ∨ ∃ T1 T2, Lx P W base 1 T = Lx P W base 0 T1 ∧ (∀ x y, Tw_reduceAll base (md T1 x y) = Tw_reduceAll base (md T2 x y)) ∧ OKX n f P W G T G' T2 ∧ SY n f base T1 T2 ∧ opn n f (sk n f (G' 150 2)) = 0 ∧ sg n f (sk n f (G' 150 2)) 63 = 0)
theorem md_md (T : St) (x y x' y' : Int) : md (md T x y) x' y' = md T x' y' := by
  unfold md
  rw [up_cm (up T 100 6 x) (Or.inr (by decide)), up_up, up_up]
theorem md_id {T : St} {x y : Int} (h1 : x = T 100 6) (h2 : y = T 100 25) : md T x y = T := by
  unfold md
  rw [up_id' h1, up_id' h2]
theorem TB_of {n : Int} {f : Int → Int} {G T : St} (h : PR n f G T) : TB T := by
  obtain ⟨⟨x1, x2, ⟨y1, y2, y3, y4, y5⟩, x4, x5⟩, ⟨z1, z2, z3, z4⟩, w1, w2, w3, w4⟩ := h
  have := x1.2.2.1
  unfold TB
  omega
theorem TB_md {T : St} (h : TB T) (x y : Int) : TB (md T x y) := by
  unfold TB at *
  unfold md
  simp only [up_ap]
  simpa using h
