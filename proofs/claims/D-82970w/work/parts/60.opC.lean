/-! PLAIN: operands int( and bit(, in the twin -/
theorem to_240 {n : Int} {f : Int → Int} {P W a b k : Int} {G T : St} (hP : PR n f G T) (et : T 100 6 = a) (an : a + 3 ≤ n) (hb : sk n f (a + 3) = b) (hk : k = (if iw n f a 9 = 0 then 9 else 8)) :
    (lkF n f b ≠ 40 → ∃ Y, Tw_takeOperand_b240 P W a T = some (0, Y) ∧ FX 1 b Y) ∧ (lkF n f b = 40 → T 100 19 = 30 → ∃ Y, Tw_takeOperand_b240 P W a T = some (0, Y) ∧ FX 3 b Y) ∧ (lkF n f b = 40 → T 100 19 ≠ 30 → ∃ Ta, Tw_takeOperand_b240 P W a T = some (0, Ta) ∧ TS T Ta (b + 1) (T 100 13 + 1) (T 100 19 + 1) (T 100 20 + 1) ∧ Ta 122 (T 100 20) = k ∧ Ta 124 (T 100 20) = a ∧ Ta 125 (T 100 20) = 0 ∧ Ta 115 (T 100 13) = 1) := by
  have N := hP.nums
  have g := sk_ge n f (a + 3)
  have g2 := sk_le (f := f) an
  rw [hb] at g g2
  have bb : sk n f b = b := by rw [← hb, sk_sk]
  have tv := adT_v T 1 0 0 a
  have s1 := TS_ad T 1 0 0 a
  have E : Tw_takeOperand_b240 P W a T = bd (Tw_sign 40 (skT n f (up (adT T 1 0 0 a) 100 6 (a + 3)))) fun _ G43 => if (G43 100 7) = 0 then (bd (Tw_deeper b G43) fun _ G47 => Tw_takeOperand_b297 P W a (iw n f a 9) G47) else (Tw_takeOperand_b297 P W a (iw n f a 9) G43) := by
    unfold Tw_takeOperand_b240
    rw [Tw_isWord_e hP.1.2.1 (by omega) (by omega) 9 (by decide) (by decide), bd_some, Tw_put_e (by omega) (by omega), bd_some, s1.2.1, et, ckI_p (by omega) (by omega), tk_e]
    have s2 := s1.nat (by omega) (Int.le_refl _) (a + 3)
    have F2 := ts_F hP s2
    rw [Tw_gap_e F2.2 (by rw [s2.2.1]; omega) (by rw [s2.2.1]; omega), bd_some, show up (up (adT T 1 0 0 a) 100 6 (a + 3)) 100 6 (sk n f (up (adT T 1 0 0 a) 100 6 (a + 3) 100 6)) = skT n f (up (adT T 1 0 0 a) 100 6 (a + 3)) from rfl, skT_at, s2.2.1, hb]
  have s3 : TS T (skT n f (up (adT T 1 0 0 a) 100 6 (a + 3))) b (T 100 13 + 1) (T 100 19) (T 100 20) := by
    have s2 := s1.nat (by omega) (Int.le_refl _) (a + 3)
    have h := s2.nat (by omega) (Int.le_refl _) (sk n f (up (adT T 1 0 0 a) 100 6 (a + 3) 100 6))
    rw [show sk n f (up (adT T 1 0 0 a) 100 6 (a + 3) 100 6) = b by rw [s2.2.1, hb]] at h
    unfold skT
    rw [show sk n f (up (adT T 1 0 0 a) 100 6 (a + 3) 100 6) = b by rw [s2.2.1, hb]]
    exact h
  have k3 : skT n f (up (adT T 1 0 0 a) 100 6 (a + 3)) 115 (T 100 13) = 1 := by rw [skT_o _ _ _ _ (by decide), up_o _ (by decide)]; exact tv.1
  rw [E]
  generalize skT n f (up (adT T 1 0 0 a) 100 6 (a + 3)) = X3 at s3 k3 ⊢
  have F3 := ts_F hP s3
  obtain ⟨x1, x2, x3, x4, x5, x6, x7⟩ := s3
  rw [Tw_sign_e (c := 40) F3.2 (by omega) (by omega) F3.1, bd_some, x2, bb, sg_c (by decide) (by decide)]
  have b309 : ∀ X, 0 ≤ X 100 20 → X 100 20 < 4100 → Tw_takeOperand_b297 P W a (iw n f a 9) X = some (0, psT X k 0 a) := by
    intro X h1 h2
    unfold Tw_takeOperand_b297 Tw_takeOperand_b309
    rw [← hk, Tw_push_e h1 h2, bd_some, ckB_p (by decide) (by decide)]
  refine ⟨?_, ?_, ?_⟩
  · intro h
    rw [if_neg h, if_neg (show ¬ (0 : Int) = 1 by decide)]
    have e1 : fT 1 b (skT n f X3) 100 7 = 1 := by simp [fT, up_ap]
    have e2 : fT 1 b (skT n f X3) 100 8 = b := by simp [fT, up_ap]
    have e3 : fT 1 b (skT n f X3) 100 20 = X3 100 20 := by simp [fT, skT, up_ap]
    generalize fT 1 b (skT n f X3) = Y at e1 e2 e3
    rw [if_neg (by omega), b309 Y (by omega) (by omega)]
    refine ⟨_, rfl, ?_, ?_, by decide⟩
    · rw [psT_o (by omega) (by omega)]; exact e1
    · rw [psT_o (by omega) (by omega)]; exact e2
  · intro h dp
    rw [if_pos h, if_pos rfl]
    have e0 : up X3 100 6 (b + 1) 100 7 = 0 := by rw [up_k _ (by decide)]; exact F3.1
    have e5 : up X3 100 6 (b + 1) 100 19 = 30 := by rw [up_k _ (by decide)]; omega
    rw [if_pos e0, Tw_deeper_f e5 e0, bd_some]
    have e1 : up (fT 3 b (up X3 100 6 (b + 1))) 100 19 31 100 7 = 3 := by simp [fT, up_ap]
    have e2 : up (fT 3 b (up X3 100 6 (b + 1))) 100 19 31 100 8 = b := by simp [fT, up_ap]
    have e3 : up (fT 3 b (up X3 100 6 (b + 1))) 100 19 31 100 20 = X3 100 20 := by simp [fT, up_ap]
    generalize up (fT 3 b (up X3 100 6 (b + 1))) 100 19 31 = Y at e1 e2 e3
    rw [b309 Y (by omega) (by omega)]
    refine ⟨_, rfl, ?_, ?_, by decide⟩
    · rw [psT_o (by omega) (by omega)]; exact e1
    · rw [psT_o (by omega) (by omega)]; exact e2
  · intro h dp
    rw [if_pos h, if_pos rfl]
    have s4 := (show TS T X3 _ _ _ _ from ⟨x1, x2, x3, x4, x5, x6, x7⟩).nat (by omega) (Int.le_refl _) (b + 1)
    have F4 := ts_F hP s4
    have k4 : up X3 100 6 (b + 1) 115 (T 100 13) = 1 := by rw [up_o _ (by decide)]; exact k3
    generalize up X3 100 6 (b + 1) = X4 at s4 F4 k4
    have d4 := s4.2.2.2.1
    have s5 := s4.ndeep (by omega) (Int.le_refl _) (X4 100 19 + 1)
    have k5 : up X4 100 19 (X4 100 19 + 1) 115 (T 100 13) = 1 := by rw [up_o _ (by decide)]; exact k4
    rw [if_pos F4.1, Tw_deeper_e (by omega) (by omega) (by omega), bd_some]
    generalize up X4 100 19 (X4 100 19 + 1) = X5 at s5 k5
    rw [d4] at s5
    have w5 := s5.2.2.2.2.1
    rw [b309 X5 (by omega) (by omega)]
    have pv := psT_v X5 k 0 a
    rw [w5] at pv
    exact ⟨_, rfl, s5.nps (by omega) (Int.le_refl _) k 0 a, pv.1, pv.2.2.1, pv.2.2.2, by rw [psT_o (by omega) (by omega)]; exact k5⟩
theorem op_int {n : Int} {f : Int → Int} {P W base a : Int} {e : Nat} (hd : (e : Int) ≤ 600) (hE : ExprOK n f P W e) {G T : St} (hP : PR n f G T) (h0 : 0 ≤ base) (hb : base ≤ T 100 20) (hA : AD (G 150 3) ≤ e + 2) (ea : G 150 2 = a) (et : T 100 6 = a) (hw : iw n f a 9 = 1) (an : a + 3 ≤ n) (hto : Tw_takeOperand P W T = Tw_takeOperand_b240 P W a T) :
    OpOK n f P W base (4 * e + 8) G T (ckI ((G 150 2) + 3) <| tk (up G 150 2 ((G 150 2) + 3)) fun G37 => bd (Cd_add 31 0 a 0 G37) fun _ G39 => bd (RE (e + 1) 3 [] G39) fun _ G41 => bd (Cd_add 32 0 a 0 G41) fun _ G43 => some (0, G43)) := by
  have N := hP.nums
  obtain ⟨b, hbb⟩ : ∃ b, sk n f (a + 3) = b := ⟨_, rfl⟩
  have g := sk_ge n f (a + 3)
  have g2 := sk_le (f := f) an
  rw [hbb] at g g2
  have z1 : up G 150 2 (a + 3) 110 4 = G 110 4 := up_o _ (by decide)
  rw [ea, ckI_p (by omega) (by omega), tk_e, Cd_add_e (by omega) (by omega) (by decide) (by decide), bd_some]
  have cv := adC_v (up G 150 2 (a + 3)) 31 0 a 0
  rw [z1] at cv
  have sA := (CS_at G (a + 3)).nad (Int.le_refl _) 31 0 a 0
  have sG := sA.nsk (by omega) n f
  rw [hbb] at sG
  have e1 := sA.2.1
  have v0 : skC n f (adC (up G 150 2 (a + 3)) 31 0 a 0) 111 (G 110 4) = 31 := by rw [skC_o _ _ _ _ (by decide)]; exact cv.1
  have F0 := cs_F hP sA
  generalize adC (up G 150 2 (a + 3)) 31 0 a 0 = G0 at sG e1 v0 F0 ⊢
  obtain ⟨t1, t2, t3⟩ := to_240 (P := P) (W := W) (k := 8) hP et an hbb (by rw [hw]; rfl)
  by_cases l40 : lkF n f b = 40
  · have bn := (lkF_lt l40 (by decide)).1
    refine op_ar hd hE hP h0 hb (by omega) (by rw [e1]; exact hbb) (by omega) (by omega) (by omega) bn l40 sG v0 (Or.inr ⟨rfl, rfl, rfl, rfl⟩) ?_ ?_
    · intro dp
      obtain ⟨Y, e2, fx⟩ := t2 l40 (by omega)
      obtain ⟨T', lf, fx'⟩ := Lx_fx (P := P) (W := W) (base := base) (w := 1) (x := 0) fx
      exact ⟨T', by rw [Lx_t0 N.2.2.2.2.2.2 (hto.trans e2)]; exact lf, fx'⟩
    · intro dp
      obtain ⟨Ta, e2, sT, w1, w3, w4, k1⟩ := t3 l40 (by omega)
      exact ⟨Ta, Lx_t0 N.2.2.2.2.2.2 (hto.trans e2), sT, w1, w3, k1⟩
  · obtain ⟨Y, e2, fx⟩ := t1 l40
    obtain ⟨T', lf, fx'⟩ := Lx_fx (P := P) (W := W) (base := base) (w := 1) (x := 0) fx
    have fg := FG_cs (w := 1) (p := b) hP sG (by omega) (by omega) (by omega) (by omega) (by omega) (by omega) (by decide)
    show OpOK n f P W base (4 * e + 8) G T (bd (Rd_around (RE e) G0) fun _ G41 => bd (Cd_add 32 0 a 0 G41) fun _ G43 => some (0, G43))
    rw [ar_e _ F0.2 (by omega) (by rw [e1]; exact hbb) g2 F0.1, if_neg l40, bd_some, FG_add_e fg (by omega) 0 a 0 (by decide) (by decide), bd_some]
    exact ⟨_, rfl, Or.inl ⟨1, b, T', (FG_add fg _ _ _ _).mono (by omega), by rw [Lx_t0 N.2.2.2.2.2.2 (hto.trans e2)]; exact lf, fx'⟩⟩
/-- a leaf: one step and two -/
theorem leaf_ok {n : Int} {f : Int → Int} {P W x s : Int} {G T G' T' : St} (hP : PR n f G T) (sG : CS G G' x (G 110 4 + 1) (G 150 3)) (sT : TS T T' x (T 100 13 + 2) (T 100 19) (T 100 20)) (hx : G 150 2 < x) (hx' : T 100 6 < x) (xn : x ≤ n) (hw : WF P W G' T' 0 (G 110 4) (G 110 4 + 1) (T 100 13) (T 100 13 + 2) 0 0 (31 - G 150 3)) (hk : T' 115 (T 100 13 + 1) ≠ 8) : OKX n f P W G T G' T' := by
  have N := hP.nums
  have pr : PR n f G' T' := hP.mv sG sT (by omega) (by omega) (by omega) (by omega) rfl (by omega) (by omega) (by omega) (by omega) (by omega) (by omega) (by omega) (by omega) (by omega)
  obtain ⟨c1, c2, c3, c4, c5⟩ := sG
  obtain ⟨d1, d2, d3, d4, d5, d6, d7⟩ := sT
  refine ⟨pr, d5, d6, c4, d7, c5, by rw [c3, d3]; exact hw, ?_, by omega, by omega, by omega, by omega⟩
  rw [d3, show T 100 13 + 2 - 1 = T 100 13 + 1 by omega]; exact hk
theorem op_tf {n : Int} {f : Int → Int} {P W base k a : Int} {G T : St} (hP : PR n f G T) (ea : G 150 2 = a) (et : T 100 6 = a) (an : a < we n f a) (an2 : we n f a ≤ n) (Rf : Nat → List Int → St → Option (Int × St)) (hto : Tw_takeOperand P W T = Tw_takeOperand_b178 P W a T) : OpOK n f P W base k G T (Rd_factor_b217 Rf a G) := by
  have N := hP.nums
  unfold Rd_factor_b217 Rd_factor_b239
  unfold Tw_takeOperand_b178 Tw_takeOperand_b203 at hto
  have s1 := TS_ad T 1 0 0 a
  have F1 := ts_F hP s1
  have v1 := adT_v T 1 0 0 a
  rw [Tw_put_e (by omega) (by omega), bd_some] at hto
  generalize adT T 1 0 0 a = X1 at s1 F1 v1 hto
  obtain ⟨x1, x2, x3, x4, x5, x6, x7⟩ := s1
  rw [Tw_isWord_e F1.2 (by omega) (by omega) 11 (by decide) (by decide), bd_some, x2, et, Tw_put_e (by omega) (by omega), bd_some] at hto
  rw [Rd_isWord_e hP.1.1 (by omega) (by omega) 11 (by decide) (by decide), bd_some, ea]
  obtain ⟨r, hr⟩ : ∃ r, r = iw n f a 11 := ⟨_, rfl⟩
  rw [← hr] at hto ⊢
  have s2 := (show TS T X1 _ _ _ _ from ⟨x1, x2, x3, x4, x5, x6, x7⟩).nad (by omega) (Int.le_refl _) (if r = 0 then 4 else 3) 0 0 a
  have F2 := ts_F hP s2
  have v2 := adT_v X1 (if r = 0 then 4 else 3) 0 0 a
  have v1' : adT X1 (if r = 0 then 4 else 3) 0 0 a 115 (T 100 13) = 1 := by rw [adT_o (by omega) (by omega)]; exact v1.1
  generalize adT X1 (if r = 0 then 4 else 3) 0 0 a = X2 at s2 F2 v2 v1' hto
  rw [x3] at v2
  have a2 := s2.2.1
  rw [Tw_wordEnd_e F2.2 (by omega) (by omega), bd_some, a2, et, tk_e, ckB_p (by decide) (by decide)] at hto
  have s3 := s2.nat (by omega) (Int.le_refl _) (we n f a)
  have u1 : up X2 100 6 (we n f a) 115 (T 100 13) = 1 := by rw [up_o _ (by decide)]; exact v1'
  have u2 : up X2 100 6 (we n f a) 115 (T 100 13 + 1) = (if r = 0 then 4 else 3) := by rw [up_o _ (by decide)]; exact v2.1
  have u3 : up X2 100 6 (we n f a) 118 (T 100 13 + 1) = a := by rw [up_o _ (by decide)]; exact v2.2.2.2
  generalize up X2 100 6 (we n f a) = T' at s3 u1 u2 u3 hto
  have lx := Lx_t1 (base := base) N.2.2.2.2.2.2 hto (by have := s3.2.2.2.2.1; omega)
  have op : 0 ≤ (if r = 0 then (24 : Int) else 23) ∧ (if r = 0 then (24 : Int) else 23) < 61 := by split <;> omega
  rw [Cd_add_e (by omega) (by omega) op.1 op.2, bd_some]
  have c1 := CS_ad G (if r = 0 then 24 else 23) 0 a 0
  have cv := adC_v G (if r = 0 then 24 else 23) 0 a 0
  have FC := cs_F hP c1
  generalize adC G (if r = 0 then 24 else 23) 0 a 0 = G1 at c1 cv FC ⊢
  rw [Rd_wordEnd_e FC.2 (by rw [c1.2.1]; omega), bd_some, c1.2.1, ea, tk_e]
  have c2 := c1.nat (by omega) (we n f a)
  have cw1 : up G1 150 2 (we n f a) 111 (G 110 4) = (if r = 0 then 24 else 23) := by rw [up_o _ (by decide)]; exact cv.1
  have cw3 : up G1 150 2 (we n f a) 113 (G 110 4) = a := by rw [up_o _ (by decide)]; exact cv.2.2.1
  generalize up G1 150 2 (we n f a) = G' at c2 cw1 cw3 ⊢
  have ee : T 100 13 + 1 + 1 = T 100 13 + 2 := by omega
  rw [ee] at s3
  refine ⟨G', rfl, Or.inr ⟨T', lx, leaf_ok (s := 0) hP c2 s3 (by omega) (by omega) an2 ?_ ?_⟩⟩
  · by_cases z : r = 0
    · rw [if_pos z] at cw1 u2
      exact wf_fal P W _ _ _ _ _ cw1 u1 u2 (by rw [u3, cw3])
    · rw [if_neg z] at cw1 u2
      exact wf_tru P W _ _ _ _ _ cw1 u1 u2 (by rw [u3, cw3])
  · rw [u2]; split <;> decide
