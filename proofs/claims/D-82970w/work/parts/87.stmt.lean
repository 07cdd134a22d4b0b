/-! PLAIN: any statement; all statements -/
theorem asg_end {n : Int} {f : Int → Int} {P W a w p : Int} {G T T' : St} (hP : PR n f G T) (et : T 100 6 = a) (hsk : sk n f a = a) (an : a = n) (e : Tw_assignment P W a T = some (0, T')) (fx : FX w p T') : w = 1 ∧ p = n := by
  have N := hP.nums
  have nc := hP.2.1
  have e2 := Tw_name_e hP.1.2.1 (by omega) (by omega) N.2.2.2.2.2.2 nc.2.1 (by have h1 := nc.2.2.1.1; have h2 := nc.1; have h3 := nc.2.2.2; have h4 := h2.2.1; omega) _ _ rfl rfl
  rw [et, hsk] at e2
  have wn : we n f a = a := we_0 (fun h => by omega)
  rw [wn, if_pos (Or.inl rfl)] at e2
  unfold Tw_assignment at e
  have h1 : fT 1 a (skT n f T) 100 7 = 1 := by simp [fT, up_ap]
  have h2 : fT 1 a (skT n f T) 100 8 = a := by simp [fT, up_ap]
  rw [e2, bd_some, if_pos (by rw [h1]; decide)] at e
  injection e with e
  injection e with e3 e4
  have f1 := fx.1
  have f2 := fx.2.1
  rw [← e4] at f1 f2
  omega
theorem StmtOK_s {n : Int} {f : Int → Int} {P W : Int} {d : Nat} (hd : (d : Int) ≤ 600) (hCo : CondOK n f P W d) (hLo : LoopOK n f P W d) : StmtOK n f P W (d + 1) := by
  intro G T a hP hS hV ea et hsk hend h125 htop hio hA
  have N := hP.nums
  show ∃ G', Rd_statement (RS d) G = some (0, G') ∧ _
  unfold Rd_statement
  have hV' := hV
  unfold VQ at hV'
  rw [ea]
  have wC : ∀ (i : Nat) (w : Int), i < 13 → w = 70 + i → Rd_isWord w G = some (iw n f a i, G) := fun i w h1 h2 => by rw [Rd_isWord_e hP.1.1 (by omega) (by omega) i h1 h2, ea]
  have wT : ∀ (i : Nat) (w : Int), i < 13 → w = 70 + i → Tw_isWord w T = some (iw n f a i, T) := fun i w h1 h2 => by rw [Tw_isWord_e hP.1.2.1 (by omega) (by omega) i h1 h2, et]
  have le := Lp_e (P := P) (W := W) hP.1.2.1 et (by omega) (by omega) hsk N.2.2.2.2.2.2
  rw [wC 2 72 (by decide) (by decide), bd_some]
  -- an assignment, when nothing else begins here
  have asg : iw n f a 2 = 0 → iw n f a 6 = 0 → iw n f a 4 = 0 → ∃ G', (bd (Rd_assignment G) fun _ G8 => some ((0 : Int), G8)) = some (0, G') ∧ (FLP n f (FKd (d + 1)) G' (Lp P W T) ∨ ∃ T1, Lp P W T = Lp P W T1 ∧ OKZ n f P W G T G' T1) := by
    intro w2 w6 w4
    obtain ⟨G', e1, R⟩ := as_ok (P := P) (W := W) (v := T 100 30) hP hS ea et hsk
    refine ⟨G', by rw [e1, bd_some], ?_⟩
    by_cases an : a = n
    · rw [if_pos an, if_pos (by omega)] at le
      rcases R with ⟨w, p, T', fg, lx, fx⟩ | ⟨T', lx, ok⟩
      · obtain ⟨h1, h2⟩ := asg_end hP et hsk an lx fx
        subst h1
        subst h2
        exact Or.inl ⟨1, p, _, fg.mono (by unfold FKd; omega), le, by rw [an]; exact FX_fT _ (by decide)⟩
      · exfalso
        have h9 := ok.2.2.2.2.2.2.2.2.1
        have NG := ok.1.nums
        omega
    · rw [if_neg an, if_neg (by rintro ⟨q1, q2⟩; rcases h125 with h | h; exact h q1; omega)] at le
      have b117 : Tw_program_b117 P W 1 a T = (bd (Tw_assignment P W a T) fun _ G20 => some (Sum.inl ((1 : Int), G20))) := by
        unfold Tw_program_b117 Tw_program_b196 Tw_program_b221 Tw_program_b246
        rw [wT 2 72 (by decide) (by decide), bd_some, w2, if_pos rfl, wT 6 76 (by decide) (by decide), bd_some, w6, if_pos rfl, wT 4 74 (by decide) (by decide), bd_some, w4, if_pos rfl]
        by_cases bz : T 100 26 = 0
        · have hi : iw n f a 0 = 0 ∧ iw n f a 3 = 0 ∧ iw n f a 8 = 0 := by
            rcases hio with h | h
            · omega
            · exact h
          rw [if_pos bz, wT 0 70 (by decide) (by decide), bd_some, hi.1, if_pos rfl, if_pos bz, wT 3 73 (by decide) (by decide), bd_some, hi.2.1, if_pos rfl, if_pos bz, wT 8 78 (by decide) (by decide), bd_some, hi.2.2, if_pos rfl]
        · rw [if_neg bz, if_neg bz, if_neg bz]
      rw [b117, bd_bind] at le
      have le2 : Lp P W T = bd (Tw_assignment P W a T) fun _ T' => Lp P W T' := le
      rcases R with ⟨w, p, T', fg, lx, fx⟩ | ⟨T', lx, ok⟩
      · exact Or.inl ⟨w, p, T', fg.mono (by unfold FKd; omega), by rw [le2, lx, bd_some, Lp_flt fx.ne], fx⟩
      · have fr := fr_Tw_assignment P W a T (0, T') lx
        have vr : T' 100 30 = T 100 30 := fr _ _ (by simp [fS])
        have vi : T' 100 29 = T 100 29 := fr _ _ (by simp [fS])
        have hbk : bk T T' (T 100 26) := fun o k h _ _ => fr o k (by rcases h with h | h <;> subst h <;> simp [fS])
        have fr8 := fr_Rd_assignment G (0, G') e1
        have gv : G' 150 5 = G 150 5 := fr8 _ _ (by simp [fS])
        have gi : G' 150 4 = G 150 4 := fr8 _ _ (by simp [fS])
        refine Or.inr ⟨T', by rw [le2, lx, bd_some], ?_, hV.tr gv gi vr vi, hbk⟩
        rw [vr]; exact ok
  have nend : iw n f a 2 = 1 ∨ iw n f a 6 = 1 ∨ iw n f a 4 = 1 → a < n := fun h => by
    rcases h with h | h | h
    · exact (iw_lt h (by decide)).1
    · exact (iw_lt h (by decide)).1
    · exact (iw_lt h (by decide)).1
  have n125 : ¬ (lkF n f a = 125 ∧ 0 < T 100 26) := by rintro ⟨q1, q2⟩; rcases h125 with h | h; exact h q1; omega
  rcases iw_r n f a 2 with w2 | w2
  · rw [w2, if_pos rfl, wC 6 76 (by decide) (by decide), bd_some]
    rcases iw_r n f a 6 with w6 | w6
    · rw [w6, if_pos rfl, wC 4 74 (by decide) (by decide), bd_some]
      rcases iw_r n f a 4 with w4 | w4
      · rw [w4, if_pos rfl]
        exact asg w2 w6 w4
      · rw [w4, if_neg (by decide)]
        have lt := nend (Or.inr (Or.inr w4))
        rw [if_neg (by omega), if_neg n125] at le
        have b117 : Tw_program_b117 P W 1 a T = (bd (Tw_forStatement P W a T) fun _ G20 => some (Sum.inl ((1 : Int), G20))) := by
          unfold Tw_program_b117
          rw [wT 2 72 (by decide) (by decide), bd_some, w2, if_pos rfl, wT 6 76 (by decide) (by decide), bd_some, w6, if_pos rfl, wT 4 74 (by decide) (by decide), bd_some, w4, if_neg (by decide)]
        rw [b117, bd_bind] at le
        have le2 : Lp P W T = bd (Tw_forStatement P W a T) fun _ T' => Lp P W T' := le
        obtain ⟨G', e1, R⟩ := hLo G T a hP hS hV ea et hsk w4 (by omega)
        refine ⟨G', by rw [e1, bd_some], ?_⟩
        rw [← le2] at R
        rcases R with ⟨w, p, T', fg, lx, fx⟩ | R
        · exact Or.inl ⟨w, p, T', fg.mono (by unfold FKd; omega), lx, fx⟩
        · exact Or.inr R
    · rw [w6, if_neg (by decide)]
      have lt := nend (Or.inr (Or.inl w6))
      rw [if_neg (by omega), if_neg n125] at le
      have b117 : Tw_program_b117 P W 1 a T = (bd (Tw_ifStatement P W a T) fun _ G20 => some (Sum.inl ((1 : Int), G20))) := by
        unfold Tw_program_b117
        rw [wT 2 72 (by decide) (by decide), bd_some, w2, if_pos rfl, wT 6 76 (by decide) (by decide), bd_some, w6, if_neg (by decide)]
      rw [b117, bd_bind] at le
      have le2 : Lp P W T = bd (Tw_ifStatement P W a T) fun _ T' => Lp P W T' := le
      obtain ⟨G', e1, R⟩ := hCo G T a hP hS hV ea et hsk w6 (by omega)
      refine ⟨G', by rw [e1, bd_some], ?_⟩
      rw [← le2] at R
      rcases R with ⟨w, p, T', fg, lx, fx⟩ | ⟨T1, lx, ok⟩
      · exact Or.inl ⟨w, p, T', fg.mono (by unfold FKd; omega), lx, fx⟩
      · have ok' := ok
        obtain ⟨⟨o1, o2, o3, o4, o5, o6, o7, o8, o9, o10, o11⟩, vq, ob⟩ := ok'
        refine Or.inr ⟨T1, ?_, ok⟩
        rw [lx]
        refine kb_stop (by omega) (by omega) ?_
        by_cases bz : T 100 26 = 0
        · left; omega
        · right
          rw [o3, ob _ _ (by decide) (by omega) (by omega)]
          rcases htop with h | h
          · exact absurd h bz
          · exact h
  · rw [w2, if_neg (by decide)]
    have lt := nend (Or.inl w2)
    have il := iw_lt w2 (by decide)
    have sl : swl 2 = 3 := by decide
    have wl := we_le (n := n) (f := f) (a := a) (by omega)
    rw [if_neg (by omega), if_neg n125] at le
    have b117 : Tw_program_b117 P W 1 a T = (bd (Tw_varStatement P W a T) fun _ G20 => some (Sum.inl ((1 : Int), G20))) := by
      unfold Tw_program_b117
      rw [wT 2 72 (by decide) (by decide), bd_some, w2, if_neg (by decide)]
    rw [b117, bd_bind] at le
    have le2 : Lp P W T = bd (Tw_varStatement P W a T) fun _ T' => Lp P W T' := le
    obtain ⟨G', e1, R⟩ := var_ok (P := P) (W := W) hP hS hV ea et (by omega)
    have e1' : (bd (Cd_add 6 0 a 0 G) fun _ G14 => bd (Rd_variable G14) fun _ G16 => some ((0 : Int), G16)) = some (0, G') := by
      rw [Cd_add_e (by omega) (by unfold SB at hS; omega) (by decide) (by decide), bd_some] at e1 ⊢
      rw [e1, bd_some]
    refine ⟨G', e1', ?_⟩
    rcases R with ⟨w, p, T', fg, lx, fx⟩ | ⟨T', lx, ok, vq⟩
    · exact Or.inl ⟨w, p, T', fg.mono (by unfold FKd; omega), by rw [le2, lx, bd_some, Lp_flt fx.ne], fx⟩
    · have fr := fr_Tw_varStatement P W a T (0, T') lx
      exact Or.inr ⟨T', by rw [le2, lx, bd_some], ok, vq, fun o k h _ _ => fr o k (by rcases h with h | h <;> subst h <;> simp [fS])⟩
/-- all statements are read alike -/
theorem all_stmt (n : Int) (f : Int → Int) (P W : Int) : ∀ d : Nat, (d : Int) ≤ 600 → StmtOK n f P W d ∧ BlockOK n f P W d ∧ CondOK n f P W d ∧ LoopOK n f P W d := by
  intro d
  induction d with
  | zero =>
    intro _
    refine ⟨?_, ?_, ?_, ?_⟩
    · intro G T a hP hS hV ea et hsk hend h125 htop hio hA
      have N := hP.nums
      unfold AS at hA
      omega
    · intro G T kk idx hP hS hV hkk hA
      have N := hP.nums
      unfold AS at hA
      omega
    · intro G T a hP hS hV ea et hsk hw hA
      have N := hP.nums
      unfold AS at hA
      omega
    · intro G T a hP hS hV ea et hsk hw hA
      have N := hP.nums
      unfold AS at hA
      omega
  | succ d ih =>
    intro hd
    obtain ⟨s, b, c, l⟩ := ih (by omega)
    exact ⟨StmtOK_s (by omega) c l, BlockOK_s (by omega) s, CondOK_s (by omega) b c, LoopOK_s (by omega) b⟩
