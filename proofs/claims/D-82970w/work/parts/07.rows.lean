/-! ROWS: stack, locals, arithmetic -/
theorem al_c {P : AV → Prop} {a : AV} {st : List AV} (h : P a) (t : ∀ v ∈ st, P v) : ∀ v ∈ a :: st, P v := by
  intro v hv
  rcases List.mem_cons.mp hv with rfl | hv
  · exact h
  · exact t v hv
theorem al_h {P : AV → Prop} {a : AV} {st : List AV} (h : ∀ v ∈ a :: st, P v) : P a := h a List.mem_cons_self
theorem al_t {P : AV → Prop} {a : AV} {st : List AV} (h : ∀ v ∈ a :: st, P v) : ∀ v ∈ st, P v := fun v hv => h v (List.mem_cons_of_mem _ hv)
def isL (v : AV) : Bool := match v with
  | .inr (.inl _) => true
  | _ => false
theorem isL_cv (ad : Int → Nat) (v : AV) : ((cv ad v).category == 2) = isL v := by
  rcases v with x | x | x
  · rfl
  · rfl
  · show ((dr ad x).category == 2) = false
    rw [dr_cat]
    rfl
abbrev fl1 (i : Nat) (lv : List (Nat × AV)) : List (Nat × AV) := lv.filter (fun q => !(q.1 == i) && !(q.1 + 1 == i && isL q.2))
abbrev fl2 (i : Nat) (lv : List (Nat × AV)) : List (Nat × AV) := lv.filter (fun q => !(q.1 == i) && (!(q.1 == i + 1) && !(q.1 + 1 == i && isL q.2)))
theorem fl1_cv (ad : Int → Nat) (i : Nat) (lv : List (Nat × AV)) : (lvv ad lv).filter (fun q => !(q.1 == i) && !(q.1 + 1 == i && q.2.category == 2)) = lvv ad (fl1 i lv) := by
  show (lv.map fun q => (q.1, cv ad q.2)).filter _ = (lv.filter _).map _
  rw [List.filter_map]
  congr 1
  apply congrArg (fun f => List.filter f lv)
  funext q
  simp only [Function.comp]
  rw [isL_cv]
theorem fl2_cv (ad : Int → Nat) (i : Nat) (lv : List (Nat × AV)) : (lvv ad lv).filter (fun q => !(q.1 == i) && (!(q.1 == i + 1) && !(q.1 + 1 == i && q.2.category == 2))) = lvv ad (fl2 i lv) := by
  show (lv.map fun q => (q.1, cv ad q.2)).filter _ = (lv.filter _).map _
  rw [List.filter_map]
  congr 1
  apply congrArg (fun f => List.filter f lv)
  funext q
  simp only [Function.comp]
  rw [isL_cv]
theorem b8 {n : Int} (h : -128 ≤ n ∧ n < 128) : (Int8.ofInt n).toInt32 = Int32.ofInt n := by
  apply Int32.toInt_inj.mp
  rw [Int8.toInt_toInt32, t32i ⟨by omega, by omega⟩, Int8.toInt_ofInt, Int.bmod_def, show ((Int8.size : Nat) : Int) = 256 from rfl]
  split <;> omega
theorem b16 {n : Int} (h : -32768 ≤ n ∧ n < 32768) : (Int16.ofInt n).toInt32 = Int32.ofInt n := by
  apply Int32.toInt_inj.mp
  rw [Int16.toInt_toInt32, t32i ⟨by omega, by omega⟩, Int16.toInt_ofInt, Int.bmod_def, show ((Int16.size : Nat) : Int) = 65536 from rfl]
  split <;> omega
section ROWS
variable {ρ : Type} {M : Mt} {T : ρ → Option (Int × St)} {pc : Nat} {lv lv' : List (Nat × AV)} {st st' : List AV} {G : St} {r r' : Option ρ}
/-- a step that leaves heap and locals alone -/
theorem ss_st (q : Nat) (st' : List AV) (hok : okI M lv st G → ∀ v ∈ st', okV (mL M) (G 0) v)
    (hW : okI M lv st G → ∀ {p : Program} {l : Launch} {e : Env} {R : Room} {s : State} {m : MethodId} {args : Array Value} {below : List Frame} {meth : Method} {c : Code} {ω : Wd} {A : Nat → Prop}, CX M p R s m args meth c ω A →
      ∀ {H : Heap} {locs : List Loc} {ls : Array Slot} {cells slots : Nat} {Q : State → Prop} (ad : Int → Nat), (∀ k : Nat, k < 100 → ad k = ω.2.2.1 k) → RP (mL M) ω.1 ω.2.1 ad G H A → va_S A s.heap H locs → lv_has ls (mN M) (lvv ad lv) → (cells ≤ R.cells ∧ slots ≤ R.slots) → W p l e R s m args below meth c H locs cells slots Q (F0 m q ls (st'.map (cv ad))) → W p l e R s m args below meth c H locs cells slots Q (F0 m pc ls (st.map (cv ad))))
    (k : SS M T q lv st' G r) : SS M T pc lv st G r := by
  intro hI out ho
  obtain ⟨h1, h2⟩ := k ⟨hI.1, hI.2.1, hI.2.2.1, hok hI⟩ out ho
  refine ⟨h1, ?_⟩
  intro p l e R s m args below meth c ω A C ad ad0 E0 H locs ls c0 s0 a1 a2 a3 a4 a5 a6 a7 a8 a9 a10
  have b1 := h1.1.1
  have b2 := h1.1.2.1
  exact hW hI C ad a1 a4 a5 a6 ⟨by omega, by omega⟩ (h2 p l e R s m args below meth c ω A C ad ad0 E0 H locs ls c0 s0 a1 a2 a3 a4 a5 a6 a7 a8 a9 a10)
/-- a step that stores into a local -/
theorem ss_lv (q : Nat) (lv' : List (Nat × AV)) (st' : List AV) (hok : okI M lv st G → (∀ q ∈ lv', okV (mL M) (G 0) q.2) ∧ ∀ v ∈ st', okV (mL M) (G 0) v)
    (hW : okI M lv st G → ∀ {p : Program} {l : Launch} {e : Env} {R : Room} {s : State} {m : MethodId} {args : Array Value} {below : List Frame} {meth : Method} {c : Code} {ω : Wd} {A : Nat → Prop}, CX M p R s m args meth c ω A →
      ∀ {H : Heap} {locs : List Loc} {ls : Array Slot} {cells slots : Nat} {Q : State → Prop} (ad : Int → Nat), lv_has ls (mN M) (lvv ad lv) → (∀ ls' : Array Slot, lv_has ls' (mN M) (lvv ad lv') → W p l e R s m args below meth c H locs cells slots Q (F0 m q ls' (st'.map (cv ad)))) → W p l e R s m args below meth c H locs cells slots Q (F0 m pc ls (st.map (cv ad))))
    (k : SS M T q lv' st' G r) : SS M T pc lv st G r := by
  intro hI out ho
  obtain ⟨h1, h2⟩ := k ⟨hI.1, hI.2.1, (hok hI).1, (hok hI).2⟩ out ho
  refine ⟨h1, ?_⟩
  intro p l e R s m args below meth c ω A C ad ad0 E0 H locs ls c0 s0 a1 a2 a3 a4 a5 a6 a7 a8 a9 a10
  exact hW hI C ad a6 (fun ls' a6' => h2 p l e R s m args below meth c ω A C ad ad0 E0 H locs ls' c0 s0 a1 a2 a3 a4 a5 a6' a7 a8 a9 a10)
theorem lv_mem {j i : Nat} {v : AV} (h : lv[j]? = some (i, v)) : (i, v) ∈ lv := List.mem_of_getElem? h
theorem lv_get {ls : Array Slot} {nL j i : Nat} {v : AV} {ad : Int → Nat} (hl : lv_has ls nL (lvv ad lv)) (h : lv[j]? = some (i, v)) : ls[i]? = some (.val (cv ad v)) := by
  refine lv_at hl j (i := i) (v := cv ad v) ?_
  simp [h]

theorem r_iconst (q : Nat) (n : Int) (d : decode (mC M) pc = .ok (.iconst n, 1)) (hn : (decide (-2147483648 ≤ n) && decide (n < 2147483648)) = true) (hq : pc + 1 = q) (k : SS M T q lv (aI n :: st) G r) : SS M T pc lv st G r := by
  subst hq
  simp only [Bool.and_eq_true, decide_eq_true_eq] at hn
  exact ss_st _ (aI n :: st) (fun hI => al_c (show _ ∧ _ from ⟨by omega, by omega⟩) hI.2.2.2) (fun hI _ _ _ _ _ _ _ _ _ _ _ _ C _ _ _ _ _ _ ad _ _ _ hl _ w => lv_iconst C.1 C.2.1 d rfl w) k
theorem r_bipush (q : Nat) (n : Int) (d : decode (mC M) pc = .ok (.bipush n, 2)) (hn : (decide (-128 ≤ n) && decide (n < 128)) = true) (hq : pc + 2 = q) (k : SS M T q lv (aI n :: st) G r) : SS M T pc lv st G r := by
  subst hq
  simp only [Bool.and_eq_true, decide_eq_true_eq] at hn
  exact ss_st _ (aI n :: st) (fun hI => al_c (show _ ∧ _ from ⟨by omega, by omega⟩) hI.2.2.2) (fun hI _ _ _ _ _ _ _ _ _ _ _ _ C _ _ _ _ _ _ ad _ _ _ hl _ w => lv_bipush C.1 C.2.1 d (b8 hn) w) k
theorem r_sipush (q : Nat) (n : Int) (d : decode (mC M) pc = .ok (.sipush n, 3)) (hn : (decide (-32768 ≤ n) && decide (n < 32768)) = true) (hq : pc + 3 = q) (k : SS M T q lv (aI n :: st) G r) : SS M T pc lv st G r := by
  subst hq
  simp only [Bool.and_eq_true, decide_eq_true_eq] at hn
  exact ss_st _ (aI n :: st) (fun hI => al_c (show _ ∧ _ from ⟨by omega, by omega⟩) hI.2.2.2) (fun hI _ _ _ _ _ _ _ _ _ _ _ _ C _ _ _ _ _ _ ad _ _ _ hl _ w => lv_sipush C.1 C.2.1 d (b16 hn) w) k
theorem r_ldc (q : Nat) (n : Int) {idx : Nat} {v : Int32} (d : decode (mC M) pc = .ok (.ldc idx, 2)) (qw : Cond.constant (mY M).cls idx v ∈ lw_all) (hv : Int32.ofInt n = v) (hn : (decide (-2147483648 ≤ n) && decide (n < 2147483648)) = true) (hq : pc + 2 = q) (k : SS M T q lv (aI n :: st) G r) : SS M T pc lv st G r := by
  subst hq
  subst hv
  simp only [Bool.and_eq_true, decide_eq_true_eq] at hn
  exact ss_st _ (aI n :: st) (fun hI => al_c (show _ ∧ _ from ⟨by omega, by omega⟩) hI.2.2.2) (fun hI _ _ _ _ _ _ _ _ _ _ _ _ C _ _ _ _ _ _ ad _ _ _ hl _ w => lv_ldc C.1 C.2.1 C.2.2.2.2.2.1 (C.2.2.2.2.2.2.1 _ qw) d w) k
theorem r_ldcw (q : Nat) (n : Int) {idx : Nat} {v : Int32} (d : decode (mC M) pc = .ok (.ldc_w idx, 3)) (qw : Cond.constant (mY M).cls idx v ∈ lw_all) (hv : Int32.ofInt n = v) (hn : (decide (-2147483648 ≤ n) && decide (n < 2147483648)) = true) (hq : pc + 3 = q) (k : SS M T q lv (aI n :: st) G r) : SS M T pc lv st G r := by
  subst hq
  subst hv
  simp only [Bool.and_eq_true, decide_eq_true_eq] at hn
  exact ss_st _ (aI n :: st) (fun hI => al_c (show _ ∧ _ from ⟨by omega, by omega⟩) hI.2.2.2) (fun hI _ _ _ _ _ _ _ _ _ _ _ _ C _ _ _ _ _ _ ad _ _ _ hl _ w => lv_ldcw C.1 C.2.1 C.2.2.2.2.2.1 (C.2.2.2.2.2.2.1 _ qw) d w) k
theorem r_ldc2 (q : Nat) (n : Int) {idx : Nat} {v : Int64} (d : decode (mC M) pc = .ok (.ldc2_w idx, 3)) (qw : Cond.constantLong (mY M).cls idx v ∈ lw_all) (hv : Int64.ofInt n = v) (hn : (decide (-9223372036854775808 ≤ n) && decide (n < 9223372036854775808)) = true) (hq : pc + 3 = q) (k : SS M T q lv (aL n :: st) G r) : SS M T pc lv st G r := by
  subst hq
  subst hv
  simp only [Bool.and_eq_true, decide_eq_true_eq] at hn
  exact ss_st _ (aL n :: st) (fun hI => al_c (show _ ∧ _ from ⟨by omega, by omega⟩) hI.2.2.2) (fun hI _ _ _ _ _ _ _ _ _ _ _ _ C _ _ _ _ _ _ ad _ _ _ hl _ w => lv_ldc2 C.1 C.2.1 C.2.2.2.2.2.1 (C.2.2.2.2.2.2.1 _ qw) d w) k
theorem r_lconst (q : Nat) (n : Int) {f : Fin 2} (d : decode (mC M) pc = .ok (.lconst f, 1)) (hv : Int64.ofNat (f : Nat) = Int64.ofInt n) (hn : (decide (-9223372036854775808 ≤ n) && decide (n < 9223372036854775808)) = true) (hq : pc + 1 = q) (k : SS M T q lv (aL n :: st) G r) : SS M T pc lv st G r := by
  subst hq
  simp only [Bool.and_eq_true, decide_eq_true_eq] at hn
  exact ss_st _ (aL n :: st) (fun hI => al_c (show _ ∧ _ from ⟨by omega, by omega⟩) hI.2.2.2) (fun hI _ _ _ _ _ _ _ _ _ _ _ _ C _ _ _ _ _ _ ad _ _ _ hl _ w => lv_lconst C.1 C.2.1 d hv w) k
theorem r_iload_n (q j : Nat) {f : Fin 4} {i : Nat} {x : Int} (d : decode (mC M) pc = .ok (.iload_n f, 1)) (h : lv[j]? = some (i, aI x)) (hi : (f : Nat) = i) (hq : pc + 1 = q) (k : SS M T q lv (aI x :: st) G r) : SS M T pc lv st G r := by
  subst hq
  exact ss_st _ (aI x :: st) (fun hI => al_c (hI.2.2.1 _ (lv_mem h)) hI.2.2.2) (fun hI _ _ _ _ _ _ _ _ _ _ _ _ C _ _ _ _ _ _ ad _ _ _ hl _ w => lv_iload_n C.1 C.2.1 d hi (lv_get hl h) w) k
theorem r_iload (q j : Nat) {i : Nat} {x : Int} (d : decode (mC M) pc = .ok (.iload i, 2)) (h : lv[j]? = some (i, aI x)) (hq : pc + 2 = q) (k : SS M T q lv (aI x :: st) G r) : SS M T pc lv st G r := by
  subst hq
  exact ss_st _ (aI x :: st) (fun hI => al_c (hI.2.2.1 _ (lv_mem h)) hI.2.2.2) (fun hI _ _ _ _ _ _ _ _ _ _ _ _ C _ _ _ _ _ _ ad _ _ _ hl _ w => lv_iload C.1 C.2.1 d (lv_get hl h) w) k
theorem r_lload_n (q j : Nat) {f : Fin 4} {i : Nat} {x : Int} (d : decode (mC M) pc = .ok (.lload_n f, 1)) (h : lv[j]? = some (i, aL x)) (hi : (f : Nat) = i) (hq : pc + 1 = q) (k : SS M T q lv (aL x :: st) G r) : SS M T pc lv st G r := by
  subst hq
  exact ss_st _ (aL x :: st) (fun hI => al_c (hI.2.2.1 _ (lv_mem h)) hI.2.2.2) (fun hI _ _ _ _ _ _ _ _ _ _ _ _ C _ _ _ _ _ _ ad _ _ _ hl _ w => lv_lload_n C.1 C.2.1 d hi (lv_get hl h) w) k
theorem r_lload (q j : Nat) {i : Nat} {x : Int} (d : decode (mC M) pc = .ok (.lload i, 2)) (h : lv[j]? = some (i, aL x)) (hq : pc + 2 = q) (k : SS M T q lv (aL x :: st) G r) : SS M T pc lv st G r := by
  subst hq
  exact ss_st _ (aL x :: st) (fun hI => al_c (hI.2.2.1 _ (lv_mem h)) hI.2.2.2) (fun hI _ _ _ _ _ _ _ _ _ _ _ _ C _ _ _ _ _ _ ad _ _ _ hl _ w => lv_lload C.1 C.2.1 d (lv_get hl h) w) k
theorem r_aload_n (q j : Nat) {f : Fin 4} {i : Nat} {x : Int} (d : decode (mC M) pc = .ok (.aload_n f, 1)) (h : lv[j]? = some (i, aR x)) (hi : (f : Nat) = i) (hq : pc + 1 = q) (k : SS M T q lv (aR x :: st) G r) : SS M T pc lv st G r := by
  subst hq
  refine ss_st _ (aR x :: st) (fun hI => al_c (hI.2.2.1 _ (lv_mem h)) hI.2.2.2) (fun hI _ _ _ _ _ _ _ _ _ _ _ _ C _ _ _ _ _ _ ad _ _ _ hl _ w => ?_) k
  have hg := lv_get hl h
  have w := w
  by_cases hx : x < 0
  · have e : cv ad (aR x) = .null := if_pos hx
    rw [e] at hg
    rw [List.map_cons, e] at w
    exact lv_aload_nN C.1 C.2.1 d hi hg w
  · have e : cv ad (aR x) = .ref (ad x) := if_neg hx
    rw [e] at hg
    rw [List.map_cons, e] at w
    exact lv_aload_n C.1 C.2.1 d hi hg w
theorem r_aload (q j : Nat) {i : Nat} {x : Int} (d : decode (mC M) pc = .ok (.aload i, 2)) (h : lv[j]? = some (i, aR x)) (hq : pc + 2 = q) (k : SS M T q lv (aR x :: st) G r) : SS M T pc lv st G r := by
  subst hq
  refine ss_st _ (aR x :: st) (fun hI => al_c (hI.2.2.1 _ (lv_mem h)) hI.2.2.2) (fun hI _ _ _ _ _ _ _ _ _ _ _ _ C _ _ _ _ _ _ ad _ _ _ hl _ w => ?_) k
  have hg := lv_get hl h
  have w := w
  by_cases hx : x < 0
  · have e : cv ad (aR x) = .null := if_pos hx
    rw [e] at hg
    rw [List.map_cons, e] at w
    exact lv_aloadN C.1 C.2.1 d hg w
  · have e : cv ad (aR x) = .ref (ad x) := if_neg hx
    rw [e] at hg
    rw [List.map_cons, e] at w
    exact lv_aload C.1 C.2.1 d hg w
theorem fl_ok {i : Nat} {v : AV} {P : AV → Prop} {f : Nat × AV → Bool} (hv : P v) (h : ∀ q ∈ lv, P q.2) (hl : (i, v) :: lv.filter f = lv') : ∀ q ∈ lv', P q.2 := by
  subst hl
  intro q hq
  rcases List.mem_cons.mp hq with rfl | hq
  · exact hv
  · exact h q ((List.mem_filter.mp hq).1)
theorem r_istore_n (q : Nat) (lv' : List (Nat × AV)) {f : Fin 4} {i : Nat} {x : Int} (d : decode (mC M) pc = .ok (.istore_n f, 1)) (hi : (f : Nat) = i) (hn : Nat.ble (i + 1) (mN M) = true) (hl : (i, aI x) :: fl1 i lv = lv') (hq : pc + 1 = q) (k : SS M T q lv' st G r) : SS M T pc lv (aI x :: st) G r := by
  subst hq
  refine ss_lv _ lv' st (fun hI => ⟨fl_ok (P := okV (mL M) (G 0)) (al_h hI.2.2.2) hI.2.2.1 hl, al_t hI.2.2.2⟩) (fun hI _ _ _ _ _ _ _ _ _ _ _ _ C _ _ ls _ _ _ ad hh w => ?_) k
  exact lv_istore_n (x := Int32.ofInt x) C.1 C.2.1 d hi hh (Nat.le_of_ble_eq_true hn) (by rw [fl1_cv, ← hl]; rfl) w
theorem r_istore (q : Nat) (lv' : List (Nat × AV)) {i : Nat} {x : Int} (d : decode (mC M) pc = .ok (.istore i, 2)) (hn : Nat.ble (i + 1) (mN M) = true) (hl : (i, aI x) :: fl1 i lv = lv') (hq : pc + 2 = q) (k : SS M T q lv' st G r) : SS M T pc lv (aI x :: st) G r := by
  subst hq
  refine ss_lv _ lv' st (fun hI => ⟨fl_ok (P := okV (mL M) (G 0)) (al_h hI.2.2.2) hI.2.2.1 hl, al_t hI.2.2.2⟩) (fun hI _ _ _ _ _ _ _ _ _ _ _ _ C _ _ ls _ _ _ ad hh w => ?_) k
  exact lv_istore (x := Int32.ofInt x) C.1 C.2.1 d hh (Nat.le_of_ble_eq_true hn) (by rw [fl1_cv, ← hl]; rfl) w
theorem r_lstore_n (q : Nat) (lv' : List (Nat × AV)) {f : Fin 4} {i : Nat} {x : Int} (d : decode (mC M) pc = .ok (.lstore_n f, 1)) (hi : (f : Nat) = i) (hn : Nat.ble (i + 1 + 1) (mN M) = true) (hl : (i, aL x) :: fl2 i lv = lv') (hq : pc + 1 = q) (k : SS M T q lv' st G r) : SS M T pc lv (aL x :: st) G r := by
  subst hq
  refine ss_lv _ lv' st (fun hI => ⟨fl_ok (P := okV (mL M) (G 0)) (al_h hI.2.2.2) hI.2.2.1 hl, al_t hI.2.2.2⟩) (fun hI _ _ _ _ _ _ _ _ _ _ _ _ C _ _ ls _ _ _ ad hh w => ?_) k
  exact lv_lstore_n (x := Int64.ofInt x) C.1 C.2.1 d hi hh (Nat.le_of_ble_eq_true hn) (by rw [fl2_cv, ← hl]; rfl) w
theorem r_lstore (q : Nat) (lv' : List (Nat × AV)) {i : Nat} {x : Int} (d : decode (mC M) pc = .ok (.lstore i, 2)) (hn : Nat.ble (i + 1 + 1) (mN M) = true) (hl : (i, aL x) :: fl2 i lv = lv') (hq : pc + 2 = q) (k : SS M T q lv' st G r) : SS M T pc lv (aL x :: st) G r := by
  subst hq
  refine ss_lv _ lv' st (fun hI => ⟨fl_ok (P := okV (mL M) (G 0)) (al_h hI.2.2.2) hI.2.2.1 hl, al_t hI.2.2.2⟩) (fun hI _ _ _ _ _ _ _ _ _ _ _ _ C _ _ ls _ _ _ ad hh w => ?_) k
  exact lv_lstore (x := Int64.ofInt x) C.1 C.2.1 d hh (Nat.le_of_ble_eq_true hn) (by rw [fl2_cv, ← hl]; rfl) w
theorem r_astore_n (q : Nat) (lv' : List (Nat × AV)) {f : Fin 4} {i : Nat} {x : Int} (d : decode (mC M) pc = .ok (.astore_n f, 1)) (hi : (f : Nat) = i) (hn : Nat.ble (i + 1) (mN M) = true) (hl : (i, aR x) :: fl1 i lv = lv') (hq : pc + 1 = q) (k : SS M T q lv' st G r) : SS M T pc lv (aR x :: st) G r := by
  subst hq
  refine ss_lv _ lv' st (fun hI => ⟨fl_ok (P := okV (mL M) (G 0)) (al_h hI.2.2.2) hI.2.2.1 hl, al_t hI.2.2.2⟩) (fun hI _ _ _ _ _ _ _ _ _ _ _ _ C _ _ ls _ _ _ ad hh w => ?_) k
  rw [List.map_cons]
  by_cases hx : x < 0
  · have e : cv ad (aR x) = .null := if_pos hx
    rw [e]
    exact lv_astore_nN C.1 C.2.1 d hi hh (Nat.le_of_ble_eq_true hn) (by rw [fl1_cv, ← hl, ← e]; rfl) w
  · have e : cv ad (aR x) = .ref (ad x) := if_neg hx
    rw [e]
    exact lv_astore_n C.1 C.2.1 d hi hh (Nat.le_of_ble_eq_true hn) (by rw [fl1_cv, ← hl, ← e]; rfl) w
theorem r_astore (q : Nat) (lv' : List (Nat × AV)) {i : Nat} {x : Int} (d : decode (mC M) pc = .ok (.astore i, 2)) (hn : Nat.ble (i + 1) (mN M) = true) (hl : (i, aR x) :: fl1 i lv = lv') (hq : pc + 2 = q) (k : SS M T q lv' st G r) : SS M T pc lv (aR x :: st) G r := by
  subst hq
  refine ss_lv _ lv' st (fun hI => ⟨fl_ok (P := okV (mL M) (G 0)) (al_h hI.2.2.2) hI.2.2.1 hl, al_t hI.2.2.2⟩) (fun hI _ _ _ _ _ _ _ _ _ _ _ _ C _ _ ls _ _ _ ad hh w => ?_) k
  rw [List.map_cons]
  by_cases hx : x < 0
  · have e : cv ad (aR x) = .null := if_pos hx
    rw [e]
    exact lv_astoreN C.1 C.2.1 d hh (Nat.le_of_ble_eq_true hn) (by rw [fl1_cv, ← hl, ← e]; rfl) w
  · have e : cv ad (aR x) = .ref (ad x) := if_neg hx
    rw [e]
    exact lv_astore C.1 C.2.1 d hh (Nat.le_of_ble_eq_true hn) (by rw [fl1_cv, ← hl, ← e]; rfl) w
theorem r_iinc (q : Nat) (lv' : List (Nat × AV)) (j : Nat) {i : Nat} {n x : Int} (d : decode (mC M) pc = .ok (.iinc i n, 3)) (h : lv[j]? = some (i, aI x)) (hn : Nat.ble (i + 1) (mN M) = true) (hl : (i, aI (x + n)) :: fl1 i lv = lv') (hq : pc + 3 = q) (k : SS M T q lv' st G r) : SS M T pc lv st G (ckI (x + n) r) := by
  subst hq
  refine ss_ckI (fun hz => ?_)
  refine ss_lv _ lv' st (fun hI => ⟨fl_ok (P := okV (mL M) (G 0)) (v := aI (x + n)) hz hI.2.2.1 hl, hI.2.2.2⟩) (fun hI _ _ _ _ _ _ _ _ _ _ _ _ C _ _ ls _ _ _ ad hh w => ?_) k
  exact lv_iinc (k := j) (x := Int32.ofInt x) (v := Int32.ofInt (x + n)) C.1 C.2.1 d hh (by simp [h, cv]) ((add32 x n).trans (by rw [w32_id hz])) (Nat.le_of_ble_eq_true hn) (by rw [fl1_cv, ← hl]; rfl) w
/-- to another place with fewer locals -/
theorem r_to (js : List Nat) (lv' : List (Nat × AV)) (h : js.filterMap (fun j => lv[j]?) = lv') (k : SS M T pc lv' st G r) : SS M T pc lv st G r := by
  refine ss_lv pc lv' st (fun hI => ⟨fun q hq => ?_, hI.2.2.2⟩) (fun hI _ _ _ _ _ _ _ _ _ _ _ _ C _ _ ls _ _ _ ad hh w => w ls ?_) k
  · rw [← h] at hq
    obtain ⟨j, -, hj⟩ := List.mem_filterMap.mp hq
    exact hI.2.2.1 q (List.mem_of_getElem? hj)
  · refine lv_sub hh js ?_
    show js.filterMap (fun k => (lv.map fun q => (q.1, cv ad q.2))[k]?) = lv'.map _
    rw [← h, List.map_filterMap]
    apply congrArg (fun f => List.filterMap f js)
    funext k
    simp
theorem cv_cat (ad : Int → Nat) (v : AV) (h : isL v = false) : (cv ad v).category = 1 := by
  rcases v with a | a | a
  · rfl
  · cases h
  · exact dr_cat ad a
theorem r_dup (q : Nat) {v : AV} (d : decode (mC M) pc = .ok (.dup, 1)) (hv : isL v = false) (hq : pc + 1 = q) (k : SS M T q lv (v :: v :: st) G r) : SS M T pc lv (v :: st) G r := by
  subst hq
  exact ss_st _ (v :: v :: st) (fun hI => al_c (al_h hI.2.2.2) hI.2.2.2) (fun hI _ _ _ _ _ _ _ _ _ _ _ _ C _ _ _ _ _ _ ad _ _ _ hl _ w => lv_dup C.1 C.2.1 d (cv_cat ad v hv) w) k
theorem r_pop (q : Nat) {v : AV} (d : decode (mC M) pc = .ok (.pop, 1)) (hv : isL v = false) (hq : pc + 1 = q) (k : SS M T q lv st G r) : SS M T pc lv (v :: st) G r := by
  subst hq
  exact ss_st _ st (fun hI => al_t hI.2.2.2) (fun hI _ _ _ _ _ _ _ _ _ _ _ _ C _ _ _ _ _ _ ad _ _ _ hl _ w => lv_pop C.1 C.2.1 d (cv_cat ad v hv) w) k
theorem r_dup2 (q : Nat) {x y : AV} (d : decode (mC M) pc = .ok (.dup2, 1)) (hx : isL x = false) (hy : isL y = false) (hq : pc + 1 = q) (k : SS M T q lv (x :: y :: x :: y :: st) G r) : SS M T pc lv (x :: y :: st) G r := by
  subst hq
  exact ss_st _ (x :: y :: x :: y :: st) (fun hI => al_c (al_h hI.2.2.2) (al_c (al_h (al_t hI.2.2.2)) hI.2.2.2)) (fun hI _ _ _ _ _ _ _ _ _ _ _ _ C _ _ _ _ _ _ ad _ _ _ hl _ w => lv_dup2_11 C.1 C.2.1 d (cv_cat ad x hx) (cv_cat ad y hy) w) k
theorem r_dup2L (q : Nat) {x : Int} (d : decode (mC M) pc = .ok (.dup2, 1)) (hq : pc + 1 = q) (k : SS M T q lv (aL x :: aL x :: st) G r) : SS M T pc lv (aL x :: st) G r := by
  subst hq
  exact ss_st _ (aL x :: aL x :: st) (fun hI => al_c (al_h hI.2.2.2) hI.2.2.2) (fun hI _ _ _ _ _ _ _ _ _ _ _ _ C _ _ _ _ _ _ ad _ _ _ hl _ w => lv_dup2_2 C.1 C.2.1 d rfl w) k
theorem r_iaddw (q : Nat) {x y : Int} (d : decode (mC M) pc = .ok (.iadd, 1)) (hq : pc + 1 = q) (k : SS M T q lv (aI (w32 (x + y)) :: st) G r) : SS M T pc lv (aI y :: aI x :: st) G r := by
  subst hq
  refine ss_st _ (aI (w32 (x + y)) :: st) (fun hI => al_c (w32_r _) (al_t (al_t hI.2.2.2))) (fun hI _ _ _ _ _ _ _ _ _ _ _ _ C _ _ _ _ _ _ ad _ _ _ hl _ w => lv_iadd (x := Int32.ofInt x) (y := Int32.ofInt y) C.1 C.2.1 d ?_) k
  rw [add32]
  exact w
theorem r_iadd (q : Nat) {x y : Int} (d : decode (mC M) pc = .ok (.iadd, 1)) (hq : pc + 1 = q) (k : SS M T q lv (aI (x + y) :: st) G r) : SS M T pc lv (aI y :: aI x :: st) G (ckI (x + y) r) := by
  refine ss_ckI (fun hz => r_iaddw q d hq ?_)
  rw [w32_id hz]
  exact k
theorem r_isubw (q : Nat) {x y : Int} (d : decode (mC M) pc = .ok (.isub, 1)) (hq : pc + 1 = q) (k : SS M T q lv (aI (w32 (x - y)) :: st) G r) : SS M T pc lv (aI y :: aI x :: st) G r := by
  subst hq
  refine ss_st _ (aI (w32 (x - y)) :: st) (fun hI => al_c (w32_r _) (al_t (al_t hI.2.2.2))) (fun hI _ _ _ _ _ _ _ _ _ _ _ _ C _ _ _ _ _ _ ad _ _ _ hl _ w => lv_isub (x := Int32.ofInt x) (y := Int32.ofInt y) C.1 C.2.1 d ?_) k
  rw [sub32]
  exact w
theorem r_isub (q : Nat) {x y : Int} (d : decode (mC M) pc = .ok (.isub, 1)) (hq : pc + 1 = q) (k : SS M T q lv (aI (x - y) :: st) G r) : SS M T pc lv (aI y :: aI x :: st) G (ckI (x - y) r) := by
  refine ss_ckI (fun hz => r_isubw q d hq ?_)
  rw [w32_id hz]
  exact k
theorem r_imulw (q : Nat) {x y : Int} (d : decode (mC M) pc = .ok (.imul, 1)) (hq : pc + 1 = q) (k : SS M T q lv (aI (w32 (x * y)) :: st) G r) : SS M T pc lv (aI y :: aI x :: st) G r := by
  subst hq
  refine ss_st _ (aI (w32 (x * y)) :: st) (fun hI => al_c (w32_r _) (al_t (al_t hI.2.2.2))) (fun hI _ _ _ _ _ _ _ _ _ _ _ _ C _ _ _ _ _ _ ad _ _ _ hl _ w => lv_imul (x := Int32.ofInt x) (y := Int32.ofInt y) C.1 C.2.1 d ?_) k
  rw [mul32]
  exact w
theorem r_imul (q : Nat) {x y : Int} (d : decode (mC M) pc = .ok (.imul, 1)) (hq : pc + 1 = q) (k : SS M T q lv (aI (x * y) :: st) G r) : SS M T pc lv (aI y :: aI x :: st) G (ckI (x * y) r) := by
  refine ss_ckI (fun hz => r_imulw q d hq ?_)
  rw [w32_id hz]
  exact k
theorem r_laddw (q : Nat) {x y : Int} (d : decode (mC M) pc = .ok (.ladd, 1)) (hq : pc + 1 = q) (k : SS M T q lv (aL (w64 (x + y)) :: st) G r) : SS M T pc lv (aL y :: aL x :: st) G r := by
  subst hq
  refine ss_st _ (aL (w64 (x + y)) :: st) (fun hI => al_c (w64_r _) (al_t (al_t hI.2.2.2))) (fun hI _ _ _ _ _ _ _ _ _ _ _ _ C _ _ _ _ _ _ ad _ _ _ hl _ w => lv_ladd (x := Int64.ofInt x) (y := Int64.ofInt y) C.1 C.2.1 d ?_) k
  rw [add64]
  exact w
theorem r_ladd (q : Nat) {x y : Int} (d : decode (mC M) pc = .ok (.ladd, 1)) (hq : pc + 1 = q) (k : SS M T q lv (aL (x + y) :: st) G r) : SS M T pc lv (aL y :: aL x :: st) G (ckL (x + y) r) := by
  refine ss_ckL (fun hz => r_laddw q d hq ?_)
  rw [w64_id hz]
  exact k
theorem r_lsubw (q : Nat) {x y : Int} (d : decode (mC M) pc = .ok (.lsub, 1)) (hq : pc + 1 = q) (k : SS M T q lv (aL (w64 (x - y)) :: st) G r) : SS M T pc lv (aL y :: aL x :: st) G r := by
  subst hq
  refine ss_st _ (aL (w64 (x - y)) :: st) (fun hI => al_c (w64_r _) (al_t (al_t hI.2.2.2))) (fun hI _ _ _ _ _ _ _ _ _ _ _ _ C _ _ _ _ _ _ ad _ _ _ hl _ w => lv_lsub (x := Int64.ofInt x) (y := Int64.ofInt y) C.1 C.2.1 d ?_) k
  rw [sub64]
  exact w
theorem r_lsub (q : Nat) {x y : Int} (d : decode (mC M) pc = .ok (.lsub, 1)) (hq : pc + 1 = q) (k : SS M T q lv (aL (x - y) :: st) G r) : SS M T pc lv (aL y :: aL x :: st) G (ckL (x - y) r) := by
  refine ss_ckL (fun hz => r_lsubw q d hq ?_)
  rw [w64_id hz]
  exact k
theorem r_lmulw (q : Nat) {x y : Int} (d : decode (mC M) pc = .ok (.lmul, 1)) (hq : pc + 1 = q) (k : SS M T q lv (aL (w64 (x * y)) :: st) G r) : SS M T pc lv (aL y :: aL x :: st) G r := by
  subst hq
  refine ss_st _ (aL (w64 (x * y)) :: st) (fun hI => al_c (w64_r _) (al_t (al_t hI.2.2.2))) (fun hI _ _ _ _ _ _ _ _ _ _ _ _ C _ _ _ _ _ _ ad _ _ _ hl _ w => lv_lmul (x := Int64.ofInt x) (y := Int64.ofInt y) C.1 C.2.1 d ?_) k
  rw [mul64]
  exact w
theorem r_lmul (q : Nat) {x y : Int} (d : decode (mC M) pc = .ok (.lmul, 1)) (hq : pc + 1 = q) (k : SS M T q lv (aL (x * y) :: st) G r) : SS M T pc lv (aL y :: aL x :: st) G (ckL (x * y) r) := by
  refine ss_ckL (fun hz => r_lmulw q d hq ?_)
  rw [w64_id hz]
  exact k
theorem r_ineg (q : Nat) {x : Int} (d : decode (mC M) pc = .ok (.ineg, 1)) (hq : pc + 1 = q) (k : SS M T q lv (aI (-x) :: st) G r) : SS M T pc lv (aI x :: st) G (ckI (-x) r) := by
  subst hq
  refine ss_ckI (fun hz => ?_)
  refine ss_st _ (aI (-x) :: st) (fun hI => al_c (P := okV (mL M) (G 0)) (a := aI (-x)) hz (al_t hI.2.2.2)) (fun hI _ _ _ _ _ _ _ _ _ _ _ _ C _ _ _ _ _ _ ad _ _ _ hl _ w => lv_ineg (x := Int32.ofInt x) C.1 C.2.1 d ?_) k
  rw [neg32, w32_id hz]
  exact w
theorem r_lneg (q : Nat) {x : Int} (d : decode (mC M) pc = .ok (.lneg, 1)) (hq : pc + 1 = q) (k : SS M T q lv (aL (-x) :: st) G r) : SS M T pc lv (aL x :: st) G (ckL (-x) r) := by
  subst hq
  refine ss_ckL (fun hz => ?_)
  refine ss_st _ (aL (-x) :: st) (fun hI => al_c (P := okV (mL M) (G 0)) (a := aL (-x)) hz (al_t hI.2.2.2)) (fun hI _ _ _ _ _ _ _ _ _ _ _ _ C _ _ _ _ _ _ ad _ _ _ hl _ w => lv_lneg (x := Int64.ofInt x) C.1 C.2.1 d ?_) k
  rw [neg64, w64_id hz]
  exact w
theorem r_iand (q : Nat) {x y : Int} (d : decode (mC M) pc = .ok (.iand, 1)) (hq : pc + 1 = q) (k : SS M T q lv (aI (j_an x y) :: st) G r) : SS M T pc lv (aI y :: aI x :: st) G r := by
  subst hq
  refine ss_st _ (aI (j_an x y) :: st) (fun hI => al_c (i32_toInt _) (al_t (al_t hI.2.2.2))) (fun hI _ _ _ _ _ _ _ _ _ _ _ _ C _ _ _ _ _ _ ad _ _ _ hl _ w => lv_iand (x := Int32.ofInt x) (y := Int32.ofInt y) C.1 C.2.1 d ?_) k
  have e : Int32.ofInt (j_an x y) = _ := Int32.ofInt_toInt _
  rw [← e]
  exact w
theorem r_ior (q : Nat) {x y : Int} (d : decode (mC M) pc = .ok (.ior, 1)) (hq : pc + 1 = q) (k : SS M T q lv (aI (j_or x y) :: st) G r) : SS M T pc lv (aI y :: aI x :: st) G r := by
  subst hq
  refine ss_st _ (aI (j_or x y) :: st) (fun hI => al_c (i32_toInt _) (al_t (al_t hI.2.2.2))) (fun hI _ _ _ _ _ _ _ _ _ _ _ _ C _ _ _ _ _ _ ad _ _ _ hl _ w => lv_ior (x := Int32.ofInt x) (y := Int32.ofInt y) C.1 C.2.1 d ?_) k
  have e : Int32.ofInt (j_or x y) = _ := Int32.ofInt_toInt _
  rw [← e]
  exact w
theorem r_ixor (q : Nat) {x y : Int} (d : decode (mC M) pc = .ok (.ixor, 1)) (hq : pc + 1 = q) (k : SS M T q lv (aI (j_xo x y) :: st) G r) : SS M T pc lv (aI y :: aI x :: st) G r := by
  subst hq
  refine ss_st _ (aI (j_xo x y) :: st) (fun hI => al_c (i32_toInt _) (al_t (al_t hI.2.2.2))) (fun hI _ _ _ _ _ _ _ _ _ _ _ _ C _ _ _ _ _ _ ad _ _ _ hl _ w => lv_ixor (x := Int32.ofInt x) (y := Int32.ofInt y) C.1 C.2.1 d ?_) k
  have e : Int32.ofInt (j_xo x y) = _ := Int32.ofInt_toInt _
  rw [← e]
  exact w
theorem r_ishl (q : Nat) {x y : Int} (d : decode (mC M) pc = .ok (.ishl, 1)) (hq : pc + 1 = q) (k : SS M T q lv (aI (j_sl x y) :: st) G r) : SS M T pc lv (aI y :: aI x :: st) G r := by
  subst hq
  refine ss_st _ (aI (j_sl x y) :: st) (fun hI => al_c (i32_toInt _) (al_t (al_t hI.2.2.2))) (fun hI _ _ _ _ _ _ _ _ _ _ _ _ C _ _ _ _ _ _ ad _ _ _ hl _ w => lv_ishl (x := Int32.ofInt x) (y := Int32.ofInt y) C.1 C.2.1 d ?_) k
  have e : Int32.ofInt (j_sl x y) = _ := Int32.ofInt_toInt _
  rw [← e]
  exact w
theorem r_ishr (q : Nat) {x y : Int} (d : decode (mC M) pc = .ok (.ishr, 1)) (hq : pc + 1 = q) (k : SS M T q lv (aI (j_sr x y) :: st) G r) : SS M T pc lv (aI y :: aI x :: st) G r := by
  subst hq
  refine ss_st _ (aI (j_sr x y) :: st) (fun hI => al_c (i32_toInt _) (al_t (al_t hI.2.2.2))) (fun hI _ _ _ _ _ _ _ _ _ _ _ _ C _ _ _ _ _ _ ad _ _ _ hl _ w => lv_ishr (x := Int32.ofInt x) (y := Int32.ofInt y) C.1 C.2.1 d ?_) k
  have e : Int32.ofInt (j_sr x y) = _ := Int32.ofInt_toInt _
  rw [← e]
  exact w
theorem r_land (q : Nat) {x y : Int} (d : decode (mC M) pc = .ok (.land, 1)) (hq : pc + 1 = q) (k : SS M T q lv (aL (j_lan x y) :: st) G r) : SS M T pc lv (aL y :: aL x :: st) G r := by
  subst hq
  refine ss_st _ (aL (j_lan x y) :: st) (fun hI => al_c (i64_toInt _) (al_t (al_t hI.2.2.2))) (fun hI _ _ _ _ _ _ _ _ _ _ _ _ C _ _ _ _ _ _ ad _ _ _ hl _ w => lv_land (x := Int64.ofInt x) (y := Int64.ofInt y) C.1 C.2.1 d ?_) k
  have e : Int64.ofInt (j_lan x y) = _ := Int64.ofInt_toInt _
  rw [← e]
  exact w
theorem r_lor (q : Nat) {x y : Int} (d : decode (mC M) pc = .ok (.lor, 1)) (hq : pc + 1 = q) (k : SS M T q lv (aL (j_lor x y) :: st) G r) : SS M T pc lv (aL y :: aL x :: st) G r := by
  subst hq
  refine ss_st _ (aL (j_lor x y) :: st) (fun hI => al_c (i64_toInt _) (al_t (al_t hI.2.2.2))) (fun hI _ _ _ _ _ _ _ _ _ _ _ _ C _ _ _ _ _ _ ad _ _ _ hl _ w => lv_lor (x := Int64.ofInt x) (y := Int64.ofInt y) C.1 C.2.1 d ?_) k
  have e : Int64.ofInt (j_lor x y) = _ := Int64.ofInt_toInt _
  rw [← e]
  exact w
theorem r_lxor (q : Nat) {x y : Int} (d : decode (mC M) pc = .ok (.lxor, 1)) (hq : pc + 1 = q) (k : SS M T q lv (aL (j_lxo x y) :: st) G r) : SS M T pc lv (aL y :: aL x :: st) G r := by
  subst hq
  refine ss_st _ (aL (j_lxo x y) :: st) (fun hI => al_c (i64_toInt _) (al_t (al_t hI.2.2.2))) (fun hI _ _ _ _ _ _ _ _ _ _ _ _ C _ _ _ _ _ _ ad _ _ _ hl _ w => lv_lxor (x := Int64.ofInt x) (y := Int64.ofInt y) C.1 C.2.1 d ?_) k
  have e : Int64.ofInt (j_lxo x y) = _ := Int64.ofInt_toInt _
  rw [← e]
  exact w
theorem r_iushr (q : Nat) {x y : Int} (d : decode (mC M) pc = .ok (.iushr, 1)) (hq : pc + 1 = q) (k : SS M T q lv (aI (j_us x y) :: st) G r) : SS M T pc lv (aI y :: aI x :: st) G r := by
  subst hq
  exact ss_st _ (aI (j_us x y) :: st) (fun hI => al_c (i32_toInt _) (al_t (al_t hI.2.2.2))) (fun hI _ _ _ _ _ _ _ _ _ _ _ _ C _ _ _ _ _ _ ad _ _ _ hl _ w => lv_iushr (x := Int32.ofInt x) (y := Int32.ofInt y) C.1 C.2.1 d (Int32.ofInt_toInt _).symm w) k
theorem r_lshl (q : Nat) {x y : Int} (d : decode (mC M) pc = .ok (.lshl, 1)) (hq : pc + 1 = q) (k : SS M T q lv (aL (j_lsl x y) :: st) G r) : SS M T pc lv (aI y :: aL x :: st) G r := by
  subst hq
  exact ss_st _ (aL (j_lsl x y) :: st) (fun hI => al_c (i64_toInt _) (al_t (al_t hI.2.2.2))) (fun hI _ _ _ _ _ _ _ _ _ _ _ _ C _ _ _ _ _ _ ad _ _ _ hl _ w => lv_lshl (x := Int64.ofInt x) (y := Int32.ofInt y) C.1 C.2.1 d (Int64.ofInt_toInt _).symm w) k
theorem r_lshr (q : Nat) {x y : Int} (d : decode (mC M) pc = .ok (.lshr, 1)) (hq : pc + 1 = q) (k : SS M T q lv (aL (j_lsr x y) :: st) G r) : SS M T pc lv (aI y :: aL x :: st) G r := by
  subst hq
  exact ss_st _ (aL (j_lsr x y) :: st) (fun hI => al_c (i64_toInt _) (al_t (al_t hI.2.2.2))) (fun hI _ _ _ _ _ _ _ _ _ _ _ _ C _ _ _ _ _ _ ad _ _ _ hl _ w => lv_lshr (x := Int64.ofInt x) (y := Int32.ofInt y) C.1 C.2.1 d (Int64.ofInt_toInt _).symm w) k
theorem r_lushr (q : Nat) {x y : Int} (d : decode (mC M) pc = .ok (.lushr, 1)) (hq : pc + 1 = q) (k : SS M T q lv (aL (j_lus x y) :: st) G r) : SS M T pc lv (aI y :: aL x :: st) G r := by
  subst hq
  exact ss_st _ (aL (j_lus x y) :: st) (fun hI => al_c (i64_toInt _) (al_t (al_t hI.2.2.2))) (fun hI _ _ _ _ _ _ _ _ _ _ _ _ C _ _ _ _ _ _ ad _ _ _ hl _ w => lv_lushr (x := Int64.ofInt x) (y := Int32.ofInt y) C.1 C.2.1 d (Int64.ofInt_toInt _).symm w) k
theorem dv32 {x y : Int} (hx : i32 x) (hy : i32 y) (h0 : 0 ≤ x) (h1 : 0 < y) : Int32.ofInt x / Int32.ofInt y = Int32.ofInt (x / y) := by
  apply Int32.toInt_inj.mp
  have hd : 0 ≤ x / y := Int.ediv_nonneg h0 (by omega)
  have hd2 : x / y ≤ x := Int.ediv_le_self y h0
  rw [t32i (z := x / y) ⟨by omega, by have := hx.2; omega⟩, Int32.toInt_div, t32i hx, t32i hy, Int.tdiv_eq_ediv_of_nonneg h0]
  rw [show (x / y).bmod (2 ^ 32) = w32 (x / y) from w32_bmod _]
  exact w32_id ⟨by omega, by have := hx.2; omega⟩
theorem rm32 {x y : Int} (hx : i32 x) (hy : i32 y) (h0 : 0 ≤ x) (h1 : 0 < y) : Int32.ofInt x - Int32.ofInt x / Int32.ofInt y * Int32.ofInt y = Int32.ofInt (x % y) := by
  rw [dv32 hx hy h0 h1, mul32, o32, sub32, o32, Int.emod_def, Int.mul_comm]
theorem dv64 {x y : Int} (hx : i64 x) (hy : i64 y) (h0 : 0 ≤ x) (h1 : 0 < y) : Int64.ofInt x / Int64.ofInt y = Int64.ofInt (x / y) := by
  apply Int64.toInt_inj.mp
  have hd : 0 ≤ x / y := Int.ediv_nonneg h0 (by omega)
  have hd2 : x / y ≤ x := Int.ediv_le_self y h0
  rw [t64i (z := x / y) ⟨by omega, by have := hx.2; omega⟩, Int64.toInt_div, t64i hx, t64i hy, Int.tdiv_eq_ediv_of_nonneg h0]
  rw [show (x / y).bmod (2 ^ 64) = w64 (x / y) from w64_bmod _]
  exact w64_id ⟨by omega, by have := hx.2; omega⟩
theorem rm64 {x y : Int} (hx : i64 x) (hy : i64 y) (h0 : 0 ≤ x) (h1 : 0 < y) : Int64.ofInt x - Int64.ofInt x / Int64.ofInt y * Int64.ofInt y = Int64.ofInt (x % y) := by
  rw [dv64 hx hy h0 h1, mul64, o64, sub64, o64, Int.emod_def, Int.mul_comm]
theorem dm_r {x y : Int} (h0 : 0 ≤ x) (h1 : 0 < y) : 0 ≤ x / y ∧ x / y ≤ x ∧ 0 ≤ x % y ∧ x % y ≤ x := ⟨Int.ediv_nonneg h0 (by omega), Int.ediv_le_self y h0, Int.emod_nonneg x (by omega), by
  have h := Int.mul_ediv_add_emod x y
  have h2 : 0 ≤ y * (x / y) := Int.mul_nonneg (by omega) (Int.ediv_nonneg h0 (by omega))
  omega⟩
theorem r_idiv (q : Nat) {x y : Int} (d : decode (mC M) pc = .ok (.idiv, 1)) (hq : pc + 1 = q) (k : SS M T q lv (aI (x / y) :: st) G r) : SS M T pc lv (aI y :: aI x :: st) G (ckD x y r) := by
  subst hq
  refine ss_ckD (fun h0 h1 => ?_)
  refine ss_st _ (aI (x / y) :: st) (fun hI => al_c (P := okV (mL M) (G 0)) (a := aI (x / y)) ?_ (al_t (al_t hI.2.2.2))) (fun hI _ _ _ _ _ _ _ _ _ _ _ _ C _ _ _ _ _ _ ad _ _ _ hl _ w => lv_idiv (x := Int32.ofInt x) (y := Int32.ofInt y) C.1 C.2.1 d (fun q => ?_) ?_) k
  · have hx : i32 x := al_h (al_t hI.2.2.2)
    have := dm_r h0 h1
    exact ⟨by omega, by have := hx.2; omega⟩
  · have hy : i32 y := al_h hI.2.2.2
    have := (eq32 hy (⟨by omega, by omega⟩ : i32 0)).mp q
    omega
  · rw [dv32 (al_h (al_t hI.2.2.2)) (al_h hI.2.2.2) h0 h1]
    exact w
theorem r_irem (q : Nat) {x y : Int} (d : decode (mC M) pc = .ok (.irem, 1)) (hq : pc + 1 = q) (k : SS M T q lv (aI (x % y) :: st) G r) : SS M T pc lv (aI y :: aI x :: st) G (ckD x y r) := by
  subst hq
  refine ss_ckD (fun h0 h1 => ?_)
  refine ss_st _ (aI (x % y) :: st) (fun hI => al_c (P := okV (mL M) (G 0)) (a := aI (x % y)) ?_ (al_t (al_t hI.2.2.2))) (fun hI _ _ _ _ _ _ _ _ _ _ _ _ C _ _ _ _ _ _ ad _ _ _ hl _ w => lv_irem (x := Int32.ofInt x) (y := Int32.ofInt y) C.1 C.2.1 d (fun q => ?_) ?_) k
  · have hx : i32 x := al_h (al_t hI.2.2.2)
    have := dm_r h0 h1
    exact ⟨by omega, by have := hx.2; omega⟩
  · have hy : i32 y := al_h hI.2.2.2
    have := (eq32 hy (⟨by omega, by omega⟩ : i32 0)).mp q
    omega
  · rw [rm32 (al_h (al_t hI.2.2.2)) (al_h hI.2.2.2) h0 h1]
    exact w
theorem r_ldiv (q : Nat) {x y : Int} (d : decode (mC M) pc = .ok (.ldiv, 1)) (hq : pc + 1 = q) (k : SS M T q lv (aL (x / y) :: st) G r) : SS M T pc lv (aL y :: aL x :: st) G (ckD x y r) := by
  subst hq
  refine ss_ckD (fun h0 h1 => ?_)
  refine ss_st _ (aL (x / y) :: st) (fun hI => al_c (P := okV (mL M) (G 0)) (a := aL (x / y)) ?_ (al_t (al_t hI.2.2.2))) (fun hI _ _ _ _ _ _ _ _ _ _ _ _ C _ _ _ _ _ _ ad _ _ _ hl _ w => lv_ldiv (x := Int64.ofInt x) (y := Int64.ofInt y) C.1 C.2.1 d (fun q => ?_) ?_) k
  · have hx : i64 x := al_h (al_t hI.2.2.2)
    have := dm_r h0 h1
    exact ⟨by omega, by have := hx.2; omega⟩
  · have hy : i64 y := al_h hI.2.2.2
    have := (eq64 hy (⟨by omega, by omega⟩ : i64 0)).mp q
    omega
  · rw [dv64 (al_h (al_t hI.2.2.2)) (al_h hI.2.2.2) h0 h1]
    exact w
theorem r_lrem (q : Nat) {x y : Int} (d : decode (mC M) pc = .ok (.lrem, 1)) (hq : pc + 1 = q) (k : SS M T q lv (aL (x % y) :: st) G r) : SS M T pc lv (aL y :: aL x :: st) G (ckD x y r) := by
  subst hq
  refine ss_ckD (fun h0 h1 => ?_)
  refine ss_st _ (aL (x % y) :: st) (fun hI => al_c (P := okV (mL M) (G 0)) (a := aL (x % y)) ?_ (al_t (al_t hI.2.2.2))) (fun hI _ _ _ _ _ _ _ _ _ _ _ _ C _ _ _ _ _ _ ad _ _ _ hl _ w => lv_lrem (x := Int64.ofInt x) (y := Int64.ofInt y) C.1 C.2.1 d (fun q => ?_) ?_) k
  · have hx : i64 x := al_h (al_t hI.2.2.2)
    have := dm_r h0 h1
    exact ⟨by omega, by have := hx.2; omega⟩
  · have hy : i64 y := al_h hI.2.2.2
    have := (eq64 hy (⟨by omega, by omega⟩ : i64 0)).mp q
    omega
  · rw [rm64 (al_h (al_t hI.2.2.2)) (al_h hI.2.2.2) h0 h1]
    exact w
theorem r_i2l (q : Nat) {x : Int} (d : decode (mC M) pc = .ok (.i2l, 1)) (hq : pc + 1 = q) (k : SS M T q lv (aL x :: st) G r) : SS M T pc lv (aI x :: st) G r := by
  subst hq
  exact ss_st _ (aL x :: st) (fun hI => al_c (P := okV (mL M) (G 0)) (a := aL x) (i32_i64 (al_h hI.2.2.2)) (al_t hI.2.2.2)) (fun hI _ _ _ _ _ _ _ _ _ _ _ _ C _ _ _ _ _ _ ad _ _ _ hl _ w => lv_i2l (x := Int32.ofInt x) C.1 C.2.1 d (i2l64 (al_h hI.2.2.2)) w) k
theorem r_l2iw (q : Nat) {x : Int} (d : decode (mC M) pc = .ok (.l2i, 1)) (hq : pc + 1 = q) (k : SS M T q lv (aI (w32 x) :: st) G r) : SS M T pc lv (aL x :: st) G r := by
  subst hq
  exact ss_st _ (aI (w32 x) :: st) (fun hI => al_c (w32_r _) (al_t hI.2.2.2)) (fun hI _ _ _ _ _ _ _ _ _ _ _ _ C _ _ _ _ _ _ ad _ _ _ hl _ w => lv_l2i (x := Int64.ofInt x) C.1 C.2.1 d (l2i64 x) w) k
theorem r_i2b (q : Nat) {x : Int} (d : decode (mC M) pc = .ok (.i2b, 1)) (hq : pc + 1 = q) (k : SS M T q lv (aI (j_b8 x) :: st) G r) : SS M T pc lv (aI x :: st) G r := by
  subst hq
  exact ss_st _ (aI (j_b8 x) :: st) (fun hI => al_c (i32_toInt _) (al_t hI.2.2.2)) (fun hI _ _ _ _ _ _ _ _ _ _ _ _ C _ _ _ _ _ _ ad _ _ _ hl _ w => lv_i2b (x := Int32.ofInt x) C.1 C.2.1 d (Int32.ofInt_toInt _).symm w) k
theorem r_i2s (q : Nat) {x : Int} (d : decode (mC M) pc = .ok (.i2s, 1)) (hq : pc + 1 = q) (k : SS M T q lv (aI (j_s16 x) :: st) G r) : SS M T pc lv (aI x :: st) G r := by
  subst hq
  exact ss_st _ (aI (j_s16 x) :: st) (fun hI => al_c (i32_toInt _) (al_t hI.2.2.2)) (fun hI _ _ _ _ _ _ _ _ _ _ _ _ C _ _ _ _ _ _ ad _ _ _ hl _ w => lv_i2s (x := Int32.ofInt x) C.1 C.2.1 d (Int32.ofInt_toInt _).symm w) k
theorem r_lcmp (q : Nat) {x y : Int} (d : decode (mC M) pc = .ok (.lcmp, 1)) (hq : pc + 1 = q) (k : SS M T q lv (aI (j_cm x y) :: st) G r) : SS M T pc lv (aL y :: aL x :: st) G r := by
  subst hq
  refine ss_st _ (aI (j_cm x y) :: st) (fun hI => al_c (j_cm_r x y) (al_t (al_t hI.2.2.2))) (fun hI _ _ _ _ _ _ _ _ _ _ _ _ C _ _ _ _ _ _ ad _ _ _ hl _ w => W.lcmp (x := Int64.ofInt x) (y := Int64.ofInt y) C.1 C.2.1 d ?_) k
  rw [cm64 (al_h (al_t hI.2.2.2)) (al_h hI.2.2.2)]
  exact w
end ROWS
