/-! A METHOD's FACTS: layout, name, code, locals, answer, frames, words of locals -/
abbrev Mt : Type := Lay × MethodName × ByteArray × Nat × Option FieldType × Nat × Nat
abbrev mL (M : Mt) : Lay := M.1
abbrev mY (M : Mt) : MethodName := M.2.1
abbrev mC (M : Mt) : ByteArray := M.2.2.1
abbrev mN (M : Mt) : Nat := M.2.2.2.1
abbrev mR (M : Mt) : Option FieldType := M.2.2.2.2.1
abbrev mF (M : Mt) : Nat := M.2.2.2.2.2.1
abbrev mW (M : Mt) : Nat := M.2.2.2.2.2.2
def rv (ad : Int → Nat) (ret : Option FieldType) (z : Int) : Option Value := match ret with
  | none => none
  | some .long => some (.long (Int64.ofInt z))
  | some (.array _) => some (dr ad z)
  | some (.object _) => some (dr ad z)
  | some _ => some (.int (Int32.ofInt z))
def okR (Λ : Lay) (E : Int → Int) (ret : Option FieldType) (z : Int) : Prop := match ret with
  | none => True
  | some .long => i64 z
  | some (.array _) => z < 0 ∨ pr Λ E z
  | some (.object _) => z < 0 ∨ pr Λ E z
  | some .boolean => 0 ≤ z ∧ z ≤ 1
  | some _ => i32 z
def mn (Λ : Lay) (G G' : St) : Prop := G 0 0 ≤ G' 0 0 ∧ G 0 1 ≤ G' 0 1 ∧ ∀ o d, Λ.1 (G 0) o = some d → Λ.1 (G' 0) o = some d
theorem mn.rf {Λ : Lay} {G : St} : mn Λ G G := ⟨Int.le_refl _, Int.le_refl _, fun _ _ h => h⟩
theorem mn.eq {Λ : Lay} {G G' : St} (h : G' 0 = G 0) : mn Λ G G' := ⟨by rw [h]; exact Int.le_refl _, by rw [h]; exact Int.le_refl _, fun o d q => by rw [h]; exact q⟩
theorem mn.tr {Λ : Lay} {G G1 G2 : St} (h : mn Λ G G1) (h2 : mn Λ G1 G2) : mn Λ G G2 := ⟨Int.le_trans h.1 h2.1, Int.le_trans h.2.1 h2.2.1, fun o d q => h2.2.2 o d (h.2.2 o d q)⟩
theorem mn.pr {Λ : Lay} {G G1 : St} (h : mn Λ G G1) {o : Int} (q : pr Λ (G 0) o) : pr Λ (G1 0) o := by
  rcases q with q | ⟨d, q⟩
  · exact Or.inl q
  · exact Or.inr ⟨d, h.2.2 o d q⟩
theorem mn.okV {Λ : Lay} {G G1 : St} (h : mn Λ G G1) {v : AV} (q : okV Λ (G 0) v) : okV Λ (G1 0) v := by
  rcases v with x | x | x
  · exact q
  · exact q
  · rcases q with q | q
    · exact Or.inl q
    · exact Or.inr (h.pr q)
/-- the end of a method: its answer, the new picture, what isn't its own stays -/
def QO (Λ : Lay) (ω : Wd) (ad0 : Int → Nat) (E0 : Int → Int) (A : Nat → Prop) (ret : Option FieldType) (out : Int × St) : Array Value → State → Outcome → State → Prop :=
  fun _ st oc t => (∃ ad' : Int → Nat, oc = .returned (rv ad' ret out.1) ∧ (∀ o, pr Λ E0 o → ad' o = ad0 o) ∧ RP Λ ω.1 ω.2.1 ad' out.2 t.heap A) ∧ va_F A st t
/-- the machine's side of a method under way -/
def CX (M : Mt) (p : Program) (R : Room) (s : State) (m : MethodId) (args : Array Value) (meth : Method) (c : Code) (ω : Wd) (A : Nat → Prop) : Prop :=
  p.tables.exec = Jvm.exec ∧ c.code = mC M ∧ c.maxLocals = mN M ∧ meth.sig.returnType = mR M ∧ meth.locks = false ∧ s.vm.findClass (mY M).cls = some m.cls ∧ (∀ w ∈ lw_all, w.before args s = true) ∧ (∀ q, s.heap.size ≤ q → A q) ∧ WK ω A s s.heap ∧ mF M ≤ R.frames ∧ mW M ≤ R.locals ∧ meth.name = (mY M).name
abbrev lvv (ad : Int → Nat) (lv : List (Nat × AV)) : List (Nat × Value) := lv.map fun q => (q.1, cv ad q.2)
/-- the run from pc on, with heap, locals, stack -/
def RW (M : Mt) (pc : Nat) (lv : List (Nat × AV)) (st : List AV) (G : St) (out : Int × St) : Prop :=
  ∀ (p : Program) (l : Launch) (e : Env) (R : Room) (s : State) (m : MethodId) (args : Array Value) (below : List Frame) (meth : Method) (c : Code) (ω : Wd) (A : Nat → Prop), CX M p R s m args meth c ω A →
  ∀ (ad ad0 : Int → Nat) (E0 : Int → Int) (H : Heap) (locs : List Loc) (ls : Array Slot) (c0 s0 : Int), (∀ k : Nat, k < 100 → ad k = ω.2.2.1 k) → (∀ o, pr (mL M) E0 o → ad o = ad0 o) → (∀ o, pr (mL M) E0 o → pr (mL M) (G 0) o) →
    RP (mL M) ω.1 ω.2.1 ad G H A → va_S A s.heap H locs → lv_has ls (mN M) (lvv ad lv) → c0 ≤ G 0 0 → s0 ≤ G 0 1 → R.cells = (out.2 0 0 - c0).toNat → R.slots = (out.2 0 1 - s0).toNat →
    W p l e R s m args below meth c H locs (G 0 0 - c0).toNat (G 0 1 - s0).toNat (MQ below (QO (mL M) ω ad0 E0 A (mR M) out) args s R.cells R.slots A) (F0 m pc ls (st.map (cv ad)))
def okI (M : Mt) (lv : List (Nat × AV)) (st : List AV) (G : St) : Prop := LayOk (mL M) ∧ okG (mL M) G ∧ (∀ q ∈ lv, okV (mL M) (G 0) q.2) ∧ (∀ v ∈ st, okV (mL M) (G 0) v)
/-- THE JUDGEMENT: from here the method comes to the end that the pure result r tells -/
def So (M : Mt) (pc : Nat) (lv : List (Nat × AV)) (st : List AV) (G : St) (r : Option (Int × St)) : Prop :=
  okI M lv st G → ∀ out, r = some out → (mn (mL M) G out.2 ∧ okG (mL M) out.2 ∧ okR (mL M) (out.2 0) (mR M) out.1) ∧ RW M pc lv st G out
/-- ... with what is made of the result by loops around -/
def SS {ρ : Type} (M : Mt) (T : ρ → Option (Int × St)) (pc : Nat) (lv : List (Nat × AV)) (st : List AV) (G : St) (r : Option ρ) : Prop := So M pc lv st G (r.bind T)
/-- A CONTRACT: method M with arguments as, from G, as the pure result r tells -/
def MG (M : Mt) (as : List AV) (G : St) (r : Option (Int × St)) : Prop :=
  LayOk (mL M) → okG (mL M) G → (∀ v ∈ as, okV (mL M) (G 0) v) → ∀ out, r = some out → (mn (mL M) G out.2 ∧ okG (mL M) out.2 ∧ okR (mL M) (out.2 0) (mR M) out.1) ∧
    ∀ (l : Launch) (ω : Wd) (ad : Int → Nat) (sz : Nat), (∀ k : Nat, k < 100 → ad k = ω.2.2.1 k) →
      Met l (mY M) (ws_ (mY M) (mC M) (mN M) (mR M)) { frames := mF M, cells := (out.2 0 0 - G 0 0).toNat, slots := (out.2 0 1 - G 0 1).toNat, locals := mW M }
        (va_Pc (as.map (cv ad)) (fun U => U.heap.size = sz ∧ RP (mL M) ω.1 ω.2.1 ad G U.heap (AR (mL M) ad (G 0) sz) ∧ WK ω (AR (mL M) ad (G 0) sz) U U.heap))
        (QO (mL M) ω ad (G 0) (AR (mL M) ad (G 0) sz) (mR M) out) (out.2 0 0 - G 0 0).toNat (out.2 0 1 - G 0 1).toNat (AR (mL M) ad (G 0) sz)
def lvA : Nat → List AV → List (Nat × AV)
  | _, [] => []
  | i, v :: vs => (i, v) :: lvA (match v with | .inr (.inl _) => i + 2 | _ => i + 1) vs
theorem lvA_cv (ad : Int → Nat) (as : List AV) : ∀ i, lv_args i (as.map (cv ad)) = lvv ad (lvA i as) := by
  induction as with
  | nil => intro i; rfl
  | cons v vs ih =>
    intro i
    rcases v with x | x | x
    · show (i, Value.int (Int32.ofInt x)) :: lv_args (i + 1) (vs.map (cv ad)) = (i, Value.int (Int32.ofInt x)) :: lvv ad (lvA (i + 1) vs)
      rw [ih]
    · show (i, Value.long (Int64.ofInt x)) :: lv_args (i + 2) (vs.map (cv ad)) = (i, Value.long (Int64.ofInt x)) :: lvv ad (lvA (i + 2) vs)
      rw [ih]
    · have e : lv_args i ((aR x :: vs).map (cv ad)) = (i, dr ad x) :: lv_args (i + 1) (vs.map (cv ad)) := by
        show lv_args i (dr ad x :: vs.map (cv ad)) = _
        unfold dr
        split <;> rfl
      rw [e, ih]
      rfl
theorem lvA_ok {P : AV → Prop} (as : List AV) (h : ∀ v ∈ as, P v) : ∀ i, ∀ q ∈ lvA i as, P q.2 := by
  induction as with
  | nil => intro i q hq; cases hq
  | cons v vs ih =>
    intro i q hq
    rcases List.mem_cons.mp hq with rfl | hq
    · exact h _ List.mem_cons_self
    · exact ih (fun v hv => h v (List.mem_cons_of_mem _ hv)) _ q hq
def nsl : List AV → Nat
  | [] => 0
  | (.inr (.inl _)) :: vs => nsl vs + 2
  | _ :: vs => nsl vs + 1
theorem dr_cat (ad : Int → Nat) (z : Int) : (dr ad z).category = 1 := by
  unfold dr
  split <;> rfl
theorem nsl_eq (ad : Int → Nat) (as : List AV) : (lg_sl (as.map (cv ad))).length = nsl as := by
  induction as with
  | nil => rfl
  | cons v vs ih =>
    have e : lg_sl ((v :: vs).map (cv ad)) = (if (cv ad v).category = 2 then [.val (cv ad v), .second] else [.val (cv ad v)]) ++ lg_sl (vs.map (cv ad)) := by simp [lg_sl]
    rw [e, List.length_append, ih]
    rcases v with x | x | x
    · simp [cv, Value.category, nsl]; omega
    · simp [cv, Value.category, nsl]; omega
    · simp [cv, dr_cat, nsl]; omega
/-- a contract out of the judgement at the method's entry -/
theorem MG.of {M : Mt} {as : List AV} {G : St} {r : Option (Int × St)} (hy : plainName (mY M).cls = true) (hn : nsl as ≤ mN M) (h : SS M some 0 (lvA 0 as) [] G r) : MG M as G r := by
  intro hL hG has out ho
  obtain ⟨h1, h2⟩ := h ⟨hL, hG, lvA_ok as has 0, fun v hv => by cases hv⟩ out (by rw [ho]; rfl)
  refine ⟨h1, fun l ω ad sz hE => ?_⟩
  refine Met.ofW (cc := mC M) (maxL := mN M) (ret := mR M) hy rfl ?_
  intro p e s m args below meth c s₁ B hml hv
  obtain ⟨rfl, hsz, hP, hK⟩ := hv
  subst hsz
  have hts := atoms_spec (ws := ws_ (mY M) (mC M) (mN M) (mR M)) B.pre
  have hts : ∀ w ∈ lw_all, w.before _ s = true := fun w h => hts w (List.mem_cons_of_mem _ h)
  have hown : s.vm.findClass (mY M).cls = some m.cls := findClass_of_methodNamed B.named
  have hl := lv_entry (as.map (cv ad)) (n := mN M) (by rw [nsl_eq]; exact hn)
  rw [lg_entry_eq]
  generalize (lg_sl (as.map (cv ad)) ++ List.replicate (mN M - (lg_sl (as.map (cv ad))).length) Slot.unset).toArray = ls at hl ⊢
  rw [lvA_cv] at hl
  have hw := h2 p l e (headSpec (ws_ (mY M) (mC M) (mN M) (mR M)) { frames := mF M, cells := (out.2 0 0 - G 0 0).toNat, slots := (out.2 0 1 - G 0 1).toNat, locals := mW M }).room s m _ below meth c ω _ ⟨B.exec, B.bytes, hml, B.returns, B.notSynchronized, hown, hts, fun q hq => Or.inr hq, hK, Nat.le_refl _, Nat.le_refl _, (name_of_methodNamed B.named B.method).1⟩ ad ad (G 0) s.heap [] ls (G 0 0) (G 0 1) hE (fun _ _ => rfl) (fun _ h => h) hP va_S.rf hl (Int.le_refl _) (Int.le_refl _) rfl rfl
  rw [Int.sub_self, Int.sub_self] at hw
  exact hw
/-! LOOPS: a step gives the next state, or the result; the loop's result needs no fuel -/
def whn {σ ρ : Type} (step : σ → Option (σ ⊕ ρ)) : Nat → σ → Option ρ
  | 0, _ => none
  | n + 1, s => match step s with
    | none => none
    | some (.inl s') => whn step n s'
    | some (.inr r) => some r
theorem whn_mono {σ ρ : Type} {step : σ → Option (σ ⊕ ρ)} : ∀ (n : Nat) (s : σ) (r : ρ), whn step n s = some r → whn step (n + 1) s = some r := by
  intro n
  induction n with
  | zero => intro s r h; cases h
  | succ n ih =>
    intro s r h
    unfold whn at h ⊢
    cases hs : step s with
    | none => rw [hs] at h; cases h
    | some q =>
      rw [hs] at h
      cases q with
      | inl s' => exact ih s' r h
      | inr x => exact h
theorem whn_le {σ ρ : Type} {step : σ → Option (σ ⊕ ρ)} {n : Nat} {s : σ} {r : ρ} (h : whn step n s = some r) (k : Nat) : whn step (n + k) s = some r := by
  induction k with
  | zero => exact h
  | succ k ih => exact whn_mono _ _ _ ih
noncomputable def wh {σ ρ : Type} (step : σ → Option (σ ⊕ ρ)) (s : σ) : Option ρ := by
  classical
  exact if h : ∃ n r, whn step n s = some r then some h.choose_spec.choose else none
theorem wh_some {σ ρ : Type} {step : σ → Option (σ ⊕ ρ)} {s : σ} {r : ρ} : wh step s = some r ↔ ∃ n, whn step n s = some r := by
  unfold wh
  constructor
  · intro h
    split at h
    · rename_i hh
      cases h
      exact ⟨hh.choose, hh.choose_spec.choose_spec⟩
    · cases h
  · intro ⟨n, hn⟩
    have hh : ∃ n r, whn step n s = some r := ⟨n, r, hn⟩
    rw [dif_pos hh]
    have h2 := hh.choose_spec.choose_spec
    have a1 := whn_le hn hh.choose
    have a2 := whn_le h2 n
    rw [Nat.add_comm] at a2
    rw [a1] at a2
    exact a2.symm
/-- what is made of a step's result -/
def lk {σ ρ τ : Type} (X : σ → Option τ) (T : ρ → Option τ) (q : σ ⊕ ρ) : Option τ := match q with
  | .inl s => X s
  | .inr r => T r
theorem wh_eq {σ ρ : Type} (step : σ → Option (σ ⊕ ρ)) (s : σ) : wh step s = (step s).bind (lk (wh step) some) := by
  cases hs : step s with
  | none =>
    cases hw : wh step s with
    | none => rfl
    | some r =>
      obtain ⟨n, hn⟩ := wh_some.mp hw
      cases n with
      | zero => cases hn
      | succ n => unfold whn at hn; rw [hs] at hn; cases hn
  | some q =>
    cases q with
    | inr r => exact wh_some.mpr ⟨1, by unfold whn; rw [hs]⟩
    | inl s' =>
      show wh step s = wh step s'
      cases hw : wh step s' with
      | some r =>
        obtain ⟨n, hn⟩ := wh_some.mp hw
        exact wh_some.mpr ⟨n + 1, by unfold whn; rw [hs]; exact hn⟩
      | none =>
        cases hw2 : wh step s with
        | none => rfl
        | some r =>
          obtain ⟨n, hn⟩ := wh_some.mp hw2
          cases n with
          | zero => cases hn
          | succ n =>
            unfold whn at hn
            rw [hs] at hn
            rw [wh_some.mpr ⟨n, hn⟩] at hw
            cases hw
/-- an exit out of a loop's step -/
def ex {σ ρ : Type} (r : Option ρ) : Option (σ ⊕ ρ) := r.map Sum.inr
theorem ex_bind {σ ρ τ : Type} (r : Option ρ) (X : σ → Option τ) (T : ρ → Option τ) : (ex r).bind (lk X T) = r.bind T := by
  cases r <;> rfl
theorem SS.ex {σ ρ : Type} {M : Mt} {X : σ → Option (Int × St)} {T : ρ → Option (Int × St)} {pc : Nat} {lv : List (Nat × AV)} {st : List AV} {G : St} {r : Option ρ} (h : SS M T pc lv st G r) : SS M (lk X T) pc lv st G (ex r) := by
  unfold SS
  rw [ex_bind]
  exact h
theorem SS.loop {σ ρ : Type} {M : Mt} {T : ρ → Option (Int × St)} {pc : Nat} (lvf : σ → List (Nat × AV)) (Gf : σ → St) (step : σ → Option (σ ⊕ ρ))
    (h : ∀ X : σ → Option (Int × St), (∀ s, So M pc (lvf s) [] (Gf s) (X s)) → ∀ s, SS M (lk X T) pc (lvf s) [] (Gf s) (step s)) (s : σ) : SS M T pc (lvf s) [] (Gf s) (wh step s) := by
  have key : ∀ n s, So M pc (lvf s) [] (Gf s) ((whn step n s).bind T) := by
    intro n
    induction n with
    | zero => intro s hI out ho; cases ho
    | succ n ih =>
      intro s
      have h2 := h (fun s => (whn step n s).bind T) ih s
      unfold SS at h2
      unfold whn
      cases hs : step s with
      | none => intro hI out ho; cases ho
      | some q =>
        rw [hs] at h2
        cases q with
        | inl s' => exact h2
        | inr r => exact h2
  unfold SS
  cases hw : wh step s with
  | none => intro hI out ho; cases ho
  | some r =>
    obtain ⟨n, hn⟩ := wh_some.mp hw
    have h3 := key n s
    rw [hn] at h3
    exact h3
/-- back to a loop's head -/
theorem SS.back {σ ρ : Type} {M : Mt} {X : σ → Option (Int × St)} {T : ρ → Option (Int × St)} {pc : Nat} {lv : List (Nat × AV)} {G : St} {s : σ} (h : So M pc lv [] G (X s)) : SS M (lk X T) pc lv [] G (some (Sum.inl s) : Option (σ ⊕ ρ)) := h
/-- a call's result goes on -/
def bd {ρ : Type} (r : Option (Int × St)) (k : Int → St → Option ρ) : Option ρ := r.bind fun q => k q.1 q.2
theorem bd_some {ρ : Type} {z : Int} {G : St} {k : Int → St → Option ρ} : bd (some (z, G)) k = k z G := rfl
theorem bd_none {ρ : Type} {k : Int → St → Option ρ} : bd none k = none := rfl
/-- guards -/
def ckI {ρ : Type} (x : Int) (r : Option ρ) : Option ρ := if -2147483648 ≤ x ∧ x < 2147483648 then r else none
def ckL {ρ : Type} (x : Int) (r : Option ρ) : Option ρ := if -9223372036854775808 ≤ x ∧ x < 9223372036854775808 then r else none
def ckB {ρ : Type} (i n : Int) (r : Option ρ) : Option ρ := if 0 ≤ i ∧ i < n then r else none
def ckD {ρ : Type} (x y : Int) (r : Option ρ) : Option ρ := if 0 ≤ x ∧ 0 < y then r else none
theorem ckI_p {ρ : Type} {x : Int} {r : Option ρ} (h1 : -2147483648 ≤ x) (h2 : x < 2147483648) : ckI x r = r := if_pos ⟨h1, h2⟩
theorem ckL_p {ρ : Type} {x : Int} {r : Option ρ} (h1 : -9223372036854775808 ≤ x) (h2 : x < 9223372036854775808) : ckL x r = r := if_pos ⟨h1, h2⟩
theorem ckB_p {ρ : Type} {i n : Int} {r : Option ρ} (h1 : 0 ≤ i) (h2 : i < n) : ckB i n r = r := if_pos ⟨h1, h2⟩
theorem ckD_p {ρ : Type} {x y : Int} {r : Option ρ} (h1 : 0 ≤ x) (h2 : 0 < y) : ckD x y r = r := if_pos ⟨h1, h2⟩
section GRD
variable {ρ : Type} {M : Mt} {T : ρ → Option (Int × St)} {pc : Nat} {lv : List (Nat × AV)} {st : List AV} {G : St} {r r' : Option ρ}
theorem SS.eqv (e : r = r') (h : SS M T pc lv st G r') : SS M T pc lv st G r := e ▸ h
theorem SS.none' : SS M T pc lv st G none := fun _ _ ho => by cases ho
theorem ss_ckI {x : Int} (h : i32 x → SS M T pc lv st G r) : SS M T pc lv st G (ckI x r) := by
  unfold ckI
  split
  · exact h ‹_›
  · exact SS.none'
theorem ss_ckL {x : Int} (h : i64 x → SS M T pc lv st G r) : SS M T pc lv st G (ckL x r) := by
  unfold ckL
  split
  · exact h ‹_›
  · exact SS.none'
theorem ss_ckB {i n : Int} (h : 0 ≤ i → i < n → SS M T pc lv st G r) : SS M T pc lv st G (ckB i n r) := by
  unfold ckB
  split
  · rename_i q; exact h q.1 q.2
  · exact SS.none'
theorem ss_ckD {x y : Int} (h : 0 ≤ x → 0 < y → SS M T pc lv st G r) : SS M T pc lv st G (ckD x y r) := by
  unfold ckD
  split
  · rename_i q; exact h q.1 q.2
  · exact SS.none'
/-- a value that two ways come to -/
theorem SS.phi {c : Prop} [Decidable c] {a b : Int} (f : Int → Option ρ) (h : SS M T pc lv st G (if c then f a else f b)) : SS M T pc lv st G (f (if c then a else b)) := by
  by_cases hc : c
  · rw [if_pos hc] at h ⊢; exact h
  · rw [if_neg hc] at h ⊢; exact h
end GRD
