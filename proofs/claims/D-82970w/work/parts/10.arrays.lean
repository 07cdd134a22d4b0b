/-! ROWS: puts by kinds, arrays -/
section MEM2
variable {ρ : Type} {M : Mt} {T : ρ → Option (Int × St)} {pc : Nat} {lv lv' : List (Nat × AV)} {st st' : List AV} {G : St} {r r' : Option ρ}
theorem fit_ref {ty : FieldType} (h : ty.isReference = true) (ad : Int → Nat) (z : Int) : narrow ty (cv ad (aR z)) = cv ad (aR z) ∧ fits ty (cv ad (aR z)) = true := by
  show narrow ty (dr ad z) = dr ad z ∧ fits ty (dr ad z) = true
  unfold dr
  cases ty <;> first | (cases h; done) | (split <;> exact ⟨rfl, rfl⟩)

theorem r_putI (q : Nat) {o x : Int} {idx ci k : Nat} (d : decode (mC M) pc = .ok (.putfield idx, 3)) (F : FK (mY M).cls idx ci k false .int) (hc : pr (mL M) (G 0) o → (mL M).1 (G 0) o = some (.inl ci)) (ho : 0 ≤ o) (hk : kd (mL M) ci k = 0) (hq : pc + 3 = q) (kk : SS M T q lv st (up G o k x) r) : SS M T pc lv (aI x :: aR o :: st) G r :=
  ss_put q (z := x) (v := aI x) d F hc ho (by rw [hk]; rfl) (fun hI => by rw [hk]; exact al_h hI.2.2.2) (fun ad => ⟨rfl, rfl⟩) hq kk
theorem r_putL (q : Nat) {o x : Int} {idx ci k : Nat} (d : decode (mC M) pc = .ok (.putfield idx, 3)) (F : FK (mY M).cls idx ci k false .long) (hc : pr (mL M) (G 0) o → (mL M).1 (G 0) o = some (.inl ci)) (ho : 0 ≤ o) (hk : kd (mL M) ci k = 1) (hq : pc + 3 = q) (kk : SS M T q lv st (up G o k x) r) : SS M T pc lv (aL x :: aR o :: st) G r :=
  ss_put q (z := x) (v := aL x) d F hc ho (by rw [hk]; rfl) (fun hI => by rw [hk]; exact al_h hI.2.2.2) (fun ad => ⟨rfl, rfl⟩) hq kk
theorem r_putZ (q : Nat) {o x : Int} {idx ci k : Nat} (d : decode (mC M) pc = .ok (.putfield idx, 3)) (F : FK (mY M).cls idx ci k false .boolean) (hc : pr (mL M) (G 0) o → (mL M).1 (G 0) o = some (.inl ci)) (ho : 0 ≤ o) (hk : kd (mL M) ci k = 4) (hq : pc + 3 = q) (kk : SS M T q lv st (up G o k x) r) : SS M T pc lv (aI x :: aR o :: st) G (ckB x 2 r) :=
  ss_ckB (fun h0 h1 => ss_put q (z := x) (v := aI x) d F hc ho (by rw [hk]; rfl) (fun hI => by rw [hk]; exact ⟨h0, by omega⟩) (fun ad => nar_b ⟨h0, by omega⟩) hq kk)
theorem r_putR (q : Nat) {o z : Int} {ty : FieldType} {idx ci k : Nat} (d : decode (mC M) pc = .ok (.putfield idx, 3)) (F : FK (mY M).cls idx ci k false ty) (hc : pr (mL M) (G 0) o → (mL M).1 (G 0) o = some (.inl ci)) (ho : 0 ≤ o) (hty : ty.isReference = true) (hk : kd (mL M) ci k = 3) (hq : pc + 3 = q) (kk : SS M T q lv st (up G o k z) r) : SS M T pc lv (aR z :: aR o :: st) G r :=
  ss_put q (z := z) (v := aR z) d F hc ho (by rw [hk]; rfl) (fun hI => by rw [hk]; exact al_h hI.2.2.2) (fun ad => fit_ref hty ad z) hq kk
theorem r_putFI (q : Nat) {o x : Int} {idx ci k : Nat} (d : decode (mC M) pc = .ok (.putfield idx, 3)) (F : FK (mY M).cls idx ci k true .int) (hown : ∀ r, vwCl[ci]? = some r → (r.2.1 k).1 = (mY M).cls) (hini : (mY M).name = "<init>") (hlk : ∀ r, vwCl[ci]? = some r → Cond.fieldLink (mY M).cls idx (r.2.1 k).1 (r.2.1 k).2.1 (r.2.1 k).2.2.1 ∈ lw_all) (hc : pr (mL M) (G 0) o → (mL M).1 (G 0) o = some (.inl ci)) (ho : 0 ≤ o) (hk : kd (mL M) ci k = 0) (hq : pc + 3 = q) (kk : SS M T q lv st (up G o k x) r) : SS M T pc lv (aI x :: aR o :: st) G r :=
  ss_putF q (z := x) (v := aI x) d F hown hini hlk hc ho (by rw [hk]; rfl) (fun hI => by rw [hk]; exact al_h hI.2.2.2) (fun ad => ⟨rfl, rfl⟩) hq kk
theorem r_putFL (q : Nat) {o x : Int} {idx ci k : Nat} (d : decode (mC M) pc = .ok (.putfield idx, 3)) (F : FK (mY M).cls idx ci k true .long) (hown : ∀ r, vwCl[ci]? = some r → (r.2.1 k).1 = (mY M).cls) (hini : (mY M).name = "<init>") (hlk : ∀ r, vwCl[ci]? = some r → Cond.fieldLink (mY M).cls idx (r.2.1 k).1 (r.2.1 k).2.1 (r.2.1 k).2.2.1 ∈ lw_all) (hc : pr (mL M) (G 0) o → (mL M).1 (G 0) o = some (.inl ci)) (ho : 0 ≤ o) (hk : kd (mL M) ci k = 1) (hq : pc + 3 = q) (kk : SS M T q lv st (up G o k x) r) : SS M T pc lv (aL x :: aR o :: st) G r :=
  ss_putF q (z := x) (v := aL x) d F hown hini hlk hc ho (by rw [hk]; rfl) (fun hI => by rw [hk]; exact al_h hI.2.2.2) (fun ad => ⟨rfl, rfl⟩) hq kk
theorem r_putFZ (q : Nat) {o x : Int} {idx ci k : Nat} (d : decode (mC M) pc = .ok (.putfield idx, 3)) (F : FK (mY M).cls idx ci k true .boolean) (hown : ∀ r, vwCl[ci]? = some r → (r.2.1 k).1 = (mY M).cls) (hini : (mY M).name = "<init>") (hlk : ∀ r, vwCl[ci]? = some r → Cond.fieldLink (mY M).cls idx (r.2.1 k).1 (r.2.1 k).2.1 (r.2.1 k).2.2.1 ∈ lw_all) (hc : pr (mL M) (G 0) o → (mL M).1 (G 0) o = some (.inl ci)) (ho : 0 ≤ o) (hk : kd (mL M) ci k = 4) (hq : pc + 3 = q) (kk : SS M T q lv st (up G o k x) r) : SS M T pc lv (aI x :: aR o :: st) G (ckB x 2 r) :=
  ss_ckB (fun h0 h1 => ss_putF q (z := x) (v := aI x) d F hown hini hlk hc ho (by rw [hk]; rfl) (fun hI => by rw [hk]; exact ⟨h0, by omega⟩) (fun ad => nar_b ⟨h0, by omega⟩) hq kk)
theorem r_putFR (q : Nat) {o z : Int} {ty : FieldType} {idx ci k : Nat} (d : decode (mC M) pc = .ok (.putfield idx, 3)) (F : FK (mY M).cls idx ci k true ty) (hown : ∀ r, vwCl[ci]? = some r → (r.2.1 k).1 = (mY M).cls) (hini : (mY M).name = "<init>") (hlk : ∀ r, vwCl[ci]? = some r → Cond.fieldLink (mY M).cls idx (r.2.1 k).1 (r.2.1 k).2.1 (r.2.1 k).2.2.1 ∈ lw_all) (hc : pr (mL M) (G 0) o → (mL M).1 (G 0) o = some (.inl ci)) (ho : 0 ≤ o) (hty : ty.isReference = true) (hk : kd (mL M) ci k = 3) (hq : pc + 3 = q) (kk : SS M T q lv st (up G o k z) r) : SS M T pc lv (aR z :: aR o :: st) G r :=
  ss_putF q (z := z) (v := aR z) d F hown hini hlk hc ho (by rw [hk]; rfl) (fun hI => by rw [hk]; exact al_h hI.2.2.2) (fun ad => fit_ref hty ad z) hq kk
theorem top_pr {o : Int} {E : Int → Int} {Λ : Lay} (h : okV Λ E (aR o)) (ho : 0 ≤ o) : pr Λ E o := by
  rcases h with h | h
  · omega
  · exact h
theorem arr_in {cA : ClassId} {n i : Int} {f : Nat → Value} (h0 : 0 ≤ i) (h1 : i < n) (hn : n < 2 ^ 31) : ¬ (Int32.ofInt i < 0 ∨ (arrV cA n.toNat f).slots.size ≤ (Int32.ofInt i).toNatClampNeg) := by
  obtain ⟨e1, e2⟩ := cl32 h0 h1 hn
  rw [arrV_size, e1]
  rintro (h | h)
  · exact e2 h
  · omega
theorem arr_rd {cA : ClassId} {n i : Int} {f : Nat → Value} (h0 : 0 ≤ i) (h1 : i < n) (hn : n < 2 ^ 31) : (arrV cA n.toNat f).slots[(Int32.ofInt i).toNatClampNeg]? = some (f i.toNat) := by
  obtain ⟨e1, e2⟩ := cl32 h0 h1 hn
  rw [e1, arrV_read _ _ (by omega)]
theorem r_iald (q : Nat) {o i n : Int} (d : decode (mC M) pc = .ok (.iaload, 1)) (ha : pr (mL M) (G 0) o → 0 ≤ i → i < n → (mL M).1 (G 0) o = some (.inr (0, n))) (ho : 0 ≤ i → i < n → 0 ≤ o) (hq : pc + 1 = q) (kk : SS M T q lv (aI (G o i) :: st) G r) : SS M T pc lv (aI i :: aR o :: st) G (ckB i n r) := by
  subst hq
  refine ss_ckB (fun h0 h1 => ?_)
  have hd : okI M lv (aI i :: aR o :: st) G → (mL M).1 (G 0) o = some (.inr (0, n)) := fun hI => ha (top_pr (al_h (al_t hI.2.2.2)) (ho h0 h1)) h0 h1
  refine ss_st _ (aI (G o i) :: st) (fun hI => al_c ?_ (al_t (al_t hI.2.2.2))) (fun hI _ _ _ _ s m args _ _ _ ω _ C _ _ _ _ _ _ ad hE hP hS hl _ w => ?_) kk
  · exact okV_gl (tag := 0) (hI.2.1 o _ (hd hI) i h0 h1)
  · have hn := (hI.1.2 _ _ _ _ (hd hI)).2
    have hcell := hP.1 o _ (hd hI)
    rw [List.map_cons, List.map_cons, dr_ref ad (ho h0 h1)]
    refine W.iald (v := cv ad (aI (G o i))) C.1 C.2.1 hcell ((tys_at C.2.2.2.2.2.2.2.2.1.1 (t := 0) (by decide)).1 _ _) (fun q => by cases q) (arr_in h0 h1 hn) ?_ rfl rfl d w
    rw [arr_rd h0 h1 hn, Int.toNat_of_nonneg h0]
    rfl
theorem r_bald (q : Nat) {o i n : Int} (d : decode (mC M) pc = .ok (.baload, 1)) (ha : pr (mL M) (G 0) o → 0 ≤ i → i < n → (mL M).1 (G 0) o = some (.inr (1, n))) (ho : 0 ≤ i → i < n → 0 ≤ o) (hq : pc + 1 = q) (kk : SS M T q lv (aI (G o i) :: st) G r) : SS M T pc lv (aI i :: aR o :: st) G (ckB i n r) := by
  subst hq
  refine ss_ckB (fun h0 h1 => ?_)
  have hd : okI M lv (aI i :: aR o :: st) G → (mL M).1 (G 0) o = some (.inr (1, n)) := fun hI => ha (top_pr (al_h (al_t hI.2.2.2)) (ho h0 h1)) h0 h1
  refine ss_st _ (aI (G o i) :: st) (fun hI => al_c ?_ (al_t (al_t hI.2.2.2))) (fun hI _ _ _ _ s m args _ _ _ ω _ C _ _ _ _ _ _ ad hE hP hS hl _ w => ?_) kk
  · exact okV_gl (tag := 1) (hI.2.1 o _ (hd hI) i h0 h1)
  · have hn := (hI.1.2 _ _ _ _ (hd hI)).2
    have hcell := hP.1 o _ (hd hI)
    rw [List.map_cons, List.map_cons, dr_ref ad (ho h0 h1)]
    refine W.bald (v := cv ad (aI (G o i))) C.1 C.2.1 hcell ((tys_at C.2.2.2.2.2.2.2.2.1.1 (t := 1) (by decide)).1 _ _) (fun q => by cases q) (arr_in h0 h1 hn) ?_ rfl rfl d w
    rw [arr_rd h0 h1 hn, Int.toNat_of_nonneg h0]
    rfl
theorem r_zald (q : Nat) {o i n : Int} (d : decode (mC M) pc = .ok (.baload, 1)) (ha : pr (mL M) (G 0) o → 0 ≤ i → i < n → (mL M).1 (G 0) o = some (.inr (2, n))) (ho : 0 ≤ i → i < n → 0 ≤ o) (hq : pc + 1 = q) (kk : SS M T q lv (aI (G o i) :: st) G r) : SS M T pc lv (aI i :: aR o :: st) G (ckB i n r) := by
  subst hq
  refine ss_ckB (fun h0 h1 => ?_)
  have hd : okI M lv (aI i :: aR o :: st) G → (mL M).1 (G 0) o = some (.inr (2, n)) := fun hI => ha (top_pr (al_h (al_t hI.2.2.2)) (ho h0 h1)) h0 h1
  refine ss_st _ (aI (G o i) :: st) (fun hI => al_c ?_ (al_t (al_t hI.2.2.2))) (fun hI _ _ _ _ s m args _ _ _ ω _ C _ _ _ _ _ _ ad hE hP hS hl _ w => ?_) kk
  · exact okV_gl (tag := 2) (hI.2.1 o _ (hd hI) i h0 h1)
  · have hn := (hI.1.2 _ _ _ _ (hd hI)).2
    have hcell := hP.1 o _ (hd hI)
    rw [List.map_cons, List.map_cons, dr_ref ad (ho h0 h1)]
    refine W.zald (v := cv ad (aI (G o i))) C.1 C.2.1 hcell ((tys_at C.2.2.2.2.2.2.2.2.1.1 (t := 2) (by decide)).1 _ _) (fun q => by cases q) (arr_in h0 h1 hn) ?_ rfl rfl d w
    rw [arr_rd h0 h1 hn, Int.toNat_of_nonneg h0]
    rfl
theorem r_sald (q : Nat) {o i n : Int} (d : decode (mC M) pc = .ok (.saload, 1)) (ha : pr (mL M) (G 0) o → 0 ≤ i → i < n → (mL M).1 (G 0) o = some (.inr (3, n))) (ho : 0 ≤ i → i < n → 0 ≤ o) (hq : pc + 1 = q) (kk : SS M T q lv (aI (G o i) :: st) G r) : SS M T pc lv (aI i :: aR o :: st) G (ckB i n r) := by
  subst hq
  refine ss_ckB (fun h0 h1 => ?_)
  have hd : okI M lv (aI i :: aR o :: st) G → (mL M).1 (G 0) o = some (.inr (3, n)) := fun hI => ha (top_pr (al_h (al_t hI.2.2.2)) (ho h0 h1)) h0 h1
  refine ss_st _ (aI (G o i) :: st) (fun hI => al_c ?_ (al_t (al_t hI.2.2.2))) (fun hI _ _ _ _ s m args _ _ _ ω _ C _ _ _ _ _ _ ad hE hP hS hl _ w => ?_) kk
  · exact okV_gl (tag := 3) (hI.2.1 o _ (hd hI) i h0 h1)
  · have hn := (hI.1.2 _ _ _ _ (hd hI)).2
    have hcell := hP.1 o _ (hd hI)
    rw [List.map_cons, List.map_cons, dr_ref ad (ho h0 h1)]
    refine W.sald (v := cv ad (aI (G o i))) C.1 C.2.1 hcell ((tys_at C.2.2.2.2.2.2.2.2.1.1 (t := 3) (by decide)).1 _ _) (fun q => by cases q) (arr_in h0 h1 hn) ?_ rfl rfl d w
    rw [arr_rd h0 h1 hn, Int.toNat_of_nonneg h0]
    rfl
theorem r_lald (q : Nat) {o i n : Int} (d : decode (mC M) pc = .ok (.laload, 1)) (ha : pr (mL M) (G 0) o → 0 ≤ i → i < n → (mL M).1 (G 0) o = some (.inr (4, n))) (ho : 0 ≤ i → i < n → 0 ≤ o) (hq : pc + 1 = q) (kk : SS M T q lv (aL (G o i) :: st) G r) : SS M T pc lv (aI i :: aR o :: st) G (ckB i n r) := by
  subst hq
  refine ss_ckB (fun h0 h1 => ?_)
  have hd : okI M lv (aI i :: aR o :: st) G → (mL M).1 (G 0) o = some (.inr (4, n)) := fun hI => ha (top_pr (al_h (al_t hI.2.2.2)) (ho h0 h1)) h0 h1
  refine ss_st _ (aL (G o i) :: st) (fun hI => al_c ?_ (al_t (al_t hI.2.2.2))) (fun hI _ _ _ _ s m args _ _ _ ω _ C _ _ _ _ _ _ ad hE hP hS hl _ w => ?_) kk
  · exact okV_gl (tag := 4) (hI.2.1 o _ (hd hI) i h0 h1)
  · have hn := (hI.1.2 _ _ _ _ (hd hI)).2
    have hcell := hP.1 o _ (hd hI)
    rw [List.map_cons, List.map_cons, dr_ref ad (ho h0 h1)]
    refine W.lald (v := cv ad (aL (G o i))) C.1 C.2.1 hcell ((tys_at C.2.2.2.2.2.2.2.2.1.1 (t := 4) (by decide)).1 _ _) (fun q => by cases q) (arr_in h0 h1 hn) ?_ rfl rfl d w
    rw [arr_rd h0 h1 hn, Int.toNat_of_nonneg h0]
    rfl
theorem r_aald5 (q : Nat) {o i n : Int} (d : decode (mC M) pc = .ok (.aaload, 1)) (ha : pr (mL M) (G 0) o → 0 ≤ i → i < n → (mL M).1 (G 0) o = some (.inr (5, n))) (ho : 0 ≤ i → i < n → 0 ≤ o) (hq : pc + 1 = q) (kk : SS M T q lv (aR (G o i) :: st) G r) : SS M T pc lv (aI i :: aR o :: st) G (ckB i n r) := by
  subst hq
  refine ss_ckB (fun h0 h1 => ?_)
  have hd : okI M lv (aI i :: aR o :: st) G → (mL M).1 (G 0) o = some (.inr (5, n)) := fun hI => ha (top_pr (al_h (al_t hI.2.2.2)) (ho h0 h1)) h0 h1
  refine ss_st _ (aR (G o i) :: st) (fun hI => al_c ?_ (al_t (al_t hI.2.2.2))) (fun hI _ _ _ _ s m args _ _ _ ω _ C _ _ _ _ _ _ ad hE hP hS hl _ w => ?_) kk
  · exact okV_gl (tag := 5) (hI.2.1 o _ (hd hI) i h0 h1)
  · have hn := (hI.1.2 _ _ _ _ (hd hI)).2
    have hcell := hP.1 o _ (hd hI)
    rw [List.map_cons, List.map_cons, dr_ref ad (ho h0 h1)]
    refine W.aald (v := cv ad (aR (G o i))) C.1 C.2.1 hcell ((tys_at C.2.2.2.2.2.2.2.2.1.1 (t := 5) (by decide)).1 _ _) rfl (fun q => by cases q) (arr_in h0 h1 hn) ?_ rfl rfl d w
    rw [arr_rd h0 h1 hn, Int.toNat_of_nonneg h0]
    rfl
theorem r_aald6 (q : Nat) {o i n : Int} (d : decode (mC M) pc = .ok (.aaload, 1)) (ha : pr (mL M) (G 0) o → 0 ≤ i → i < n → (mL M).1 (G 0) o = some (.inr (6, n))) (ho : 0 ≤ i → i < n → 0 ≤ o) (hq : pc + 1 = q) (kk : SS M T q lv (aR (G o i) :: st) G r) : SS M T pc lv (aI i :: aR o :: st) G (ckB i n r) := by
  subst hq
  refine ss_ckB (fun h0 h1 => ?_)
  have hd : okI M lv (aI i :: aR o :: st) G → (mL M).1 (G 0) o = some (.inr (6, n)) := fun hI => ha (top_pr (al_h (al_t hI.2.2.2)) (ho h0 h1)) h0 h1
  refine ss_st _ (aR (G o i) :: st) (fun hI => al_c ?_ (al_t (al_t hI.2.2.2))) (fun hI _ _ _ _ s m args _ _ _ ω _ C _ _ _ _ _ _ ad hE hP hS hl _ w => ?_) kk
  · exact okV_gl (tag := 6) (hI.2.1 o _ (hd hI) i h0 h1)
  · have hn := (hI.1.2 _ _ _ _ (hd hI)).2
    have hcell := hP.1 o _ (hd hI)
    rw [List.map_cons, List.map_cons, dr_ref ad (ho h0 h1)]
    refine W.aald (v := cv ad (aR (G o i))) C.1 C.2.1 hcell ((tys_at C.2.2.2.2.2.2.2.2.1.1 (t := 6) (by decide)).1 _ _) rfl (fun q => by cases q) (arr_in h0 h1 hn) ?_ rfl rfl d w
    rw [arr_rd h0 h1 hn, Int.toNat_of_nonneg h0]
    rfl
theorem r_aald7 (q : Nat) {o i n : Int} (d : decode (mC M) pc = .ok (.aaload, 1)) (ha : pr (mL M) (G 0) o → 0 ≤ i → i < n → (mL M).1 (G 0) o = some (.inr (7, n))) (ho : 0 ≤ i → i < n → 0 ≤ o) (hq : pc + 1 = q) (kk : SS M T q lv (aR (G o i) :: st) G r) : SS M T pc lv (aI i :: aR o :: st) G (ckB i n r) := by
  subst hq
  refine ss_ckB (fun h0 h1 => ?_)
  have hd : okI M lv (aI i :: aR o :: st) G → (mL M).1 (G 0) o = some (.inr (7, n)) := fun hI => ha (top_pr (al_h (al_t hI.2.2.2)) (ho h0 h1)) h0 h1
  refine ss_st _ (aR (G o i) :: st) (fun hI => al_c ?_ (al_t (al_t hI.2.2.2))) (fun hI _ _ _ _ s m args _ _ _ ω _ C _ _ _ _ _ _ ad hE hP hS hl _ w => ?_) kk
  · exact okV_gl (tag := 7) (hI.2.1 o _ (hd hI) i h0 h1)
  · have hn := (hI.1.2 _ _ _ _ (hd hI)).2
    have hcell := hP.1 o _ (hd hI)
    rw [List.map_cons, List.map_cons, dr_ref ad (ho h0 h1)]
    refine W.aald (v := cv ad (aR (G o i))) C.1 C.2.1 hcell ((tys_at C.2.2.2.2.2.2.2.2.1.1 (t := 7) (by decide)).1 _ _) rfl (fun q => by cases q) (arr_in h0 h1 hn) ?_ rfl rfl d w
    rw [arr_rd h0 h1 hn, Int.toNat_of_nonneg h0]
    rfl
theorem r_aald8 (q : Nat) {o i n : Int} (d : decode (mC M) pc = .ok (.aaload, 1)) (ha : pr (mL M) (G 0) o → 0 ≤ i → i < n → (mL M).1 (G 0) o = some (.inr (8, n))) (ho : 0 ≤ i → i < n → 0 ≤ o) (hq : pc + 1 = q) (kk : SS M T q lv (aR (1000 + 32 * i) :: st) G r) : SS M T pc lv (aI i :: aR o :: st) G (ckB i n r) := by
  subst hq
  refine ss_ckB (fun h0 h1 => ?_)
  have hd : okI M lv (aI i :: aR o :: st) G → (mL M).1 (G 0) o = some (.inr (8, n)) := fun hI => ha (top_pr (al_h (al_t hI.2.2.2)) (ho h0 h1)) h0 h1
  refine ss_st _ (aR (1000 + 32 * i) :: st) (fun hI => al_c ?_ (al_t (al_t hI.2.2.2))) (fun hI _ _ _ _ s m args _ _ _ ω _ C _ _ _ _ _ _ ad hE hP hS hl _ w => ?_) kk
  · exact okV_gl (tag := 8) (hI.2.1 o _ (hd hI) i h0 h1)
  · have hn := (hI.1.2 _ _ _ _ (hd hI)).2
    have hcell := hP.1 o _ (hd hI)
    rw [List.map_cons, List.map_cons, dr_ref ad (ho h0 h1)]
    refine W.aald (v := cv ad (aR (1000 + 32 * i))) C.1 C.2.1 hcell ((tys_at C.2.2.2.2.2.2.2.2.1.1 (t := 8) (by decide)).1 _ _) rfl (fun q => by cases q) (arr_in h0 h1 hn) ?_ rfl rfl d w
    rw [arr_rd h0 h1 hn, Int.toNat_of_nonneg h0]
    rfl
theorem r_alen (q : Nat) {o n : Int} (d : decode (mC M) pc = .ok (.arraylength, 1)) (ha : pr (mL M) (G 0) o → (mL M).1 (G 0) o = some (.inr (0, n))) (ho : 0 ≤ o) (hq : pc + 1 = q) (kk : SS M T q lv (aI n :: st) G r) : SS M T pc lv (aR o :: st) G r := by
  subst hq
  have hd : okI M lv (aR o :: st) G → (mL M).1 (G 0) o = some (.inr (0, n)) := fun hI => ha (top_pr (al_h hI.2.2.2) ho)
  refine ss_st _ (aI n :: st) (fun hI => al_c ?_ (al_t hI.2.2.2)) (fun hI _ _ _ _ s m args _ _ _ ω _ C _ _ _ _ _ _ ad hE hP hS hl _ w => ?_) kk
  · have hn := hI.1.2 _ _ _ _ (hd hI)
    exact ⟨by omega, by omega⟩
  · have hcell := hP.1 o _ (hd hI)
    have hn := hI.1.2 _ _ _ _ (hd hI)
    rw [List.map_cons, dr_ref ad ho]
    refine W.alen (n := Int32.ofInt n) C.1 C.2.1 hcell ((tys_at C.2.2.2.2.2.2.2.2.1.1 (t := 0) (by decide)).1 _ _) ?_ rfl rfl d w
    rw [arrV_size]
    show Int32.ofNat n.toNat = _
    rw [show (Int32.ofNat n.toNat) = Int32.ofInt (n.toNat : Int) from rfl, Int.toNat_of_nonneg hn.1]
theorem cell_ast {Λ : Lay} {D : va_G} {cA : Nat → ClassId} {ad : Int → Nat} {o i z n : Int} {tag : Nat} {H1 : Heap} {v : Value} (h0 : 0 ≤ i) (h1 : i < n) (hn : n < 2 ^ 31) (hv : cv ad (gl tag i z) = v) (e1 : H1[ad o]? = some ((arrV (cA tag) n.toNat (fun j => cv ad (gl tag j (G o j)))).setSlot (Int32.ofInt i).toNatClampNeg v)) : cellAt Λ D cA ad (up G o i z) o (.inr (tag, n)) H1 := by
  show H1[ad o]? = some (arrV (cA tag) n.toNat (fun j => cv ad (gl tag j (up G o i z o j))))
  rw [e1, arrV_store, (cl32 h0 h1 hn).1]
  congr 2
  funext j
  unfold updV
  by_cases e : j = i.toNat
  · rw [if_pos e, up_e G rfl (by omega), ← hv, show (j : Int) = i by omega]
  · rw [if_neg e, up_k G (by omega)]
theorem nar_i8 {x : Int} (h : -128 ≤ x ∧ x < 128) : narrow .byte (.int (Int32.ofInt x)) = .int (Int32.ofInt x) := by
  show Value.int (Int32.ofInt x).toInt8.toInt32 = _
  rw [Int32.toInt8_ofInt, b8 h]
theorem nar_i16 {x : Int} (h : -32768 ≤ x ∧ x < 32768) : narrow .short (.int (Int32.ofInt x)) = .int (Int32.ofInt x) := by
  show Value.int (Int32.ofInt x).toInt16.toInt32 = _
  rw [Int32.toInt16_ofInt, b16 h]
theorem r_iast (q : Nat) {o i n x : Int} (d : decode (mC M) pc = .ok (.iastore, 1)) (ha : pr (mL M) (G 0) o → 0 ≤ i → i < n → (mL M).1 (G 0) o = some (.inr (0, n))) (ho : 0 ≤ i → i < n → 0 ≤ o) (hq : pc + 1 = q) (kk : SS M T q lv st (up G o i x) r) : SS M T pc lv (aI x :: aI i :: aR o :: st) G (ckB i n r) := by
  subst hq
  refine ss_ckB (fun h0 h1 => ?_)
  have hd : okI M lv (aI x :: aI i :: aR o :: st) G → (mL M).1 (G 0) o = some (.inr (0, n)) := fun hI => ha (top_pr (al_h (al_t (al_t hI.2.2.2))) (ho h0 h1)) h0 h1
  refine ss_up _ st (o := o) (k := i) (z := x) (dd := .inr (0, n)) hd (fun hI => ⟨al_t (al_t (al_t hI.2.2.2)), fun j j0 j1 => ?_⟩) (fun hI _ _ _ _ s m args _ _ _ ω _ C _ _ _ _ _ _ ad hE hP hS w => ?_) kk
  · have h100 := hI.1.1 _ _ _ (hd hI)
    rw [up_0 G (by omega)]
    by_cases e : j = i
    · subst e
      rw [up_s]
      exact al_h hI.2.2.2
    · rw [up_k G e]
      exact hI.2.1 o _ (hd hI) j j0 j1
  · have hn := (hI.1.2 _ _ _ _ (hd hI)).2
    have hcell := hP.1 o _ (hd hI)
    rw [List.map_cons, List.map_cons, List.map_cons, dr_ref ad (ho h0 h1)]
    refine W.iast C.1 C.2.1 hcell ((tys_at C.2.2.2.2.2.2.2.2.1.1 (t := 0) (by decide)).1 _ _) (fun q => by cases q) (arr_in h0 h1 hn) rfl rfl d (fun H1 e1 e2 e3 => w H1 _ e2 e3 (cell_ast h0 h1 hn ?_ e1))
    rfl
theorem r_bast (q : Nat) {o i n x : Int} (d : decode (mC M) pc = .ok (.bastore, 1)) (ha : pr (mL M) (G 0) o → 0 ≤ i → i < n → (mL M).1 (G 0) o = some (.inr (1, n))) (ho : 0 ≤ i → i < n → 0 ≤ o) (hq : pc + 1 = q) (kk : SS M T q lv st (up G o i x) r) : SS M T pc lv (aI x :: aI i :: aR o :: st) G (ckB i n (ckB (x + 128) 256 r)) := by
  subst hq
  refine ss_ckB (fun h0 h1 => ?_)
  refine ss_ckB (fun g0 g1 => ?_)
  have hd : okI M lv (aI x :: aI i :: aR o :: st) G → (mL M).1 (G 0) o = some (.inr (1, n)) := fun hI => ha (top_pr (al_h (al_t (al_t hI.2.2.2))) (ho h0 h1)) h0 h1
  refine ss_up _ st (o := o) (k := i) (z := x) (dd := .inr (1, n)) hd (fun hI => ⟨al_t (al_t (al_t hI.2.2.2)), fun j j0 j1 => ?_⟩) (fun hI _ _ _ _ s m args _ _ _ ω _ C _ _ _ _ _ _ ad hE hP hS w => ?_) kk
  · have h100 := hI.1.1 _ _ _ (hd hI)
    rw [up_0 G (by omega)]
    by_cases e : j = i
    · subst e
      rw [up_s]
      exact (show _ ∧ _ from ⟨by omega, by omega⟩)
    · rw [up_k G e]
      exact hI.2.1 o _ (hd hI) j j0 j1
  · have hn := (hI.1.2 _ _ _ _ (hd hI)).2
    have hcell := hP.1 o _ (hd hI)
    rw [List.map_cons, List.map_cons, List.map_cons, dr_ref ad (ho h0 h1)]
    refine W.bast C.1 C.2.1 hcell ((tys_at C.2.2.2.2.2.2.2.2.1.1 (t := 1) (by decide)).1 _ _) (fun q => by cases q) (arr_in h0 h1 hn) rfl rfl d (fun H1 e1 e2 e3 => w H1 _ e2 e3 (cell_ast h0 h1 hn ?_ e1))
    exact (nar_i8 ⟨by omega, by omega⟩).symm
theorem r_zast (q : Nat) {o i n x : Int} (d : decode (mC M) pc = .ok (.bastore, 1)) (ha : pr (mL M) (G 0) o → 0 ≤ i → i < n → (mL M).1 (G 0) o = some (.inr (2, n))) (ho : 0 ≤ i → i < n → 0 ≤ o) (hq : pc + 1 = q) (kk : SS M T q lv st (up G o i x) r) : SS M T pc lv (aI x :: aI i :: aR o :: st) G (ckB i n (ckB x 2 r)) := by
  subst hq
  refine ss_ckB (fun h0 h1 => ?_)
  refine ss_ckB (fun g0 g1 => ?_)
  have hd : okI M lv (aI x :: aI i :: aR o :: st) G → (mL M).1 (G 0) o = some (.inr (2, n)) := fun hI => ha (top_pr (al_h (al_t (al_t hI.2.2.2))) (ho h0 h1)) h0 h1
  refine ss_up _ st (o := o) (k := i) (z := x) (dd := .inr (2, n)) hd (fun hI => ⟨al_t (al_t (al_t hI.2.2.2)), fun j j0 j1 => ?_⟩) (fun hI _ _ _ _ s m args _ _ _ ω _ C _ _ _ _ _ _ ad hE hP hS w => ?_) kk
  · have h100 := hI.1.1 _ _ _ (hd hI)
    rw [up_0 G (by omega)]
    by_cases e : j = i
    · subst e
      rw [up_s]
      exact (show _ ∧ _ from ⟨by omega, by omega⟩)
    · rw [up_k G e]
      exact hI.2.1 o _ (hd hI) j j0 j1
  · have hn := (hI.1.2 _ _ _ _ (hd hI)).2
    have hcell := hP.1 o _ (hd hI)
    rw [List.map_cons, List.map_cons, List.map_cons, dr_ref ad (ho h0 h1)]
    refine W.zast C.1 C.2.1 hcell ((tys_at C.2.2.2.2.2.2.2.2.1.1 (t := 2) (by decide)).1 _ _) (fun q => by cases q) (arr_in h0 h1 hn) rfl rfl d (fun H1 e1 e2 e3 => w H1 _ e2 e3 (cell_ast h0 h1 hn ?_ e1))
    exact (nar_b ⟨by omega, by omega⟩).1.symm
theorem r_sast (q : Nat) {o i n x : Int} (d : decode (mC M) pc = .ok (.sastore, 1)) (ha : pr (mL M) (G 0) o → 0 ≤ i → i < n → (mL M).1 (G 0) o = some (.inr (3, n))) (ho : 0 ≤ i → i < n → 0 ≤ o) (hq : pc + 1 = q) (kk : SS M T q lv st (up G o i x) r) : SS M T pc lv (aI x :: aI i :: aR o :: st) G (ckB i n (ckB (x + 32768) 65536 r)) := by
  subst hq
  refine ss_ckB (fun h0 h1 => ?_)
  refine ss_ckB (fun g0 g1 => ?_)
  have hd : okI M lv (aI x :: aI i :: aR o :: st) G → (mL M).1 (G 0) o = some (.inr (3, n)) := fun hI => ha (top_pr (al_h (al_t (al_t hI.2.2.2))) (ho h0 h1)) h0 h1
  refine ss_up _ st (o := o) (k := i) (z := x) (dd := .inr (3, n)) hd (fun hI => ⟨al_t (al_t (al_t hI.2.2.2)), fun j j0 j1 => ?_⟩) (fun hI _ _ _ _ s m args _ _ _ ω _ C _ _ _ _ _ _ ad hE hP hS w => ?_) kk
  · have h100 := hI.1.1 _ _ _ (hd hI)
    rw [up_0 G (by omega)]
    by_cases e : j = i
    · subst e
      rw [up_s]
      exact (show _ ∧ _ from ⟨by omega, by omega⟩)
    · rw [up_k G e]
      exact hI.2.1 o _ (hd hI) j j0 j1
  · have hn := (hI.1.2 _ _ _ _ (hd hI)).2
    have hcell := hP.1 o _ (hd hI)
    rw [List.map_cons, List.map_cons, List.map_cons, dr_ref ad (ho h0 h1)]
    refine W.sast C.1 C.2.1 hcell ((tys_at C.2.2.2.2.2.2.2.2.1.1 (t := 3) (by decide)).1 _ _) (fun q => by cases q) (arr_in h0 h1 hn) rfl rfl d (fun H1 e1 e2 e3 => w H1 _ e2 e3 (cell_ast h0 h1 hn ?_ e1))
    exact (nar_i16 ⟨by omega, by omega⟩).symm
theorem r_last (q : Nat) {o i n x : Int} (d : decode (mC M) pc = .ok (.lastore, 1)) (ha : pr (mL M) (G 0) o → 0 ≤ i → i < n → (mL M).1 (G 0) o = some (.inr (4, n))) (ho : 0 ≤ i → i < n → 0 ≤ o) (hq : pc + 1 = q) (kk : SS M T q lv st (up G o i x) r) : SS M T pc lv (aL x :: aI i :: aR o :: st) G (ckB i n r) := by
  subst hq
  refine ss_ckB (fun h0 h1 => ?_)
  have hd : okI M lv (aL x :: aI i :: aR o :: st) G → (mL M).1 (G 0) o = some (.inr (4, n)) := fun hI => ha (top_pr (al_h (al_t (al_t hI.2.2.2))) (ho h0 h1)) h0 h1
  refine ss_up _ st (o := o) (k := i) (z := x) (dd := .inr (4, n)) hd (fun hI => ⟨al_t (al_t (al_t hI.2.2.2)), fun j j0 j1 => ?_⟩) (fun hI _ _ _ _ s m args _ _ _ ω _ C _ _ _ _ _ _ ad hE hP hS w => ?_) kk
  · have h100 := hI.1.1 _ _ _ (hd hI)
    rw [up_0 G (by omega)]
    by_cases e : j = i
    · subst e
      rw [up_s]
      exact al_h hI.2.2.2
    · rw [up_k G e]
      exact hI.2.1 o _ (hd hI) j j0 j1
  · have hn := (hI.1.2 _ _ _ _ (hd hI)).2
    have hcell := hP.1 o _ (hd hI)
    rw [List.map_cons, List.map_cons, List.map_cons, dr_ref ad (ho h0 h1)]
    refine W.last C.1 C.2.1 hcell ((tys_at C.2.2.2.2.2.2.2.2.1.1 (t := 4) (by decide)).1 _ _) (fun q => by cases q) (arr_in h0 h1 hn) rfl rfl d (fun H1 e1 e2 e3 => w H1 _ e2 e3 (cell_ast h0 h1 hn ?_ e1))
    rfl
end MEM2
