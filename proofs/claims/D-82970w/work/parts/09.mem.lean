/-! ROWS: fields and arrays -/
/-- class facts -/
def CF (ci : Nat) : Prop := ∃ (r : vw_C) (ty : Nat → FieldType), vwCl[ci]? = some r ∧ (∀ w ∈ u_ws r.1 r.2.1 r.2.2, w ∈ lw_all) ∧ (∀ k, k < r.2.2 → parseFieldDescriptor (r.2.1 k).2.2.1 = some (ty k)) ∧ (∀ a, a < r.2.2 → ∀ b, b < r.2.2 → a ≠ b → (r.2.1 a).2.1 ≠ (r.2.1 b).2.1) ∧ (Cond.instantiable r.1 r.2.2 ∈ lw_all) ∧ (Cond.initialized r.1 ∈ lw_all)

theorem cf0 : CF 0 := ⟨_, tyX1, rfl, in_X1, tyX1_ok, nmX1, q238, q212⟩
theorem cf1 : CF 1 := ⟨_, tyX2, rfl, in_X2, tyX2_ok, nmX2, q246, q213⟩
theorem cf2 : CF 2 := ⟨_, tyX3, rfl, in_X3, tyX3_ok, nmX3, q283, q214⟩
theorem cf3 : CF 3 := ⟨_, tyX4, rfl, in_X4, tyX4_ok, nmX4, q305, q215⟩
theorem cf4 : CF 4 := ⟨_, tyX5, rfl, in_X5, tyX5_ok, nmX5, q320, q216⟩
theorem cf5 : CF 5 := ⟨_, tyX6, rfl, in_X6, tyX6_ok, nmX6, q376, q217⟩
theorem cf6 : CF 6 := ⟨_, tyX7, rfl, in_X7, tyX7_ok, nmX7, q382, q218⟩
theorem cf7 : CF 7 := ⟨_, tyX8, rfl, in_X8, tyX8_ok, nmX8, q417, q220⟩
theorem cf8 : CF 8 := ⟨_, tyX9, rfl, in_X9, tyX9_ok, nmX9, q472, q221⟩
theorem cf9 : CF 9 := ⟨_, tyX10, rfl, in_X10, tyX10_ok, nmX10, q478, q222⟩
theorem cf10 : CF 10 := ⟨_, tyX11, rfl, in_X11, tyX11_ok, nmX11, q573, q223⟩
theorem cf11 : CF 11 := ⟨_, tyX12, rfl, in_X12, tyX12_ok, nmX12, q581, q224⟩
theorem cf12 : CF 12 := ⟨_, tyX13, rfl, in_X13, tyX13_ok, nmX13, q734, q225⟩
theorem cf13 : CF 13 := ⟨_, tyX14, rfl, in_X14, tyX14_ok, nmX14, q789, q226⟩
theorem cf14 : CF 14 := ⟨_, tyX15, rfl, in_X15, tyX15_ok, nmX15, q1834, q227⟩
/-- a field's link out of a class: ordinary, or by way of the nest -/
def FK (own : String) (idx ci k : Nat) (fin : Bool) (ty : FieldType) : Prop := CF ci ∧ ∃ r : vw_C, vwCl[ci]? = some r ∧ k < r.2.2 ∧ ((Cond.fieldLink own idx (r.2.1 k).1 (r.2.1 k).2.1 (r.2.1 k).2.2.1 ∈ lw_all) ∨ ∃ host, Cond.fieldLinkNest own idx (r.2.1 k).1 (r.2.1 k).2.1 (r.2.1 k).2.2.1 host ∈ lw_tbl) ∧ (r.2.1 k).2.2.2 = fin ∧ parseFieldDescriptor (r.2.1 k).2.2.1 = some ty
theorem cellAt.congr {Λ : Lay} {D : va_G} {cA : Nat → ClassId} {ad : Int → Nat} {G G1 : St} {o : Int} {d : Dsc} {H : Heap} (h : cellAt Λ D cA ad G o d H) (hq : G1 o = G o) : cellAt Λ D cA ad G1 o d H := by
  cases d with
  | inl ci =>
    obtain ⟨r, h1, h2⟩ := h
    refine ⟨r, h1, h2.to (fun k _ => ?_)⟩
    show cv ad (gk _ _ (G o k)) = cv ad (gk _ _ (G1 o k))
    rw [hq]
  | inr x =>
    show H[ad o]? = some (arrV _ _ (fun j => cv ad (gl x.1 j (G1 o j))))
    rw [hq]
    exact h
theorem okD.congr {Λ : Lay} {G G1 : St} {o : Int} {d : Dsc} (h : okD Λ G o d) (h0 : G1 0 = G 0) (hq : G1 o = G o) : okD Λ G1 o d := by
  cases d with
  | inl ci =>
    intro k
    rw [hq, h0]
    exact h k
  | inr x =>
    intro i h1 h2
    rw [hq, h0]
    exact h i h1 h2
theorem RP.set {Λ : Lay} {D : va_G} {cA : Nat → ClassId} {ad : Int → Nat} {G G1 : St} {H H1 : Heap} {A : Nat → Prop} {o : Int} {d : Dsc} (h : RP Λ D cA ad G H A) (hd : Λ.1 (G 0) o = some d) (h0 : G1 0 = G 0) (hG : ∀ o', o' ≠ o → G1 o' = G o') (hc : cellAt Λ D cA ad G1 o d H1) (hH : ∀ q : Nat, q ≠ ad o → H1[q]? = H[q]?) : RP Λ D cA ad G1 H1 A := by
  refine ⟨fun o' d' h' => ?_, ?_, ?_⟩
  · rw [h0] at h'
    by_cases e : o' = o
    · subst e
      rw [hd] at h'
      cases h'
      exact hc
    · exact ((h.1 o' d' h').congr (hG o' e)).kept (hH _ (fun q => e (h.2.1 o' o d' d h' hd q)))
  · rw [h0]
    exact h.2.1
  · rw [h0]
    exact h.2.2
theorem okG.set {Λ : Lay} {G G1 : St} {o : Int} {d : Dsc} (h : okG Λ G) (hd : Λ.1 (G 0) o = some d) (h0 : G1 0 = G 0) (hG : ∀ o', o' ≠ o → G1 o' = G o') (hc : okD Λ G1 o d) : okG Λ G1 := by
  intro o' d' h'
  rw [h0] at h'
  by_cases e : o' = o
  · subst e
    rw [hd] at h'
    cases h'
    exact hc
  · exact (h o' d' h').congr h0 (hG o' e)
theorem tys_at {D : va_G} {cA : Nat → ClassId} {U : State} (h : va_K D vwCl (tysL cA) U) {t : Nat} (ht : t < 9) : ArrOfT U (cA t) (tgFT t) ∧ va_RA U (cA t) (tgFT t) := h.2 t (cA t, tgFT t) (by simp [tysL, ht])
theorem cl32 {i n : Int} (h0 : 0 ≤ i) (h1 : i < n) (hn : n < 2 ^ 31) : (Int32.ofInt i).toNatClampNeg = i.toNat ∧ ¬ Int32.ofInt i < 0 := by
  have hi : i32 i := ⟨by omega, by omega⟩
  constructor
  · show (Int32.ofInt i).toInt.toNat = i.toNat
    rw [t32i hi]
  · intro q
    have := (lt32 hi (⟨by omega, by omega⟩ : i32 0)).mp q
    omega
theorem dr_ref (ad : Int → Nat) {z : Int} (h : 0 ≤ z) : cv ad (aR z) = .ref (ad z) := if_neg (by omega)
section MEM
variable {ρ : Type} {M : Mt} {T : ρ → Option (Int × St)} {pc : Nat} {lv lv' : List (Nat × AV)} {st st' : List AV} {G : St} {r r' : Option ρ}
/-- a step that changes one object -/
theorem ss_up (q : Nat) (st' : List AV) {o k z : Int} {dd : Dsc} (hdd : okI M lv st G → (mL M).1 (G 0) o = some dd) (hok : okI M lv st G → (∀ v ∈ st', okV (mL M) (G 0) v) ∧ okD (mL M) (up G o k z) o dd)
    (hW : okI M lv st G → ∀ {p : Program} {l : Launch} {e : Env} {R : Room} {s : State} {m : MethodId} {args : Array Value} {below : List Frame} {meth : Method} {c : Code} {ω : Wd} {A : Nat → Prop}, CX M p R s m args meth c ω A →
      ∀ {H : Heap} {locs : List Loc} {ls : Array Slot} {cells slots : Nat} {Q : State → Prop} (ad : Int → Nat), (∀ k : Nat, k < 100 → ad k = ω.2.2.1 k) → RP (mL M) ω.1 ω.2.1 ad G H A → va_S A s.heap H locs → (∀ (H1 : Heap) (kk : Nat), H1.size = H.size → (∀ q : Nat, q ≠ ad o → H1[q]? = H[q]?) → cellAt (mL M) ω.1 ω.2.1 ad (up G o k z) o dd H1 → W p l e R s m args below meth c H1 (locs ++ [⟨ad o, kk⟩]) cells slots Q (F0 m q ls (st'.map (cv ad)))) → W p l e R s m args below meth c H locs cells slots Q (F0 m pc ls (st.map (cv ad))))
    (kk : SS M T q lv st' (up G o k z) r) : SS M T pc lv st G r := by
  intro hI out ho
  have hd := hdd hI
  have h0 : (up G o k z) 0 = G 0 := up_0 G (by have := hI.1.1 _ _ _ hd; omega)
  have hoG : okG (mL M) (up G o k z) := okG.set hI.2.1 hd h0 (fun o' h => up_r G h) (hok hI).2
  obtain ⟨h1, h2⟩ := kk ⟨hI.1, hoG, by rw [h0]; exact hI.2.2.1, by rw [h0]; exact (hok hI).1⟩ out ho
  refine ⟨⟨(mn.eq h0).tr h1.1, h1.2⟩, ?_⟩
  intro p l e R s m args below meth c ω A C ad ad0 E0 H locs ls c0 s0 a1 a2 a3 a4 a5 a6 a7 a8 a9 a10
  refine hW hI C ad a1 a4 a5 (fun H1 kn z1 oq hc => ?_)
  have := h2 p l e R s m args below meth c ω A C ad ad0 E0 H1 (locs ++ [⟨ad o, kn⟩]) ls c0 s0 a1 a2 (by rw [h0]; exact a3) (a4.set hd h0 (fun o' h => up_r G h) hc oq) (a5.put z1 oq (a4.2.2 _ _ hd)) a6 (by rw [h0]; exact a7) (by rw [h0]; exact a8) a9 a10
  rw [h0] at this
  exact this
/-- getfield -/
theorem r_get (q : Nat) (v : AV) {o : Int} {idx ci k : Nat} {fin : Bool} {ty : FieldType} (d : decode (mC M) pc = .ok (.getfield idx, 3)) (F : FK (mY M).cls idx ci k fin ty) (hc : pr (mL M) (G 0) o → (mL M).1 (G 0) o = some (.inl ci)) (ho : 0 ≤ o) (hv : gv (mL M) G ci o k = v) (hq : pc + 3 = q) (kk : SS M T q lv (v :: st) G r) : SS M T pc lv (aR o :: st) G r := by
  subst hq
  obtain ⟨⟨r0, ty0, e0, hin, -⟩, r1, e1, hk, hl, -⟩ := F
  rw [e0] at e1
  cases e1
  have hpr : okI M lv (aR o :: st) G → (mL M).1 (G 0) o = some (.inl ci) := fun hI => hc (by
    rcases al_h hI.2.2.2 with h | h
    · omega
    · exact h)
  refine ss_st _ (v :: st) (fun hI => al_c ?_ (al_t hI.2.2.2)) (fun hI _ _ _ _ s m args _ _ _ _ _ C _ _ _ _ _ _ ad hE hP hS hll _ w => ?_) kk
  · rw [← hv]
    exact okV_gk (hI.2.1 o _ (hpr hI) k)
  · obtain ⟨r2, h1, cell, q1, q2, q3, q4⟩ := hP.1 o _ (hpr hI)
    rw [e0] at h1
    cases h1
    obtain ⟨hS2, hfc, kC, hkC, hkind⟩ := C.2.2.2.2.2.2.2.2.1.1.1 ci _ e0
    obtain ⟨cf, kf, fi, f, hi, hsl⟩ := hS2 k hk
    have hts := C.2.2.2.2.2.2.1
    rw [List.map_cons, dr_ref ad ho]
    rcases hl with hl | ⟨host, hl⟩
    · refine W.getf C.1 C.2.1 C.2.2.2.2.2.1 (hts _ hl) hi (u_facts hfc hkC (u_lays hts hin hk) hi).1 q1 (by rw [q3]; exact fun h => by cases h) (v := cv ad v) ?_ rfl rfl d w
      rw [hsl, q4 k hk]
      show some (cv ad (gv (mL M) G ci o k)) = _
      rw [hv]
    · have hN : (Cond.fieldLinkNest (mY M).cls idx (r0.2.1 k).1 (r0.2.1 k).2.1 (r0.2.1 k).2.2.1 host).before args s = true := va_Nw.use rfl (C.2.2.2.2.2.2.2.2.1.2.1.1 _ hl rfl)
      refine va_Wgetf C.1 C.2.1 C.2.2.2.2.2.1 hN hi (u_facts hfc hkC (u_lays hts hin hk) hi).1 q1 (by rw [q3]; exact fun h => by cases h) (v := cv ad v) ?_ rfl rfl d w
      rw [hsl, q4 k hk]
      show some (cv ad (gv (mL M) G ci o k)) = _
      rw [hv]
/-- an object's cell behind a putfield -/
theorem cell_put {Λ : Lay} {D : va_G} {cA : Nat → ClassId} {ad : Int → Nat} {o z : Int} {ci k : Nat} {H1 : Heap} {cell : Cell} {r0 : vw_C} {v : AV} (e0 : vwCl[ci]? = some r0) (hk : k < r0.2.2) (q2 : cell.cls = D.1 ci) (q3 : cell.vm = .none) (q4 : ∀ j, j < r0.2.2 → cell.slots[D.2 ci j]? = some (cv ad (gv Λ G ci o j))) (hap : ∀ x y, x < r0.2.2 → y < r0.2.2 → x ≠ y → (D.2 ci) x ≠ (D.2 ci) y) (hv : gk (kd Λ ci k) (tg Λ ci k o) z = v) (e1 : H1[ad o]? = some (cell.setSlot (D.2 ci k) (cv ad v))) : cellAt Λ D cA ad (up G o k z) o (.inl ci) H1 := by
  refine ⟨r0, e0, t_OB.to ⟨_, e1, q2, q3, t_set q4 hap hk (cv ad v)⟩ (fun j hj => ?_)⟩
  show updV _ k (cv ad v) j = cv ad (gk _ _ (up G o k z o j))
  unfold updV
  by_cases e : j = k
  · subst e
    rw [if_pos rfl, up_s, ← hv]
  · rw [if_neg e, up_k G (by omega)]
    rfl
/-- putfield, of a field that isn't final -/
theorem ss_put (q : Nat) {v : AV} {o z : Int} {idx ci k : Nat} {ty : FieldType} (d : decode (mC M) pc = .ok (.putfield idx, 3)) (F : FK (mY M).cls idx ci k false ty) (hc : pr (mL M) (G 0) o → (mL M).1 (G 0) o = some (.inl ci)) (ho : 0 ≤ o) (hv : gk (kd (mL M) ci k) (tg (mL M) ci k o) z = v) (hokK : okI M lv (v :: aR o :: st) G → okK (mL M) (G 0) (kd (mL M) ci k) (tg (mL M) ci k o) z) (hst : ∀ ad, narrow ty (cv ad v) = cv ad v ∧ fits ty (cv ad v) = true) (hq : pc + 3 = q) (kk : SS M T q lv st (up G o k z) r) : SS M T pc lv (v :: aR o :: st) G r := by
  subst hq
  obtain ⟨⟨r0, ty0, e0, hin, hty, hnm, -⟩, r1, e1, hk, hl, hfin, hpd⟩ := F
  rw [e0] at e1
  cases e1
  have hpr : okI M lv (v :: aR o :: st) G → (mL M).1 (G 0) o = some (.inl ci) := fun hI => hc (by
    rcases al_h (al_t hI.2.2.2) with h | h
    · omega
    · exact h)
  refine ss_up _ st (o := o) (k := k) (z := z) (dd := .inl ci) hpr (fun hI => ⟨al_t (al_t hI.2.2.2), fun j => ?_⟩) (fun hI _ _ _ _ s m args _ _ _ ω _ C _ _ _ _ _ _ ad hE hP hS w => ?_) kk
  · have h100 := hI.1.1 _ _ _ (hpr hI)
    rw [up_0 G (by omega)]
    by_cases e : (j : Int) = k
    · have e2 : j = k := by omega
      subst e2
      rw [up_s]
      exact hokK hI
    · rw [up_k G e]
      exact hI.2.1 o _ (hpr hI) j
  · obtain ⟨r2, h1, cell, q1, q2, q3, q4⟩ := hP.1 o _ (hpr hI)
    rw [e0] at h1
    cases h1
    have hK := C.2.2.2.2.2.2.2.2.1.1
    obtain ⟨hS2, hfc, kC, hkC, hkind⟩ := hK.1 ci _ e0
    obtain ⟨cf, kf, fi, f, hi, hsl⟩ := hS2 k hk
    have hts := C.2.2.2.2.2.2.1
    have hap := va_apart (own := (mY M).cls) hts hin ty0 hty hnm hK e0
    have hst2 := (u_facts hfc hkC (u_lays hts hin hk) hi).1
    have hlay := hts _ (hin _ (u_in_lay hk))
    unfold u_lay at hlay
    rw [if_neg (by rw [hfin]; decide)] at hlay
    have h6 := u_store hfc hkC hkind hlay hi hpd (hst ad).1 (hst ad).2
    rw [List.map_cons, List.map_cons, dr_ref ad ho]
    rcases hl with hl | ⟨host, hl⟩
    · refine W.putK C.1 C.2.1 (f := f) ⟨C.2.2.2.2.2.1, hts _ hl, ⟨_, _, _, hi⟩, hst2⟩ (by rw [q2]; exact h6) q1 q3 (by rw [hsl]; exact k2_hasslot (q4 k hk)) rfl rfl d fun H' e1 e2 e3 => w H' _ e2 e3 ?_
      rw [hsl] at e1
      exact cell_put e0 hk q2 q3 q4 hap hv e1
    · have hN : (Cond.fieldLinkNest (mY M).cls idx (r0.2.1 k).1 (r0.2.1 k).2.1 (r0.2.1 k).2.2.1 host).before args s = true := va_Nw.use rfl (C.2.2.2.2.2.2.2.2.1.2.1.1 _ hl rfl)
      refine va_WputK C.1 C.2.1 (f := f) C.2.2.2.2.2.1 hN hi hst2 (by rw [q2]; exact h6) q1 q3 (by rw [hsl]; exact k2_hasslot (q4 k hk)) rfl rfl d fun H' e1 e2 e3 => w H' _ e2 e3 ?_
      rw [hsl] at e1
      exact cell_put e0 hk q2 q3 q4 hap hv e1
/-- putfield of a final field, in its constructor -/
theorem ss_putF (q : Nat) {v : AV} {o z : Int} {idx ci k : Nat} {ty : FieldType} (d : decode (mC M) pc = .ok (.putfield idx, 3)) (F : FK (mY M).cls idx ci k true ty) (hown : ∀ r, vwCl[ci]? = some r → (r.2.1 k).1 = (mY M).cls) (hini : (mY M).name = "<init>") (hlk : ∀ r, vwCl[ci]? = some r → Cond.fieldLink (mY M).cls idx (r.2.1 k).1 (r.2.1 k).2.1 (r.2.1 k).2.2.1 ∈ lw_all) (hc : pr (mL M) (G 0) o → (mL M).1 (G 0) o = some (.inl ci)) (ho : 0 ≤ o) (hv : gk (kd (mL M) ci k) (tg (mL M) ci k o) z = v) (hokK : okI M lv (v :: aR o :: st) G → okK (mL M) (G 0) (kd (mL M) ci k) (tg (mL M) ci k o) z) (hst : ∀ ad, narrow ty (cv ad v) = cv ad v ∧ fits ty (cv ad v) = true) (hq : pc + 3 = q) (kk : SS M T q lv st (up G o k z) r) : SS M T pc lv (v :: aR o :: st) G r := by
  subst hq
  obtain ⟨⟨r0, ty0, e0, hin, hty, hnm, -⟩, r1, e1, hk, -, hfin, hpd⟩ := F
  rw [e0] at e1
  cases e1
  have hpr : okI M lv (v :: aR o :: st) G → (mL M).1 (G 0) o = some (.inl ci) := fun hI => hc (by
    rcases al_h (al_t hI.2.2.2) with h | h
    · omega
    · exact h)
  refine ss_up _ st (o := o) (k := k) (z := z) (dd := .inl ci) hpr (fun hI => ⟨al_t (al_t hI.2.2.2), fun j => ?_⟩) (fun hI _ _ _ _ s m args _ _ _ ω _ C _ _ _ _ _ _ ad hE hP hS w => ?_) kk
  · have h100 := hI.1.1 _ _ _ (hpr hI)
    rw [up_0 G (by omega)]
    by_cases e : (j : Int) = k
    · have e2 : j = k := by omega
      subst e2
      rw [up_s]
      exact hokK hI
    · rw [up_k G e]
      exact hI.2.1 o _ (hpr hI) j
  · obtain ⟨r2, h1, cell, q1, q2, q3, q4⟩ := hP.1 o _ (hpr hI)
    rw [e0] at h1
    cases h1
    have hK := C.2.2.2.2.2.2.2.2.1.1
    obtain ⟨hS2, hfc, kC, hkC, hkind⟩ := hK.1 ci _ e0
    obtain ⟨cf, kf, fi, f, hi, hsl⟩ := hS2 k hk
    have hts := C.2.2.2.2.2.2.1
    have hap := va_apart (own := (mY M).cls) hts hin ty0 hty hnm hK e0
    have hst2 := (u_facts hfc hkC (u_lays hts hin hk) hi).1
    have hlay := hts _ (hin _ (u_in_lay hk))
    unfold u_lay at hlay
    rw [if_pos hfin] at hlay
    have hcf : m.cls = cf := by
      obtain ⟨_, _, c', _, _, _, -, -, hf', -, -, -, hown2, -⟩ := Cond.laysFinal_spec hlay
      have e1 : c' = cf := by have := hi.symm.trans hf'; simp at this; exact this.1.symm
      rw [hown _ e0] at hown2
      rw [← e1]
      exact Option.some.inj (C.2.2.2.2.2.1.symm.trans hown2)
    have h6 := u_fits hfc hkC hkind (Or.inr hlay) hi hpd (hst ad).1 (hst ad).2
    rw [List.map_cons, List.map_cons, dr_ref ad ho]
    refine W.putFinK C.1 C.2.1 C.2.2.2.2.2.1 (hts _ (hlk _ e0)) hi hst2 hcf (by rw [C.2.2.2.2.2.2.2.2.2.2.2]; exact hini) (by rw [q2]; exact h6) q1 q3 (by rw [hsl]; exact k2_hasslot (q4 k hk)) rfl rfl d fun H' e1 e2 e3 => w H' _ e2 e3 ?_
    rw [hsl] at e1
    exact cell_put e0 hk q2 q3 q4 hap hv e1
end MEM
