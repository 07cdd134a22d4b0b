/-! ROWS: switches by keys, long constants of text, arrays that are made, texts -/
set_option maxRecDepth 100000
section SP2
variable {ρ : Type} {M : Mt} {T : ρ → Option (Int × St)} {pc : Nat} {lv lv' : List (Nat × AV)} {st st' : List AV} {G : St} {r r' : Option ρ}
def SLk {ρ : Type} (M : Mt) (T : ρ → Option (Int × St)) (lv : List (Nat × AV)) (st : List AV) (G : St) : List (Int × Nat × Option ρ) → Prop
  | [] => True
  | (_, t, r) :: l => SS M T t lv st G r ∧ SLk M T lv st G l
theorem sw_off {x : Int} {pc : Nat} {dflt : Int} {tD : Nat} (hD : (pc : Int) + dflt = (tD : Int)) {kd : SS M T tD lv st G r} : ∀ {l : List (Int × Nat × Option ρ)} {ps : List (Int × Int)}, ps.map (fun q => (q.1, (pc : Int) + q.2)) = l.map (fun q => (q.1, (q.2.1 : Int))) → SLk M T lv st G l → ∃ t : Nat, (pc : Int) + Op.lookupswitch.offset ps dflt x = (t : Int) ∧ SS M T t lv st G (sw x (l.map fun q => (q.1, q.2.2)) r) := by
  intro l
  induction l with
  | nil =>
    intro ps hp _
    cases ps with
    | nil => exact ⟨tD, hD, kd⟩
    | cons a t => cases hp
  | cons a t ih =>
    intro ps hp hl
    obtain ⟨k, tg, rr⟩ := a
    cases ps with
    | nil => cases hp
    | cons b ps =>
      obtain ⟨k', off⟩ := b
      simp only [List.map_cons, List.cons.injEq, Prod.mk.injEq] at hp
      obtain ⟨⟨rfl, h2⟩, h3⟩ := hp
      by_cases e : x = k'
      · refine ⟨tg, ?_, ?_⟩
        · show (pc : Int) + (if k' = x then off else Op.lookupswitch.offset ps dflt x) = _
          rw [if_pos e.symm, h2]
        · show SS M T tg lv st G (if x = k' then rr else _)
          rw [if_pos e]
          exact hl.1
      · obtain ⟨t2, q1, q2⟩ := ih h3 hl.2
        refine ⟨t2, ?_, ?_⟩
        · show (pc : Int) + (if k' = x then off else Op.lookupswitch.offset ps dflt x) = _
          rw [if_neg (Ne.symm e), q1]
        · show SS M T t2 lv st G (if x = k' then rr else _)
          rw [if_neg e]
          exact q2
theorem r_lsw {dflt : Int} {ps : Array (Int × Int)} {len : Nat} {x : Int} (tD : Nat) (l : List (Int × Nat × Option ρ)) (d : decode (mC M) pc = .ok (.lookupswitch dflt ps, len)) (hD : (pc : Int) + dflt = (tD : Int)) (hp : ps.toList.map (fun q => (q.1, (pc : Int) + q.2)) = l.map (fun q => (q.1, (q.2.1 : Int)))) (hs : (ps.toList.zip (ps.toList.drop 1)).all (fun (a, next) => a.1 < next.1) = true) (hl : SLk M T lv st G l) (kd : SS M T tD lv st G r) : SS M T pc lv (aI x :: st) G (sw x (l.map fun q => (q.1, q.2.2)) r) := by
  obtain ⟨t, h1, h2⟩ := sw_off (x := x) hD (kd := kd) hp hl
  intro hI out hout
  have hx : i32 x := al_h hI.2.2.2
  obtain ⟨g1, g2⟩ := h2 ⟨hI.1, hI.2.1, hI.2.2.1, al_t hI.2.2.2⟩ out hout
  refine ⟨g1, ?_⟩
  intro p le e R s m args below meth c ω A C ad ad0 E0 H locs ls c0 s0 a1 a2 a3 a4 a5 a6 a7 a8 a9 a10
  exact lv_lookup (x := Int32.ofInt x) (tgt := t) C.1 C.2.1 d hs (by rw [t32i hx]) h1 (g2 p le e R s m args below meth c ω A C ad ad0 E0 H locs ls c0 s0 a1 a2 a3 a4 a5 a6 a7 a8 a9 a10)
theorem ldcwS {p : Program} {l : Launch} {e : Env} {R : Room} {s : State} {m : MethodId} {args : Array Value} {below : List Frame} {meth : Method} {c : Code} {T : State} {locs : List Loc} {cells slots : Nat}
    (X : Stand p l e R s m args below meth c T locs cells slots) (hexec : p.tables.exec = Jvm.exec) {own text : String} {index : Nat} {a : Addr} (hown : s.vm.findClass own = some m.cls)
    (hconst : (Cond.stringRef own index text).before #[] s = true) (hev : (Term.string own index).eval #[] s none [] s = some (.ref a)) {g : JFrame} (hg : g.method = m) (hdg : decode c.code g.pc = .ok (.ldc_w index, 3)) :
    ∀ target, Steps p.tables e below (T.setTop { g with pc := g.pc + 3, stack := .ref a :: g.stack }) target → Steps p.tables e below (T.setTop g) target := by
  obtain ⟨k, cf, i, a', hk, hcf, hcp, -, hr, hev'⟩ := Cond.stringRef_spec hown hconst
  cases hev.symm.trans hev'
  obtain ⟨k', hk', he⟩ := X.warmed.alike.2.2 _ _ hk
  have hr' : k'.resolved[index]? = some (some (.string a)) := by
    rcases X.warmed.entry hk hk' index with h | ⟨h, -⟩
    · rw [h]; exact hr
    · rw [hr] at h; cases h
  intro target hrest
  subst hg
  jvm_step X.here [hexec, hdg, Op.ldc_w.wp_string (e := e) (s := T) (f := g) X.here.top hk' (by rw [he]; exact hcf) hcp hr']
  exact hrest
theorem r_ldcsw (q i : Nat) {idx : Nat} {tx : String} (d : decode (mC M) pc = .ok (.ldc_w idx, 3)) (F : Cond.stringRef (mY M).cls idx tx ∈ lw_tbl) (hi : Nat.ble (i + 1) 13 = true) (htx : swd.getD i "" = tx) (hq : pc + 3 = q) (kk : SS M T q lv (aR (70 + i : Int) :: st) G r) : SS M T pc lv st G r := by
  subst hq
  have hi : i < 13 := Nat.le_of_ble_eq_true hi
  refine ss_st _ (aR (70 + i : Int) :: st) (fun hI => al_c (Or.inr (Or.inl ⟨by omega, by omega⟩)) hI.2.2.2) (fun hI p l e R s m args below meth c ω A C H locs ls cells slots Q ad hE hP hS hl hr w => ?_) kk
  rw [List.map_cons, dr_ref ad (by omega), show (70 + (i : Int)) = ((70 + i : Nat) : Int) by omega, hE (70 + i) (by omega)] at w
  have hZ := C.2.2.2.2.2.2.2.2.1.2.2.2.2.1 _ _ _ F i hi htx
  intro T1 hT X
  obtain ⟨t, a1, b1⟩ := w T1 hT X
  exact ⟨t, ldcwS X C.1 C.2.2.2.2.2.1 hZ.1 hZ.2 (g := F0 m pc ls (st.map (cv ad))) rfl (by rw [C.2.1]; exact d) t a1, b1⟩
end SP2
theorem mn_okK {Λ : Lay} {G G1 : St} (h : mn Λ G G1) {kd : Nat} {t z : Int} (q : okK Λ (G 0) kd t z) : okK Λ (G1 0) kd t z := by
  rcases kd with _ | _ | _ | _ | _ | _ | _ | kd
  · exact q
  · exact q
  · exact ⟨q.1, h.pr q.2⟩
  · rcases q with q | q
    · exact Or.inl q
    · exact Or.inr (h.pr q)
  · exact q
  · exact q
  · exact q
  · exact q
theorem mn_okE {Λ : Lay} {G G1 : St} (h : mn Λ G G1) {tag : Nat} {j z : Int} (q : okE Λ (G 0) tag j z) : okE Λ (G1 0) tag j z := by
  have h3 : (z < 0 ∨ pr Λ (G 0) z) → (z < 0 ∨ pr Λ (G1 0) z) := by
    intro q
    rcases q with q | q
    · exact Or.inl q
    · exact Or.inr (h.pr q)
  rcases tag with _ | _ | _ | _ | _ | _ | _ | _ | _ | tag
  · exact q
  · exact q
  · exact q
  · exact q
  · exact q
  · exact h3 q
  · exact h3 q
  · exact h3 q
  · exact h.pr q
  · exact q
/-! arrays that are made when they are wanted -/
def nwA (G : St) (o n z : Int) : St := fun o' k => if o' = o then z else if o' = 0 then (if k = 0 then G 0 0 + 1 else if k = 1 then G 0 1 + n else if k = o then 1 else G 0 k) else G o' k
def ckW {ρ : Type} (P W : Int) (G : St) (o n : Int) (r : Option ρ) : Option ρ := if G 0 o = 0 ∧ alwC o = false ∧ n = ialC P W o ∧ 0 ≤ n ∧ n ≤ 100000 then r else none
theorem ckW_p {ρ : Type} {P W : Int} {G : St} {o n : Int} {r : Option ρ} (h1 : G 0 o = 0) (h2 : alwC o = false) (h3 : n = ialC P W o) (h4 : 0 ≤ n) (h5 : n ≤ 100000) : ckW P W G o n r = r := if_pos ⟨h1, h2, h3, h4, h5⟩
theorem ΛC_E {P W : Int} {E E' : Int → Int} {o : Int} (h : E' o = E o) : (ΛC P W).1 E' o = (ΛC P W).1 E o := by
  show (if alwC o = true then _ else if E' o = 1 then _ else _) = (if alwC o = true then _ else if E o = 1 then _ else _)
  rw [h]
section NEW
variable {ρ : Type} {M : Mt} {T : ρ → Option (Int × St)} {pc : Nat} {lv lv' : List (Nat × AV)} {st st' : List AV} {G : St} {r r' : Option ρ}
theorem r_newai (q : Nat) (P W : Int) {o n : Int} (hΛ : mL M = ΛC P W) (d : decode (mC M) pc = .ok (.newarray .int, 2)) (hq : pc + 2 = q) (kk : SS M T q lv (aR o :: st) (nwA G o n 0) r) : SS M T pc lv (aI n :: st) G (ckW P W G o n r) := by
  subst hq
  unfold ckW
  split
  rotate_left
  · exact SS.none'
  rename_i hc
  obtain ⟨g0, galw, gn, gn0, gn1⟩ := hc
  intro hI out ho
  have hL := hI.1
  rw [hΛ] at hL
  have hd : dscC P W o = some (.inr (0, n)) := by rw [gn]; exact ialC_d (by rw [← gn]; exact gn0)
  have ho100 : 100 ≤ o := by
    by_cases h : o < 100
    · rw [dscC_lt h] at hd; cases hd
    · omega
  have hE0 : (nwA G o n 0) 0 = fun k => if k = 0 then G 0 0 + 1 else if k = 1 then G 0 1 + n else if k = o then 1 else G 0 k := by
    funext k
    show (if (0 : Int) = o then (0 : Int) else if (0 : Int) = 0 then _ else _) = _
    rw [if_neg (by omega), if_pos rfl]
  have hEo : (nwA G o n 0) 0 o = 1 := by
    rw [hE0]
    show (if o = 0 then _ else if o = 1 then _ else if o = o then (1 : Int) else G 0 o) = 1
    rw [if_neg (by omega), if_neg (by omega), if_pos rfl]
  have hEx : ∀ x, 100 ≤ x → x ≠ o → (nwA G o n 0) 0 x = G 0 x := by
    intro x h1 h2
    rw [hE0]
    show (if x = 0 then _ else if x = 1 then _ else if x = o then (1 : Int) else G 0 x) = _
    rw [if_neg (by omega), if_neg (by omega), if_neg h2]
  have hE00 : (nwA G o n 0) 0 0 = G 0 0 + 1 := by rw [hE0]; rfl
  have hE01 : (nwA G o n 0) 0 1 = G 0 1 + n := by rw [hE0]; rfl
  have hrow : ∀ x, x ≠ o → x ≠ 0 → (nwA G o n 0) x = G x := by
    intro x h1 h2
    funext k
    show (if x = o then (0 : Int) else if x = 0 then _ else G x k) = _
    rw [if_neg h1, if_neg h2]
  have hro : ∀ k, (nwA G o n 0) o k = 0 := by
    intro k
    show (if o = o then (0 : Int) else _) = 0
    rw [if_pos rfl]
  have hmk : (ΛC P W).1 ((nwA G o n 0) 0) o = some (.inr (0, n)) := by
    show (if alwC o = true then dscC P W o else if (nwA G o n 0) 0 o = 1 then dscC P W o else none) = _
    rw [galw, if_neg (by decide), if_pos hEo, hd]
  have hno : (ΛC P W).1 (G 0) o = none := by
    show (if alwC o = true then dscC P W o else if G 0 o = 1 then dscC P W o else none) = none
    rw [galw, if_neg (by decide), if_neg (by omega)]
  have hoth : ∀ x, x ≠ o → (ΛC P W).1 ((nwA G o n 0) 0) x = (ΛC P W).1 (G 0) x := by
    intro x hx
    by_cases h : x < 100
    · have a1 : ∀ E, (ΛC P W).1 E x = none := by
        intro E
        cases hq : (ΛC P W).1 E x with
        | none => rfl
        | some d => have := hL.1 _ _ _ hq; omega
      rw [a1, a1]
    · exact ΛC_E (hEx x (by omega) hx)
  have hmn : mn (mL M) G (nwA G o n 0) := by
    rw [hΛ]
    refine ⟨by rw [hE00]; omega, by rw [hE01]; omega, fun x d hx => ?_⟩
    by_cases e : x = o
    · rw [e, hno] at hx; cases hx
    · rw [hoth x e]; exact hx
  have hpr : ∀ x, pr (mL M) (G 0) x → x ≠ o := by
    intro x hx e
    rw [hΛ] at hx
    rcases hx with hx | ⟨d, hx⟩
    · omega
    · rw [e, hno] at hx; cases hx
  have hokG : okG (mL M) (nwA G o n 0) := by
    intro x d hx
    have hx2 := hx
    rw [hΛ] at hx2
    by_cases e : x = o
    · rw [e, hmk] at hx2
      cases hx2
      rw [e]
      intro i _ _
      rw [hro]
      exact ⟨by decide, by decide⟩
    · rw [hoth x e] at hx2
      have h3 := hI.2.1 x d (by rw [hΛ]; exact hx2)
      have h100 := hL.1 _ _ _ hx2
      cases d with
      | inl ci =>
        intro k
        rw [hrow x e (by omega)]
        exact mn_okK hmn (h3 k)
      | inr y =>
        intro i i0 i1
        rw [hrow x e (by omega)]
        exact mn_okE hmn (h3 i i0 i1)
  have hoko : okV (mL M) ((nwA G o n 0) 0) (aR o) := Or.inr (Or.inr ⟨_, by rw [hΛ]; exact hmk⟩)
  obtain ⟨h1, h2⟩ := kk ⟨hI.1, hokG, fun q hq => hmn.okV (hI.2.2.1 q hq), al_c hoko (fun v hv => hmn.okV (al_t hI.2.2.2 v hv))⟩ out ho
  refine ⟨⟨hmn.tr h1.1, h1.2⟩, ?_⟩
  intro p l e R s m args below meth c ω A C ad ad0 E0 H locs ls c0 s0 a1 a2 a3 a4 a5 a6 a7 a8 a9 a10
  have b1 := h1.1.1
  have b2 := h1.1.2.1
  rw [hE00] at b1
  rw [hE01] at b2
  have hnn : i32 n := ⟨by omega, by omega⟩
  obtain ⟨c1, c2⟩ := cl32b gn0 (show n < 2147483648 by omega)
  have hts := C.2.2.2.2.2.2.1
  have hK := C.2.2.2.2.2.2.2.2.1.1
  have hA := C.2.2.2.2.2.2.2.1
  refine va_newaK (atype := .int) (N := n.toNat) C.1 C.2.1 (hts _ q281) (g := F0 m pc ls ((aI n :: st).map (cv ad))) rfl d rfl c2 c1 (by show n.toNat * 4 ≤ _; omega) (by omega) (by omega) rfl (fun H' cA e1 e2 e3 e4 e5 => ?_)
  have hcA : cA = ω.2.1 0 := by
    have := (tys_at hK (t := 0) (by decide)).2
    have h5 : s.vm.findClass ("[" ++ (newarray.typeOf .int).toString) = some cA := e5
    exact Option.some.inj (h5.symm.trans this)
  have hadv : ∀ v : AV, okV (mL M) (G 0) v → cv (fun x => if x = o then H.size else ad x) v = cv ad v := by
    intro v hv
    rcases v with x | x | x
    · rfl
    · rfl
    · rcases hv with hv | hv
      · show dr (fun x => if x = o then H.size else ad x) x = dr ad x
        unfold dr
        rw [if_pos hv, if_pos hv]
      · show dr (fun x => if x = o then H.size else ad x) x = dr ad x
        unfold dr
        simp only []
        rw [if_neg (hpr x hv)]
  have hls : lv_has ls (mN M) (lvv (fun x => if x = o then H.size else ad x) lv) := by
    have : lvv (fun x => if x = o then H.size else ad x) lv = lvv ad lv := List.map_congr_left (fun q hq => by rw [hadv _ (hI.2.2.1 q hq)])
    rw [this]
    exact a6
  have hRP : RP (mL M) ω.1 ω.2.1 (fun x => if x = o then H.size else ad x) (nwA G o n 0) H' A := by
    rw [hΛ] at a4 ⊢
    refine ⟨fun x d hx => ?_, fun x x' d d' hx hx' he => ?_, fun x d hx => ?_⟩
    · by_cases e : x = o
      · rw [e, hmk] at hx
        cases hx
        rw [e]
        show H'[if o = o then H.size else ad o]? = _
        rw [if_pos rfl, e1, hcA]
        congr 2
        funext j
        rw [hro]
        rfl
      · rw [hoth x e] at hx
        have h3 := a4.1 x d hx
        have h100 := hL.1 _ _ _ hx
        have hlt := h3.lt
        have h4 : cellAt (ΛC P W) ω.1 ω.2.1 ad (nwA G o n 0) x d H' := (h3.congr (hrow x e (by omega))).kept (e3 _ hlt)
        have hokd := hI.2.1 x d (by rw [hΛ]; exact hx)
        cases d with
        | inl ci =>
          obtain ⟨r0, q0, q1⟩ := h4
          refine ⟨r0, q0, ?_⟩
          show t_OB (if x = o then H.size else ad x) _ _ _ _ _
          rw [if_neg e]
          refine q1.to (fun k hk => ?_)
          have hv : okV (mL M) (G 0) (gv (ΛC P W) (nwA G o n 0) ci x k) := by
            show okV (mL M) (G 0) (gk _ _ ((nwA G o n 0) x k))
            rw [hrow x e (by omega)]
            have := okV_gk (hokd k)
            rw [hΛ] at this ⊢
            exact this
          exact (hadv _ hv).symm
        | inr y =>
          show H'[if x = o then H.size else ad x]? = _
          rw [if_neg e]
          have h5 : H'[ad x]? = some (arrV (ω.2.1 y.1) y.2.toNat (fun j => cv ad (gl y.1 j ((nwA G o n 0) x j)))) := h4
          rw [h5]
          congr 1
          have hn31 := hL.2 _ _ _ _ hx
          unfold arrV
          congr 1
          apply Array.ext
          · simp
          · intro i hi1 hi2
            simp only [Array.getElem_ofFn]
            simp only [Array.size_ofFn] at hi1
            have hv : okV (mL M) (G 0) (gl y.1 i ((nwA G o n 0) x i)) := by
              rw [hrow x e (by omega)]
              exact okV_gl (hokd i (by omega) (by omega))
            exact (hadv _ hv).symm
    · by_cases e : x = o
      · by_cases e' : x' = o
        · rw [e, e']
        · rw [hoth x' e'] at hx'
          have hlt := (a4.1 x' d' hx').lt
          have he : (if x = o then H.size else ad x) = (if x' = o then H.size else ad x') := he
          rw [if_pos e, if_neg e'] at he
          omega
      · rw [hoth x e] at hx
        have hlt := (a4.1 x d hx).lt
        have he : (if x = o then H.size else ad x) = (if x' = o then H.size else ad x') := he
        by_cases e' : x' = o
        · rw [if_neg e, if_pos e'] at he
          omega
        · rw [hoth x' e'] at hx'
          rw [if_neg e, if_neg e'] at he
          exact a4.2.1 x x' d d' hx hx' he
    · by_cases e : x = o
      · show A (if x = o then H.size else ad x)
        rw [if_pos e]
        exact hA _ a5.1
      · rw [hoth x e] at hx
        show A (if x = o then H.size else ad x)
        rw [if_neg e]
        exact a4.2.2 x d hx
  have hS1 : va_S A s.heap H' locs := ⟨Nat.le_trans a5.1 (by omega), fun x g1 g2 => (e3 x (Nat.lt_of_lt_of_le g1 a5.1)).trans (a5.2.1 x g1 g2), a5.2.2⟩
  have hw := h2 p l e R s m args below meth c ω A C (fun x => if x = o then H.size else ad x) ad0 E0 H' locs ls c0 s0 (fun k hk => by rw [if_neg (by omega)]; exact a1 k hk) (fun x hx => by rw [if_neg (hpr x (a3 x hx))]; exact a2 x hx) (fun x hx => hmn.pr (a3 x hx)) hRP hS1 hls (by rw [hE00]; omega) (by rw [hE01]; omega) a9 a10
  have hst : (aR o :: st).map (cv (fun x => if x = o then H.size else ad x)) = .ref H.size :: st.map (cv ad) := by
    rw [List.map_cons]
    congr 1
    · show dr (fun x => if x = o then H.size else ad x) o = _
      unfold dr
      simp [show ¬ o < 0 by omega]
    · exact List.map_congr_left (fun v hv => hadv v (al_t hI.2.2.2 v hv))
  rw [hst, hE00, hE01, show (G 0 0 + 1 - c0).toNat = (G 0 0 - c0).toNat + 1 by omega, show (G 0 1 + n - s0).toNat = (G 0 1 - s0).toNat + n.toNat by omega] at hw
  exact hw
/-- an array of ints is stored into an array of such -/
theorem r_aast7 (q : Nat) (Pn Wn : Int) {o i n z : Int} (hΛ : mL M = ΛC Pn Wn) (d : decode (mC M) pc = .ok (.aastore, 1)) (ha : pr (mL M) (G 0) o → 0 ≤ i → i < n → (mL M).1 (G 0) o = some (.inr (7, n))) (ho : 0 ≤ i → i < n → 0 ≤ o) (hq : pc + 1 = q) (kk : SS M T q lv st (up G o i z) r) : SS M T pc lv (aR z :: aI i :: aR o :: st) G (ckB i n (ckB 0 (ialC Pn Wn z) r)) := by
  subst hq
  refine ss_ckB (fun h0 h1 => ss_ckB (fun _ g1 => ?_))
  have hz0 := ialC_n Pn Wn g1
  have hd : okI M lv (aR z :: aI i :: aR o :: st) G → (mL M).1 (G 0) o = some (.inr (7, n)) := fun hI => ha (top_pr (al_h (al_t (al_t hI.2.2.2))) (ho h0 h1)) h0 h1
  refine ss_up _ st (o := o) (k := i) (z := z) (dd := .inr (7, n)) hd (fun hI => ⟨al_t (al_t (al_t hI.2.2.2)), fun j j0 j1 => ?_⟩) (fun hI _ _ _ _ s m args _ _ _ ω _ C _ _ _ _ _ _ ad hE hP hS w => ?_) kk
  · have h100 := hI.1.1 _ _ _ (hd hI)
    rw [up_0 G (by omega)]
    by_cases e : j = i
    · subst e
      rw [up_s]
      exact al_h hI.2.2.2
    · rw [up_k G e]
      exact hI.2.1 o _ (hd hI) j j0 j1
  · have hn := (hI.1.2 _ _ _ _ (hd hI)).2
    have hcell := hP.1 o _ (hd hI)
    have hzd : (mL M).1 (G 0) z = some (.inr (0, ialC Pn Wn z)) := by
      have := top_pr (al_h hI.2.2.2) hz0
      rw [hΛ] at this ⊢
      exact ialC_c Pn Wn this g1
    have hzc := hP.1 z _ hzd
    have hK := C.2.2.2.2.2.2.2.2.1
    obtain ⟨comp, c1, kA, k1, k2, k3, k4, k5⟩ := hK.2.1.2.2.2.spec
    have e7 : s.vm.findClass ("[" ++ (FieldType.array .int).toString) = some (ω.2.1 7) := (tys_at hK.1 (t := 7) (by decide)).2
    have e0 : s.vm.findClass ("[" ++ (FieldType.int).toString) = some (ω.2.1 0) := (tys_at hK.1 (t := 0) (by decide)).2
    have hc7 : c1 = ω.2.1 7 := Option.some.inj (k5.symm.trans e7)
    have hc0 : comp = ω.2.1 0 := Option.some.inj (k1.symm.trans e0)
    subst hc7
    subst hc0
    obtain ⟨kE, hkE, -⟩ := Vm.findClass_spec e0
    rw [List.map_cons, List.map_cons, List.map_cons, dr_ref ad (ho h0 h1), dr_ref ad hz0]
    obtain ⟨x1, x2⟩ := cl32 h0 h1 hn
    refine W.aast C.1 C.2.1 hcell (fun q h => by cases h) (fun h => by cases h) k3 k4 rfl hkE ⟨x2, by rw [arrV_size, x1]; omega⟩ hzc (fun q h => by cases h) hkE (va_asg _ _) rfl rfl d (fun H1 e1 e2 e3 => w H1 _ e2 e3 (cell_ast h0 h1 hn ?_ e1))
    exact dr_ref ad hz0
end NEW
