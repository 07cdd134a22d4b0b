/-! ROWS: calls -/
def LKm (own : String) (idx : Nat) (y : MethodName) : Prop := (Cond.methodLink own idx y ∈ lw_all) ∨ ∃ host, Cond.methodLinkNest own idx y host ∈ lw_tbl
def CMb (Mc : Mt) (n : Nat) : Prop := Cond.initialized (mY Mc).cls ∈ lw_all ∧ Cond.code (mY Mc) (mC Mc) (mN Mc) (mR Mc) ∈ lw_all ∧ ((mY Mc).cls ≠ "java/lang/invoke/MethodHandle" ∧ (mY Mc).cls ≠ "java/lang/invoke/VarHandle" ∧ (parseMethodDescriptor (mY Mc).desc).map (fun d => d.parameters.length) = some n)
def CMv (Mc : Mt) (n : Nat) : Prop := CMb Mc n ∧ Cond.instanceMethod (mY Mc) ∈ lw_all ∧ Cond.selects (mY Mc).cls (mY Mc) (mY Mc) ∈ lw_all
def CMs (Mc : Mt) (n : Nat) : Prop := CMb Mc n ∧ Cond.static (mY Mc) ∈ lw_all
def CMi (Mc : Mt) (n : Nat) : Prop := CMb Mc n ∧ Cond.instanceMethod (mY Mc) ∈ lw_all ∧ (mY Mc).name = "<init>" ∧ mR Mc = none
/-- what a call's answer leaves on the stack -/
def rtv (ret : Option FieldType) (z : Int) : List AV := match ret with
  | none => []
  | some .long => [aL z]
  | some (.array _) => [aR z]
  | some (.object _) => [aR z]
  | some _ => [aI z]
theorem rtv_cv (ret : Option FieldType) (z : Int) (ad : Int → Nat) : (rv ad ret z).toList = (rtv ret z).map (cv ad) := by
  cases ret with
  | none => rfl
  | some t => cases t <;> rfl
theorem rtv_ok (ret : Option FieldType) (z : Int) {Λ : Lay} {E : Int → Int} (h : okR Λ E ret z) : ∀ v ∈ rtv ret z, okV Λ E v := by
  intro v hv
  cases ret with
  | none => cases hv
  | some t => cases t <;> (rw [List.mem_singleton.mp hv]; first | exact h | exact ⟨by have := h.1; omega, by have := h.2; omega⟩)
/-- a contract's start, as a predicate of the state -/
abbrev PcM (Λ : Lay) (ω : Wd) (ad : Int → Nat) (G : St) (sz : Nat) : State → Prop := fun U => U.heap.size = sz ∧ RP Λ ω.1 ω.2.1 ad G U.heap (AR Λ ad (G 0) sz) ∧ WK ω (AR Λ ad (G 0) sz) U U.heap
theorem blind (Λ : Lay) (ω : Wd) (ad : Int → Nat) (G : St) (sz : Nat) (av : List Value) : FrameBlind (va_Pc av (PcM Λ ω ad G sz)) := by
  intro a U g mk q
  obtain ⟨q0, q1, q2, q3⟩ := q
  exact ⟨q0, q1, q2, q3.to (s := U) (U := U.calling g mk a) (State.WarmedH.refl U) (fun _ _ _ => rfl) (fun _ h => h)⟩
theorem RP.self {Λ : Lay} {D : va_G} {cA : Nat → ClassId} {ad : Int → Nat} {G : St} {H : Heap} {A : Nat → Prop} {sz : Nat} (h : RP Λ D cA ad G H A) : RP Λ D cA ad G H (AR Λ ad (G 0) sz) := ⟨h.1, h.2.1, fun o d hd => Or.inl ⟨o, d, hd, rfl⟩⟩
section CALL
variable {ρ : Type} {M : Mt} {T : ρ → Option (Int × St)} {pc : Nat} {lv lv' : List (Nat × AV)} {st st' : List AV} {G : St} {r r' : Option ρ}
/-- a call, by its run -/
theorem ss_call (q : Nat) {Mc : Mt} {as st0 : List AV} {rr : Option (Int × St)} {k : Int → St → Option ρ} (hL : mL Mc = mL M) (hM : MG Mc as G rr) (hin : ∀ v ∈ as, v ∈ st0) (hst : ∀ v ∈ st, v ∈ st0)
    (hrun : okI M lv st0 G → ∀ {p : Program} {l : Launch} {e : Env} {R : Room} {s : State} {m : MethodId} {args : Array Value} {below : List Frame} {meth : Method} {c : Code} {ω : Wd} {A : Nat → Prop}, CX M p R s m args meth c ω A →
      ∀ {H : Heap} {locs : List Loc} {ls : Array Slot} {cells slots mc ms : Nat} (ad : Int → Nat) {Pc : State → Prop} {Qc : Array Value → State → Outcome → State → Prop} {free : Addr → Prop}, (∀ k : Nat, k < 100 → ad k = ω.2.2.1 k) → RP (mL M) ω.1 ω.2.1 ad G H A → va_S A s.heap H locs → ls.size = mN M →
      Met l (mY Mc) (ws_ (mY Mc) (mC Mc) (mN Mc) (mR Mc)) { frames := mF Mc, cells := mc, slots := ms, locals := mW Mc } (va_Pc (as.map (cv ad)) Pc) Qc mc ms free → FrameBlind (va_Pc (as.map (cv ad)) Pc) → (∀ U : State, U.heap = H → s.WarmedH U.vm → Pc U) → cells + mc ≤ R.cells ∧ slots + ms ≤ R.slots →
      va_Run p l e R s m args below meth c H locs cells slots mc ms (F0 m pc ls (st0.map (cv ad))) (st.map (cv ad)) (Qc (as.map (cv ad)).toArray) free)
    (hq : pc + 3 = q) (kk : ∀ z G1, rr = some (z, G1) → SS M T q lv (rtv (mR Mc) z ++ st) G1 (k z G1)) : SS M T pc lv st0 G (bd rr k) := by
  subst hq
  intro hI out ho
  cases hrr : rr with
  | none => rw [hrr] at ho; cases ho
  | some x =>
    obtain ⟨z, G1⟩ := x
    rw [hrr] at ho
    have ho : (k z G1).bind T = some out := ho
    have hoa : ∀ v ∈ as, okV (mL M) (G 0) v := fun v hv => hI.2.2.2 v (hin v hv)
    obtain ⟨⟨hmn, hG1, hR1⟩, hMet⟩ := hM (by rw [hL]; exact hI.1) (by rw [hL]; exact hI.2.1) (by rw [hL]; exact hoa) (z, G1) hrr
    rw [hL] at hmn hG1 hR1 hMet
    have hok1 : ∀ v ∈ rtv (mR Mc) z ++ st, okV (mL M) (G1 0) v := by
      intro v hv
      rcases List.mem_append.mp hv with h | h
      · exact rtv_ok _ _ hR1 v h
      · exact hmn.okV (hI.2.2.2 v (hst v h))
    obtain ⟨h1, h2⟩ := kk z G1 hrr ⟨hI.1, hG1, fun q hq => hmn.okV (hI.2.2.1 q hq), hok1⟩ out ho
    refine ⟨⟨hmn.tr h1.1, h1.2⟩, ?_⟩
    intro p l e R s m args below meth c ω A C ad ad0 E0 H locs ls c0 s0 a1 a2 a3 a4 a5 a6 a7 a8 a9 a10
    have b1 := h1.1.1
    have b2 := h1.1.2.1
    have b3 : G 0 0 ≤ G1 0 0 := hmn.1
    have b4 : G 0 1 ≤ G1 0 1 := hmn.2.1
    have hK := C.2.2.2.2.2.2.2.2.1
    have hA := C.2.2.2.2.2.2.2.1
    have hsub : ∀ q, AR (mL M) ad (G 0) H.size q → A q := by
      intro q hq
      rcases hq with ⟨o, d, hd, rfl⟩ | hq
      · exact a4.2.2 o d hd
      · exact hA q (Nat.le_trans a5.1 hq)
    have hr := hrun hI (e := e) (below := below) C (ls := ls) (cells := (G 0 0 - c0).toNat) (slots := (G 0 1 - s0).toNat) ad a1 a4 a5 a6.1 (hMet l ω ad H.size a1) (blind _ _ _ _ _ _) (fun U hU hW => ⟨by rw [hU], by rw [hU]; exact a4.self, hK.to hW (fun a h1 h2 => by rw [hU]; exact a5.2.1 a h1 h2) hsub⟩) ⟨by show _ + (G1 0 0 - G 0 0).toNat ≤ _; omega, by show _ + (G1 0 1 - G 0 1).toNat ≤ _; omega⟩
    intro T1 hT X
    obtain ⟨v, st₀, t, T', L, g0, X', hLo, e1, e2, ⟨⟨ad', hv, had, hP1⟩, hz, hkp⟩, stp⟩ := hr T1 hT X
    cases hv
    rw [g0] at hz hkp
    have hP2 : RP (mL M) ω.1 ω.2.1 ad' G1 T'.heap A := by
      rw [e1]
      exact ⟨hP1.1, hP1.2.1, fun o d hd => hsub _ (hP1.2.2 o d hd)⟩
    have hS1 : va_S A s.heap T'.heap (locs ++ L) := by
      refine ⟨Nat.le_trans a5.1 (by rw [e1]; exact hz), fun q g1 g2 => ?_, fun q hq => ?_⟩
      · rw [e1, hkp q (Nat.lt_of_lt_of_le g1 a5.1) (fun z => g2 (hsub q z))]
        exact a5.2.1 q g1 g2
      · rcases List.mem_append.mp hq with h | h
        · exact a5.2.2 q h
        · exact hsub _ (hLo q h)
    have hadv : ∀ v : AV, okV (mL M) (G 0) v → cv ad' v = cv ad v := by
      intro v hv
      rcases v with x | x | x
      · rfl
      · rfl
      · rcases hv with hv | hv
        · show dr ad' x = dr ad x
          unfold dr
          rw [if_pos hv, if_pos hv]
        · show dr ad' x = dr ad x
          unfold dr
          rw [had x hv]
    have hls : lv_has ls (mN M) (lvv ad' lv) := by
      have : lvv ad' lv = lvv ad lv := List.map_congr_left (fun q hq => by rw [hadv _ (hI.2.2.1 q hq)])
      rw [this]
      exact a6
    have hstk : (rtv (mR Mc) z ++ st).map (cv ad') = (rv ad' (mR Mc) z).toList ++ st.map (cv ad) := by
      rw [List.map_append, ← rtv_cv]
      congr 1
      exact List.map_congr_left (fun v hv => hadv v (hI.2.2.2 v (hst v hv)))
    have hw := h2 p l e R s m args below meth c ω A C ad' ad0 E0 T'.heap (locs ++ L) ls c0 s0 (fun k hk => by rw [had k (Or.inl ⟨by omega, by omega⟩)]; exact a1 k hk) (fun o ho => (had o (a3 o ho)).trans (a2 o ho)) (fun o ho => hmn.pr (a3 o ho)) hP2 hS1 hls (by omega) (by omega) a9 a10
    rw [hstk, show (G1 0 0 - c0).toNat = (G 0 0 - c0).toNat + (G1 0 0 - G 0 0).toNat by omega, show (G1 0 1 - s0).toNat = (G 0 1 - s0).toNat + (G1 0 1 - G 0 1).toNat by omega] at hw
    obtain ⟨t2, a11, b11⟩ := hw T' rfl X'
    exact ⟨t2, stp t2 a11, b11⟩
theorem cat_sum (ad : Int → Nat) (st : List AV) : ((st.map (cv ad)).map fun v => v.category).sum = nsl st := by
  induction st with
  | nil => rfl
  | cons v vs ih =>
    rw [List.map_cons, List.map_cons, List.sum_cons, ih]
    rcases v with x | x | x
    · show 1 + _ = _
      simp [nsl]; omega
    · show 2 + _ = _
      simp [nsl]; omega
    · show (dr ad x).category + _ = _
      rw [dr_cat]
      simp [nsl]; omega
/-- invokevirtual -/
theorem r_callv (q : Nat) {Mc : Mt} {o : Int} {as : List AV} {st0 : List AV} {rr : Option (Int × St)} {k : Int → St → Option ρ} {idx n ci : Nat} (d : decode (mC M) pc = .ok (.invokevirtual idx, 3)) (hL : mL Mc = mL M) (hM : MG Mc (aR o :: as) G rr) (F : LKm (mY M).cls idx (mY Mc)) (hC : CMv Mc n) (hn : as.length = n) (hst : st0 = as.reverse ++ aR o :: st) (hs8 : Nat.ble (nsl st) 8 = true) (hc : pr (mL M) (G 0) o → (mL M).1 (G 0) o = some (.inl ci)) (ho : 0 ≤ o) (hcl : (vwCl[ci]?).map (fun r => r.1) = some (mY Mc).cls) (hF : mF Mc + 1 ≤ mF M) (hWd : 8 + (mN Mc + 11) + mW Mc ≤ mW M) (hq : pc + 3 = q) (kk : ∀ z G1, SS M T q lv (rtv (mR Mc) z ++ st) G1 (k z G1)) : SS M T pc lv st0 G (bd rr k) := by
  refine ss_call q hL hM (fun v hv => ?_) (fun v hv => ?_) (fun hI p l e R s m args below meth c ω A C H locs ls cells slots mc ms ad Pc Qc free hadE hP hS hls hMet hbl hpre hroom => ?_) hq (fun z G1 _ => kk z G1)
  · subst hst
    rcases List.mem_cons.mp hv with rfl | hv
    · exact List.mem_append_right _ List.mem_cons_self
    · exact List.mem_append_left _ (List.mem_reverse.mpr hv)
  · subst hst
    exact List.mem_append_right _ (List.mem_cons_of_mem _ hv)
  · have hd : (mL M).1 (G 0) o = some (.inl ci) := hc (top_pr (hI.2.2.2 (aR o) (by subst hst; exact List.mem_append_right _ List.mem_cons_self)) ho)
    obtain ⟨hx, hb, hml, hr, hlk, hown, hts, hA, hK, hfr, hlo, -⟩ := C
    obtain ⟨⟨w1, w2, w3⟩, w4, w5⟩ := hC
    obtain ⟨r0, e0, cell, q1, q2, q3, q4⟩ := hP.1 o _ hd
    rw [e0] at hcl
    have hcl : r0.1 = (mY Mc).cls := Option.some.inj hcl
    have hcls := (hK.1.1 ci _ e0).2.1
    have hpv : PreV s H (mY Mc).cls (ad o) (va_Pc ((aR o :: as).map (cv ad)) Pc) (as.map (cv ad)) := by
      refine ⟨hbl, ⟨cell, q1, by rw [q3]; rfl, by rw [q2, ← hcl]; exact hcls⟩, fun U hU hW => ⟨?_, hpre U hU hW⟩⟩
      rw [List.map_cons, dr_ref ad ho]
    have hstk : st0.map (cv ad) = (as.map (cv ad)).reverse ++ .ref (ad o) :: st.map (cv ad) := by
      rw [hst, List.map_append, List.map_reverse, List.map_cons, dr_ref ad ho]
    have hroom8 : 2 * (F0 m pc ls (st0.map (cv ad))).monitorRoom + ((st.map (cv ad)).map fun v => v.category).sum ≤ 8 := lv_room (by rw [cat_sum]; exact Nat.le_of_ble_eq_true hs8)
    rw [List.map_cons, dr_ref ad ho] at hMet hpv ⊢
    rcases F with F | ⟨host, F⟩
    · exact va_runV ⟨hx, hb, hml, hown, hts⟩ hMet (cwV n hts (lw_V F w4 w5 w1 w2) rfl rfl rfl ⟨rfl, w3⟩ ⟨by show mF Mc + 1 ≤ _; omega, by show 8 + (mN Mc + 11) + mW Mc ≤ _; omega⟩) hpv rfl (by rw [List.length_map]; exact hn) hls hstk hroom8 d hroom
    · exact va_runVN ⟨hx, hb, hml, hown, hts⟩ hMet ⟨va_cnB n hts (lw_meth w2) rfl rfl rfl (hK.2.1.1 _ F rfl) (hts _ w1) w3 ⟨by show mF Mc + 1 ≤ _; omega, by show 8 + (mN Mc + 11) + mW Mc ≤ _; omega⟩, hts _ w4, hts _ w5⟩ hpv rfl (by rw [List.length_map]; exact hn) hls hstk hroom8 d hroom
/-- invokestatic -/
theorem r_calls (q : Nat) {Mc : Mt} {as : List AV} {st0 : List AV} {rr : Option (Int × St)} {k : Int → St → Option ρ} {idx n : Nat} (d : decode (mC M) pc = .ok (.invokestatic idx, 3)) (hL : mL Mc = mL M) (hM : MG Mc as G rr) (F : Cond.methodLink (mY M).cls idx (mY Mc) ∈ lw_all) (hC : CMs Mc n) (hn : as.length = n) (hst : st0 = as.reverse ++ st) (hs8 : Nat.ble (nsl st) 8 = true) (hF : mF Mc + 1 ≤ mF M) (hWd : 8 + (mN Mc + 11) + mW Mc ≤ mW M) (hq : pc + 3 = q) (kk : ∀ z G1, SS M T q lv (rtv (mR Mc) z ++ st) G1 (k z G1)) : SS M T pc lv st0 G (bd rr k) := by
  refine ss_call q hL hM (fun v hv => ?_) (fun v hv => ?_) (fun hI p l e R s m args below meth c ω A C H locs ls cells slots mc ms ad Pc Qc free hadE hP hS hls hMet hbl hpre hroom => ?_) hq (fun z G1 _ => kk z G1)
  · subst hst
    exact List.mem_append_left _ (List.mem_reverse.mpr hv)
  · subst hst
    exact List.mem_append_right _ hv
  · obtain ⟨hx, hb, hml, hr, hlk, hown, hts, hA, hK, hfr, hlo, -⟩ := C
    obtain ⟨⟨w1, w2, w3⟩, w4⟩ := hC
    have hstk : st0.map (cv ad) = (as.map (cv ad)).reverse ++ st.map (cv ad) := by
      rw [hst, List.map_append, List.map_reverse]
    have hroom8 : 2 * (F0 m pc ls (st0.map (cv ad))).monitorRoom + ((st.map (cv ad)).map fun v => v.category).sum ≤ 8 := lv_room (by rw [cat_sum]; exact Nat.le_of_ble_eq_true hs8)
    exact va_runS ⟨hx, hb, hml, hown, hts⟩ hMet (va_cwS n hts (lw_S F w4 w1 w2) rfl rfl rfl w3 ⟨by show mF Mc + 1 ≤ _; omega, by show 8 + (mN Mc + 11) + mW Mc ≤ _; omega⟩) ⟨hbl, fun U hU hW => ⟨rfl, hpre U hU hW⟩⟩ rfl (by rw [List.length_map]; exact hn) hls hstk hroom8 d hroom
/-- invokespecial of a constructor -/
theorem r_calln (q : Nat) {Mc : Mt} {o : Int} {as : List AV} {st0 : List AV} {rr : Option (Int × St)} {k : Int → St → Option ρ} {idx n : Nat} (d : decode (mC M) pc = .ok (.invokespecial idx, 3)) (hL : mL Mc = mL M) (hM : MG Mc (aR o :: as) G rr) (F : LKm (mY M).cls idx (mY Mc)) (hC : CMi Mc n) (hn : as.length = n) (hst : st0 = as.reverse ++ aR o :: st) (hs8 : Nat.ble (nsl st) 8 = true) (ho : 0 ≤ o) (hF : mF Mc + 1 ≤ mF M) (hWd : 8 + (mN Mc + 11) + mW Mc ≤ mW M) (hq : pc + 3 = q) (kk : ∀ z G1, SS M T q lv st G1 (k z G1)) : SS M T pc lv st0 G (bd rr k) := by
  obtain ⟨⟨w1, w2, w3⟩, w4, w5, w6⟩ := hC
  refine ss_call q hL hM (fun v hv => ?_) (fun v hv => ?_) (fun hI p l e R s m args below meth c ω A C H locs ls cells slots mc ms ad Pc Qc free hadE hP hS hls hMet hbl hpre hroom => ?_) hq (fun z G1 _ => by rw [w6]; exact kk z G1)
  · subst hst
    rcases List.mem_cons.mp hv with rfl | hv
    · exact List.mem_append_right _ List.mem_cons_self
    · exact List.mem_append_left _ (List.mem_reverse.mpr hv)
  · subst hst
    exact List.mem_append_right _ (List.mem_cons_of_mem _ hv)
  · obtain ⟨hx, hb, hml, hr, hlk, hown, hts, hA, hK, hfr, hlo, -⟩ := C
    have hstk : st0.map (cv ad) = (as.map (cv ad)).reverse ++ .ref (ad o) :: st.map (cv ad) := by
      rw [hst, List.map_append, List.map_reverse, List.map_cons, dr_ref ad ho]
    have hroom8 : 2 * (F0 m pc ls (st0.map (cv ad))).monitorRoom + ((st.map (cv ad)).map fun v => v.category).sum ≤ 8 := lv_room (by rw [cat_sum]; exact Nat.le_of_ble_eq_true hs8)
    rw [w6] at hMet w2
    rw [List.map_cons, dr_ref ad ho] at hMet hbl ⊢
    have hps : PreS s H (va_Pc (.ref (ad o) :: as.map (cv ad)) Pc) (.ref (ad o) :: as.map (cv ad)) := ⟨hbl, fun U hU hW => ⟨rfl, hpre U hU hW⟩⟩
    rcases F with F | ⟨host, F⟩
    · exact va_runI ⟨hx, hb, hml, hown, hts⟩ hMet (cwI n hts (lw_meth w2) rfl rfl rfl (hts _ w1) (hts _ F) (hts _ w4) w5 w3 ⟨by show mF Mc + 1 ≤ _; omega, by show 8 + (mN Mc + 11) + mW Mc ≤ _; omega⟩) hps rfl (by rw [List.length_map]; exact hn) hls hstk hroom8 d hroom
    · exact va_runIN ⟨hx, hb, hml, hown, hts⟩ hMet ⟨va_cnB n hts (lw_meth w2) rfl rfl rfl (hK.2.1.1 _ F rfl) (hts _ w1) w3 ⟨by show mF Mc + 1 ≤ _; omega, by show 8 + (mN Mc + 11) + mW Mc ≤ _; omega⟩, w5, hts _ w4⟩ hps rfl (by rw [List.length_map]; exact hn) hls hstk hroom8 d hroom
end CALL
