/-! ROWS for the printed walks -/
def tk {ρ : Type} (G : St) (k : St → Option ρ) : Option ρ := k G
def vl {ρ : Type} (x : Int) (k : Int → Option ρ) : Option ρ := k x
def ckQ {ρ : Type} (i n : Int) (k : Int → Option ρ) : Option ρ := if 0 ≤ i ∧ i < n then k i else none
theorem ckQ_p {ρ : Type} {i n : Int} {k : Int → Option ρ} (h1 : 0 ≤ i) (h2 : i < n) : ckQ i n k = k i := if_pos ⟨h1, h2⟩
section WK1
variable {ρ : Type} {M : Mt} {T : ρ → Option (Int × St)} {pc : Nat} {lv lv' : List (Nat × AV)} {st st' : List AV} {G : St} {r r' : Option ρ}
theorem ss_tk {G0 : St} {k : St → Option ρ} (h : ∀ G1, SS M T pc lv st G1 (k G1)) : SS M T pc lv st G0 (tk G0 k) := h G0
theorem ss_vlI {i : Nat} {x : Int} {k : Int → Option ρ} (h : ∀ x, SS M T pc ((i, aI x) :: lv) st G (k x)) : SS M T pc ((i, aI x) :: lv) st G (vl x k) := h x
theorem ss_vlL {i : Nat} {x : Int} {k : Int → Option ρ} (h : ∀ x, SS M T pc ((i, aL x) :: lv) st G (k x)) : SS M T pc ((i, aL x) :: lv) st G (vl x k) := h x
theorem r_aald8q (q : Nat) {o i n : Int} {k : Int → Option ρ} (d : decode (mC M) pc = .ok (.aaload, 1)) (ha : pr (mL M) (G 0) o → 0 ≤ i → i < n → (mL M).1 (G 0) o = some (.inr (8, n))) (ho : 0 ≤ i → i < n → 0 ≤ o) (hq : pc + 1 = q) (kk : ∀ p, 0 ≤ p → SS M T q lv (aR (1000 + 32 * p) :: st) G (k p)) : SS M T pc lv (aI i :: aR o :: st) G (ckQ i n k) := by
  unfold ckQ
  split
  · rename_i h
    have := r_aald8 (r := k i) q d ha ho hq (kk i h.1)
    rw [ckB_p h.1 h.2] at this
    exact this
  · exact SS.none'
theorem r_alens (q : Nat) {o n : Int} (d : decode (mC M) pc = .ok (.arraylength, 1)) (ha : pr (mL M) (G 0) o → 0 ≤ n → (mL M).1 (G 0) o = some (.inr (0, n))) (ho : 0 ≤ n → 0 ≤ o) (hq : pc + 1 = q) (kk : SS M T q lv (aI n :: st) G r) : SS M T pc lv (aR o :: st) G (ckB n 2147483648 r) :=
  ss_ckB (fun h0 _ => r_alen q d (fun h => ha h h0) (ho h0) hq kk)
theorem r_ldc_w (q : Nat) (n : Int) {idx : Nat} {v : Int32} (d : decode (mC M) pc = .ok (.ldc_w idx, 3)) (qw : Cond.constant (mY M).cls idx v ∈ lw_all) (hv : Int32.ofInt n = v) (hn : (decide (-2147483648 ≤ n) && decide (n < 2147483648)) = true) (hq : pc + 3 = q) (k : SS M T q lv (aI n :: st) G r) : SS M T pc lv st G r := r_ldcw q n d qw hv hn hq k
/-- calls by kinds of answer -/
theorem r_callvI (q : Nat) {Mc : Mt} {o : Int} {as : List AV} {st0 : List AV} {rr : Option (Int × St)} {k : Int → St → Option ρ} {idx n ci : Nat} (d : decode (mC M) pc = .ok (.invokevirtual idx, 3)) (hL : mL Mc = mL M) (hM : MG Mc (aR o :: as) G rr) (F : LKm (mY M).cls idx (mY Mc)) (hC : CMv Mc n) (hn : as.length = n) (hst : st0 = as.reverse ++ aR o :: st) (hs8 : Nat.ble (nsl st) 8 = true) (hc : pr (mL M) (G 0) o → (mL M).1 (G 0) o = some (.inl ci)) (ho : 0 ≤ o) (hcl : (vwCl[ci]?).map (fun r => r.1) = some (mY Mc).cls) (hF : mF Mc + 1 ≤ mF M) (hWd : 8 + (mN Mc + 11) + mW Mc ≤ mW M) (hrt : ∀ z, rtv (mR Mc) z = [aI z]) (hq : pc + 3 = q) (kk : ∀ z G1, SS M T q lv (aI z :: st) G1 (k z G1)) : SS M T pc lv st0 G (bd rr k) :=
  r_callv q d hL hM F hC hn hst hs8 hc ho hcl hF hWd hq (fun z G1 => by rw [hrt z]; exact kk z G1)
theorem r_callsI (q : Nat) {Mc : Mt} {as : List AV} {st0 : List AV} {rr : Option (Int × St)} {k : Int → St → Option ρ} {idx n : Nat} (d : decode (mC M) pc = .ok (.invokestatic idx, 3)) (hL : mL Mc = mL M) (hM : MG Mc as G rr) (F : Cond.methodLink (mY M).cls idx (mY Mc) ∈ lw_all) (hC : CMs Mc n) (hn : as.length = n) (hst : st0 = as.reverse ++ st) (hs8 : Nat.ble (nsl st) 8 = true) (hF : mF Mc + 1 ≤ mF M) (hWd : 8 + (mN Mc + 11) + mW Mc ≤ mW M) (hrt : ∀ z, rtv (mR Mc) z = [aI z]) (hq : pc + 3 = q) (kk : ∀ z G1, SS M T q lv (aI z :: st) G1 (k z G1)) : SS M T pc lv st0 G (bd rr k) :=
  r_calls q d hL hM F hC hn hst hs8 hF hWd hq (fun z G1 => by rw [hrt z]; exact kk z G1)
theorem r_callvL (q : Nat) {Mc : Mt} {o : Int} {as : List AV} {st0 : List AV} {rr : Option (Int × St)} {k : Int → St → Option ρ} {idx n ci : Nat} (d : decode (mC M) pc = .ok (.invokevirtual idx, 3)) (hL : mL Mc = mL M) (hM : MG Mc (aR o :: as) G rr) (F : LKm (mY M).cls idx (mY Mc)) (hC : CMv Mc n) (hn : as.length = n) (hst : st0 = as.reverse ++ aR o :: st) (hs8 : Nat.ble (nsl st) 8 = true) (hc : pr (mL M) (G 0) o → (mL M).1 (G 0) o = some (.inl ci)) (ho : 0 ≤ o) (hcl : (vwCl[ci]?).map (fun r => r.1) = some (mY Mc).cls) (hF : mF Mc + 1 ≤ mF M) (hWd : 8 + (mN Mc + 11) + mW Mc ≤ mW M) (hrt : ∀ z, rtv (mR Mc) z = [aL z]) (hq : pc + 3 = q) (kk : ∀ z G1, SS M T q lv (aL z :: st) G1 (k z G1)) : SS M T pc lv st0 G (bd rr k) :=
  r_callv q d hL hM F hC hn hst hs8 hc ho hcl hF hWd hq (fun z G1 => by rw [hrt z]; exact kk z G1)
theorem r_callsL (q : Nat) {Mc : Mt} {as : List AV} {st0 : List AV} {rr : Option (Int × St)} {k : Int → St → Option ρ} {idx n : Nat} (d : decode (mC M) pc = .ok (.invokestatic idx, 3)) (hL : mL Mc = mL M) (hM : MG Mc as G rr) (F : Cond.methodLink (mY M).cls idx (mY Mc) ∈ lw_all) (hC : CMs Mc n) (hn : as.length = n) (hst : st0 = as.reverse ++ st) (hs8 : Nat.ble (nsl st) 8 = true) (hF : mF Mc + 1 ≤ mF M) (hWd : 8 + (mN Mc + 11) + mW Mc ≤ mW M) (hrt : ∀ z, rtv (mR Mc) z = [aL z]) (hq : pc + 3 = q) (kk : ∀ z G1, SS M T q lv (aL z :: st) G1 (k z G1)) : SS M T pc lv st0 G (bd rr k) :=
  r_calls q d hL hM F hC hn hst hs8 hF hWd hq (fun z G1 => by rw [hrt z]; exact kk z G1)
theorem r_callvV (q : Nat) {Mc : Mt} {o : Int} {as : List AV} {st0 : List AV} {rr : Option (Int × St)} {k : Int → St → Option ρ} {idx n ci : Nat} (d : decode (mC M) pc = .ok (.invokevirtual idx, 3)) (hL : mL Mc = mL M) (hM : MG Mc (aR o :: as) G rr) (F : LKm (mY M).cls idx (mY Mc)) (hC : CMv Mc n) (hn : as.length = n) (hst : st0 = as.reverse ++ aR o :: st) (hs8 : Nat.ble (nsl st) 8 = true) (hc : pr (mL M) (G 0) o → (mL M).1 (G 0) o = some (.inl ci)) (ho : 0 ≤ o) (hcl : (vwCl[ci]?).map (fun r => r.1) = some (mY Mc).cls) (hF : mF Mc + 1 ≤ mF M) (hWd : 8 + (mN Mc + 11) + mW Mc ≤ mW M) (hrt : ∀ z, rtv (mR Mc) z = []) (hq : pc + 3 = q) (kk : ∀ z G1, SS M T q lv (st) G1 (k z G1)) : SS M T pc lv st0 G (bd rr k) :=
  r_callv q d hL hM F hC hn hst hs8 hc ho hcl hF hWd hq (fun z G1 => by rw [hrt z]; exact kk z G1)
theorem r_callsV (q : Nat) {Mc : Mt} {as : List AV} {st0 : List AV} {rr : Option (Int × St)} {k : Int → St → Option ρ} {idx n : Nat} (d : decode (mC M) pc = .ok (.invokestatic idx, 3)) (hL : mL Mc = mL M) (hM : MG Mc as G rr) (F : Cond.methodLink (mY M).cls idx (mY Mc) ∈ lw_all) (hC : CMs Mc n) (hn : as.length = n) (hst : st0 = as.reverse ++ st) (hs8 : Nat.ble (nsl st) 8 = true) (hF : mF Mc + 1 ≤ mF M) (hWd : 8 + (mN Mc + 11) + mW Mc ≤ mW M) (hrt : ∀ z, rtv (mR Mc) z = []) (hq : pc + 3 = q) (kk : ∀ z G1, SS M T q lv (st) G1 (k z G1)) : SS M T pc lv st0 G (bd rr k) :=
  r_calls q d hL hM F hC hn hst hs8 hF hWd hq (fun z G1 => by rw [hrt z]; exact kk z G1)
theorem r_callvR (q : Nat) {Mc : Mt} {o : Int} {as : List AV} {st0 : List AV} {rr : Option (Int × St)} {k : Int → St → Option ρ} {idx n ci : Nat} (d : decode (mC M) pc = .ok (.invokevirtual idx, 3)) (hL : mL Mc = mL M) (hM : MG Mc (aR o :: as) G rr) (F : LKm (mY M).cls idx (mY Mc)) (hC : CMv Mc n) (hn : as.length = n) (hst : st0 = as.reverse ++ aR o :: st) (hs8 : Nat.ble (nsl st) 8 = true) (hc : pr (mL M) (G 0) o → (mL M).1 (G 0) o = some (.inl ci)) (ho : 0 ≤ o) (hcl : (vwCl[ci]?).map (fun r => r.1) = some (mY Mc).cls) (hF : mF Mc + 1 ≤ mF M) (hWd : 8 + (mN Mc + 11) + mW Mc ≤ mW M) (hrt : ∀ z, rtv (mR Mc) z = [aR z]) (hq : pc + 3 = q) (kk : ∀ z G1, SS M T q lv (aR z :: st) G1 (k z G1)) : SS M T pc lv st0 G (bd rr k) :=
  r_callv q d hL hM F hC hn hst hs8 hc ho hcl hF hWd hq (fun z G1 => by rw [hrt z]; exact kk z G1)
theorem r_callsR (q : Nat) {Mc : Mt} {as : List AV} {st0 : List AV} {rr : Option (Int × St)} {k : Int → St → Option ρ} {idx n : Nat} (d : decode (mC M) pc = .ok (.invokestatic idx, 3)) (hL : mL Mc = mL M) (hM : MG Mc as G rr) (F : Cond.methodLink (mY M).cls idx (mY Mc) ∈ lw_all) (hC : CMs Mc n) (hn : as.length = n) (hst : st0 = as.reverse ++ st) (hs8 : Nat.ble (nsl st) 8 = true) (hF : mF Mc + 1 ≤ mF M) (hWd : 8 + (mN Mc + 11) + mW Mc ≤ mW M) (hrt : ∀ z, rtv (mR Mc) z = [aR z]) (hq : pc + 3 = q) (kk : ∀ z G1, SS M T q lv (aR z :: st) G1 (k z G1)) : SS M T pc lv st0 G (bd rr k) :=
  r_calls q d hL hM F hC hn hst hs8 hF hWd hq (fun z G1 => by rw [hrt z]; exact kk z G1)
/-- an enum constant is stored -/
theorem r_aast5 (q : Nat) {o i n z : Int} (d : decode (mC M) pc = .ok (.aastore, 1)) (ha : pr (mL M) (G 0) o → 0 ≤ i → i < n → (mL M).1 (G 0) o = some (.inr (5, n))) (ho : 0 ≤ i → i < n → 0 ≤ o) (hq : pc + 1 = q) (kk : SS M T q lv st (up G o i z) r) : SS M T pc lv (aR z :: aI i :: aR o :: st) G (ckB i n (ckB z 61 r)) := by
  subst hq
  refine ss_ckB (fun h0 h1 => ss_ckB (fun g0 g1 => ?_))
  have hd : okI M lv (aR z :: aI i :: aR o :: st) G → (mL M).1 (G 0) o = some (.inr (5, n)) := fun hI => ha (top_pr (al_h (al_t (al_t hI.2.2.2))) (ho h0 h1)) h0 h1
  refine ss_up _ st (o := o) (k := i) (z := z) (dd := .inr (5, n)) hd (fun hI => ⟨al_t (al_t (al_t hI.2.2.2)), fun j j0 j1 => ?_⟩) (fun hI _ _ _ _ s m args _ _ _ ω _ C _ _ _ _ _ _ ad hE hP hS w => ?_) kk
  · have h100 := hI.1.1 _ _ _ (hd hI)
    rw [up_0 G (by omega)]
    by_cases e : j = i
    · subst e
      rw [up_s]
      exact Or.inr (Or.inl ⟨g0, by omega⟩)
    · rw [up_k G e]
      exact hI.2.1 o _ (hd hI) j j0 j1
  · have hn := (hI.1.2 _ _ _ _ (hd hI)).2
    have hcell := hP.1 o _ (hd hI)
    obtain ⟨j, rfl⟩ : ∃ j : Nat, z = j := ⟨z.toNat, by omega⟩
    obtain ⟨kA, comp, k1, k2, k3, k4⟩ := (tys_at C.2.2.2.2.2.2.2.2.1.1 (t := 5) (by decide)).2
    obtain ⟨cellV, v1, v2, v3⟩ := va_recvE C.2.2.2.2.2.2.2.2.1.2.2.1 (i := j) (show j < 61 by omega) hS
    obtain ⟨kE, hkE, -⟩ := Vm.findClass_spec k3
    cases v3.symm.trans k3
    rw [List.map_cons, List.map_cons, List.map_cons, dr_ref ad (ho h0 h1), dr_ref ad g0, hE j (by omega)]
    obtain ⟨e1, e2⟩ := cl32 h0 h1 hn
    refine W.aast C.1 C.2.1 hcell (fun q h => by cases h) (fun h => by cases h) k1 k2 rfl hkE ⟨e2, by rw [arrV_size, e1]; omega⟩ v1 (fun q h => by rw [h] at v2; cases v2) hkE (va_asg _ _) rfl rfl d (fun H1 e1 e2 e3 => w H1 _ e2 e3 (cell_ast h0 h1 hn ?_ e1))
    show dr ad j = _
    rw [show dr ad (j : Int) = .ref (ad j) from if_neg (by omega), hE j (by omega)]
end WK1
/-! the number of an enum constant -/
def MOrd (Λ : Lay) : Mt := (Λ, yJ5_ordinal, cJ5_ordinal, 1, some .int, 1, 60)
theorem c_ord (Λ : Lay) (z : Int) (G : St) (h0 : 0 ≤ z) (h1 : z < 61) : MG (MOrd Λ) [aR z] G (some (z, G)) := by
  refine MG.of (M := MOrd Λ) (by decide +kernel : plainName RJ5 = true) (Nat.le_of_ble_eq_true rfl) ?_
  show SS (MOrd Λ) some 0 [(0, aR z)] [] G (some (z, G))
  refine r_aload_n 1 0 dJ5_ordinal_0 rfl rfl rfl ?_
  refine r_geto 4 dJ5_ordinal_1 q2841 h0 h1 rfl ?_
  exact r_ireturn dJ5_ordinal_4 rfl
section WK2
variable {ρ : Type} {M : Mt} {T : ρ → Option (Int × St)} {pc : Nat} {lv lv' : List (Nat × AV)} {st st' : List AV} {G : St} {r r' : Option ρ}
theorem r_ord (q : Nat) {z : Int} {idx : Nat} (d : decode (mC M) pc = .ok (.invokevirtual idx, 3)) (F : Cond.methodLink (mY M).cls idx ⟨"ShareHouse$Op", "ordinal", "()I"⟩ ∈ lw_all) (hs8 : Nat.ble (nsl st) 8 = true) (hF : 2 ≤ mF M) (hWd : 80 ≤ mW M) (hq : pc + 3 = q) (kk : SS M T q lv (aI z :: st) G r) : SS M T pc lv (aR z :: st) G (ckB z 61 r) := by
  refine ss_ckB (fun h0 h1 => ?_)
  refine ss_call (Mc := MOrd (mL M)) (rr := some (z, G)) (k := fun _ _ => r) (st := st) q rfl (c_ord (mL M) z G h0 h1) (fun v hv => ?_) (fun v hv => List.mem_cons_of_mem _ hv) (fun hI p l e R s m args below meth c ω A C H locs ls cells slots mc ms ad Pc Qc free hadE hP hS hls hMet hbl hpre hroom => ?_) hq (fun z' G1 h => ?_)
  · rw [List.mem_singleton.mp hv]; exact List.mem_cons_self
  · obtain ⟨hx, hb, hml, hr, hlk, hown, hts, hA, hK, hfr, hlo, -⟩ := C
    obtain ⟨j, rfl⟩ : ∃ j : Nat, z = j := ⟨z.toNat, by omega⟩
    obtain ⟨cellV, v1, v2, v3⟩ := va_recvE hK.2.2.1 (i := j) (show j < 61 by omega) hS
    have hroom8 : 2 * (F0 m pc ls ((aR (j : Int) :: st).map (cv ad))).monitorRoom + ((st.map (cv ad)).map fun v => v.category).sum ≤ 8 := lv_room (by rw [cat_sum]; exact Nat.le_of_ble_eq_true hs8)
    have hadj : ad j = ω.2.2.1 j := hadE j (by omega)
    have e : cv ad (aR (j : Int)) = .ref (ad j) := dr_ref ad h0
    simp only [List.map_cons, List.map_nil, e] at hMet hbl hroom8 ⊢
    have hpv : PreV s H "ShareHouse$Op" (ad j) (va_Pc [.ref (ad j)] Pc) [] := ⟨hbl, ⟨cellV, by rw [hadj]; exact v1, v2, v3⟩, fun U hU hW => ⟨rfl, hpre U hU hW⟩⟩
    refine va_runU (x := ⟨"ShareHouse$Op", "ordinal", "()I"⟩) (owner := "java/lang/Enum") ⟨hx, hb, hml, hown, hts⟩ hMet (va_cwU 0 hts (lw_app (fun w hw => ?_) (lw_meth q1321)) rfl rfl rfl rfl (by decide +kernel) ⟨by show 1 + 1 ≤ _; omega, by show 8 + (1 + 11) + 60 ≤ _; omega⟩) hpv rfl rfl hls rfl hroom8 d hroom
    simp only [List.mem_cons, List.not_mem_nil, or_false] at hw
    rcases hw with rfl | rfl | rfl | rfl | rfl
    · exact F
    · exact q1317
    · exact q1319
    · exact q1320
    · exact q233
  · cases h
    exact kk
end WK2
