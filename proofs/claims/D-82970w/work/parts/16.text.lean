/-! TEXTS: the JDK's String.length and charAt over the thirteen words -/
set_option maxRecDepth 100000
theorem sw_len (i : Nat) (h : i < 13) : swl i ≤ 6 := by
  have : ∀ i, i < 13 → swl i ≤ 6 := by decide +kernel
  exact this i h
theorem sw_b (i j : Nat) (h : i < 13) (hj : j < swl i) : swb i j < 128 := by
  have : ∀ i, i < 13 → ∀ j, j < 7 → swb i j < 128 := by decide +kernel
  exact this i h j (by have := sw_len i h; omega)
section STR
variable {ρ : Type} {M : Mt} {T : ρ → Option (Int × St)} {pc : Nat} {lv lv' : List (Nat × AV)} {st st' : List AV} {G : St} {r r' : Option ρ}
theorem r_sgetC (q : Nat) {idx : Nat} (d : decode (mC M) pc = .ok (.getstatic idx, 3)) (F : Cond.fieldLink (mY M).cls idx "java/lang/String" "COMPACT_STRINGS" "Z" ∈ lw_all) (hq : pc + 3 = q) (kk : SS M T q lv (aI 1 :: st) G r) : SS M T pc lv st G r := by
  subst hq
  refine ss_st _ (aI 1 :: st) (fun hI => al_c (show _ ∧ _ from ⟨by decide, by decide⟩) hI.2.2.2) (fun hI _ _ _ _ s m args _ _ _ ω _ C _ _ _ _ _ _ ad hE hP hS hl hr w => ?_) kk
  exact va_gets C.1 C.2.1 C.2.2.2.2.2.2.2.2.1.2.2.2.2.2.1 hS C.2.2.2.2.2.1 (C.2.2.2.2.2.2.1 _ F) (fun _ h => h) d w
theorem r_sgetF (q : Nat) {idx : Nat} (d : decode (mC M) pc = .ok (.getstatic idx, 3)) (F : Cond.fieldLink (mY M).cls idx "jdk/internal/util/Preconditions" "SIOOBE_FORMATTER" "Ljava/util/function/BiFunction;" ∈ lw_all) (hq : pc + 3 = q) (k1 : SS M T q lv (aR 99 :: st) G r) (k2 : SS M T q lv (aR (-1) :: st) G r) : SS M T pc lv st G r := by
  subst hq
  intro hI out ho
  obtain ⟨h1, h2⟩ := k1 ⟨hI.1, hI.2.1, hI.2.2.1, al_c (Or.inr (Or.inl ⟨by decide, by decide⟩)) hI.2.2.2⟩ out ho
  obtain ⟨-, h3⟩ := k2 ⟨hI.1, hI.2.1, hI.2.2.1, al_c (Or.inl (by decide)) hI.2.2.2⟩ out ho
  refine ⟨h1, ?_⟩
  intro p l e R s m args below meth c ω A C ad ad0 E0 H locs ls c0 s0 a1 a2 a3 a4 a5 a6 a7 a8 a9 a10
  rcases C.2.2.2.2.2.2.2.2.1.2.2.2.2.2.2 with hZ | hZ
  · exact va_gets C.1 C.2.1 hZ a5 C.2.2.2.2.2.1 (C.2.2.2.2.2.2.1 _ F) (fun _ h => h) d (h3 p l e R s m args below meth c ω A C ad ad0 E0 H locs ls c0 s0 a1 a2 a3 a4 a5 a6 a7 a8 a9 a10)
  · have hw := h2 p l e R s m args below meth c ω A C ad ad0 E0 H locs ls c0 s0 a1 a2 a3 a4 a5 a6 a7 a8 a9 a10
    rw [List.map_cons, dr_ref ad (by decide), show ad 99 = ω.2.2.1 99 from a1 99 (by decide)] at hw
    exact va_gets C.1 C.2.1 hZ a5 C.2.2.2.2.2.1 (C.2.2.2.2.2.2.1 _ F) (fun _ h => h) d hw
theorem r_scod (q i : Nat) {idx : Nat} (d : decode (mC M) pc = .ok (.getfield idx, 3)) (F : Cond.fieldLink (mY M).cls idx "java/lang/String" "coder" "B" ∈ lw_all) (hi : i < 13) (hq : pc + 3 = q) (kk : SS M T q lv (aI 0 :: st) G r) : SS M T pc lv (aR (70 + i : Int) :: st) G r := by
  subst hq
  refine ss_st _ (aI 0 :: st) (fun hI => al_c (show _ ∧ _ from ⟨by decide, by decide⟩) (al_t hI.2.2.2)) (fun hI _ _ _ _ s m args _ _ _ ω _ C _ _ _ _ _ _ ad hE hP hS hl hr w => ?_) kk
  rw [List.map_cons, dr_ref ad (by omega), show (70 + (i : Int)) = ((70 + i : Nat) : Int) by omega, hE (70 + i) (by omega)]
  exact vk_getf C.1 C.2.1 (C.2.2.2.2.2.2.2.2.1.2.2.2.1 i hi).2.1 hS C.2.2.2.2.2.1 (C.2.2.2.2.2.2.1 _ F) (fun _ h => h) d w
theorem r_sval (q i : Nat) {idx : Nat} (d : decode (mC M) pc = .ok (.getfield idx, 3)) (F : Cond.fieldLink (mY M).cls idx "java/lang/String" "value" "[B" ∈ lw_all) (hi : i < 13) (hq : pc + 3 = q) (kk : SS M T q lv (aR (85 + i : Int) :: st) G r) : SS M T pc lv (aR (70 + i : Int) :: st) G r := by
  subst hq
  refine ss_st _ (aR (85 + i : Int) :: st) (fun hI => al_c (Or.inr (Or.inl ⟨by omega, by omega⟩)) (al_t hI.2.2.2)) (fun hI _ _ _ _ s m args _ _ _ ω _ C _ _ _ _ _ _ ad hE hP hS hl hr w => ?_) kk
  rw [List.map_cons, dr_ref ad (by omega), show (70 + (i : Int)) = ((70 + i : Nat) : Int) by omega, hE (70 + i) (by omega)]
  rw [List.map_cons, dr_ref ad (by omega), show (85 + (i : Int)) = ((85 + i : Nat) : Int) by omega, hE (85 + i) (by omega)] at w
  exact vk_getf C.1 C.2.1 (C.2.2.2.2.2.2.2.2.1.2.2.2.1 i hi).2.2.1 hS C.2.2.2.2.2.1 (C.2.2.2.2.2.2.1 _ F) (fun _ h => h) d w
theorem r_sblen (q i : Nat) (d : decode (mC M) pc = .ok (.arraylength, 1)) (hi : i < 13) (hq : pc + 1 = q) (kk : SS M T q lv (aI (swl i : Int) :: st) G r) : SS M T pc lv (aR (85 + i : Int) :: st) G r := by
  subst hq
  have hl6 := sw_len i hi
  refine ss_st _ (aI (swl i : Int) :: st) (fun hI => al_c (show _ ∧ _ from ⟨by omega, by omega⟩) (al_t hI.2.2.2)) (fun hI _ _ _ _ s m args _ _ _ ω _ C _ _ _ _ _ _ ad hE hP hS hl hr w => ?_) kk
  rw [List.map_cons, dr_ref ad (by omega), show (85 + (i : Int)) = ((85 + i : Nat) : Int) by omega, hE (85 + i) (by omega)]
  exact va_tlen C.1 C.2.1 (C.2.2.2.2.2.2.2.2.1.2.2.2.1 i hi).2.2.2 hS (v := Int32.ofInt (swl i)) rfl d w
theorem r_sbald (q i : Nat) {j : Int} (d : decode (mC M) pc = .ok (.baload, 1)) (hi : i < 13) (h0 : 0 ≤ j) (h1 : j < swl i) (hq : pc + 1 = q) (kk : SS M T q lv (aI (swb i j.toNat : Int) :: st) G r) : SS M T pc lv (aI j :: aR (85 + i : Int) :: st) G r := by
  subst hq
  have hl6 := sw_len i hi
  have hb := sw_b i j.toNat hi (by omega)
  refine ss_st _ (aI (swb i j.toNat : Int) :: st) (fun hI => al_c (show _ ∧ _ from ⟨by omega, by omega⟩) (al_t (al_t hI.2.2.2))) (fun hI _ _ _ _ s m args _ _ _ ω _ C _ _ _ _ _ _ ad hE hP hS hl hr w => ?_) kk
  rw [List.map_cons, List.map_cons, dr_ref ad (by omega), show (85 + (i : Int)) = ((85 + i : Nat) : Int) by omega, hE (85 + i) (by omega)]
  obtain ⟨e1, e2⟩ := cl32b h0 (show j < 2147483648 by omega)
  refine va_tb C.1 C.2.1 (C.2.2.2.2.2.2.2.2.1.2.2.2.1 i hi).2.2.2 hS (i := Int32.ofInt j) ?_ (v := .int (Int32.ofInt (swb i j.toNat))) ?_ d w
  · rintro (h | h)
    · exact e2 h
    · rw [e1] at h; omega
  · rw [e1]
    rfl
theorem r_i2c (q : Nat) {x : Int} (d : decode (mC M) pc = .ok (.i2c, 1)) (h0 : 0 ≤ x) (h1 : x < 65536) (hq : pc + 1 = q) (kk : SS M T q lv (aI x :: st) G r) : SS M T pc lv (aI x :: st) G r := by
  subst hq
  refine ss_st _ (aI x :: st) (fun hI => hI.2.2.2) (fun hI _ _ _ _ s m args _ _ _ ω _ C _ _ _ _ _ _ ad hE hP hS hl hr w => ?_) kk
  refine lv_i2c (x := Int32.ofInt x) C.1 C.2.1 d ?_ w
  obtain ⟨n, rfl⟩ : ∃ n : Nat, x = n := ⟨x.toNat, by omega⟩
  have e : Int32.ofInt (n : Int) = nI n := rfl
  rw [e, pk_char, pk_tn (by omega), Nat.mod_eq_of_lt (by omega)]
theorem r_cret {x : Int} {ty : FieldType} (d : decode (mC M) pc = .ok (.ireturn, 1)) (hR : mR M = some ty) (hn : narrow ty (.int (Int32.ofInt x)) = .int (Int32.ofInt x)) (hrv : ∀ ad z, rv ad (some ty) z = some (.int (Int32.ofInt z))) (hok : i32 x → ∀ Λ E, okR Λ E (some ty) x) : SS M some pc lv [aI x] G (some (x, G)) := by
  refine ss_ret (fun hI => by rw [hR]; exact hok (al_h hI.2.2.2) _ _) (fun _ _ _ _ _ _ _ _ _ _ _ _ _ C _ _ _ _ _ _ ad hq hf => ?_)
  rw [hR, hrv] at hq
  exact W.zret C.1 C.2.1 (by rw [C.2.2.2.1]; exact hR) hn hq hf d C.2.2.2.2.1
/-- a call on a text -/
theorem r_callvS (q i : Nat) {Mc : Mt} {as : List AV} {st0 : List AV} {rr : Option (Int × St)} {k : Int → St → Option ρ} {idx n : Nat} (d : decode (mC M) pc = .ok (.invokevirtual idx, 3)) (hL : mL Mc = mL M) (hM : MG Mc (aR (70 + i : Int) :: as) G rr) (F : Cond.methodLink (mY M).cls idx (mY Mc) ∈ lw_all) (hC : CMv Mc n) (hn : as.length = n) (hst : st0 = as.reverse ++ aR (70 + i : Int) :: st) (hs8 : Nat.ble (nsl st) 8 = true) (hi : i < 13) (hcl : (mY Mc).cls = "java/lang/String") (hF : mF Mc + 1 ≤ mF M) (hWd : 8 + (mN Mc + 11) + mW Mc ≤ mW M) (hrt : ∀ z, rtv (mR Mc) z = [aI z]) (hq : pc + 3 = q) (kk : ∀ z G1, rr = some (z, G1) → SS M T q lv (aI z :: st) G1 (k z G1)) : SS M T pc lv st0 G (bd rr k) := by
  refine ss_call q hL hM (fun v hv => ?_) (fun v hv => ?_) (fun hI p l e R s m args below meth c ω A C H locs ls cells slots mc ms ad Pc Qc free hadE hP hS hls hMet hbl hpre hroom => ?_) hq (fun z G1 h => by rw [hrt z]; exact kk z G1 h)
  · subst hst
    rcases List.mem_cons.mp hv with rfl | hv
    · exact List.mem_append_right _ List.mem_cons_self
    · exact List.mem_append_left _ (List.mem_reverse.mpr hv)
  · subst hst
    exact List.mem_append_right _ (List.mem_cons_of_mem _ hv)
  · obtain ⟨hx, hb, hml, hr, hlk, hown, hts, hA, hK, hfr, hlo, -⟩ := C
    obtain ⟨⟨w1, w2, w3⟩, w4, w5⟩ := hC
    obtain ⟨cell, q1, q2, q3, -⟩ := ((hK.2.2.2.1 i hi).1).kept hS.2.1
    have e70 : cv ad (aR (70 + i : Int)) = .ref (ω.2.2.1 (70 + i)) := by
      rw [dr_ref ad (by omega), show (70 + (i : Int)) = ((70 + i : Nat) : Int) by omega, hadE (70 + i) (by omega)]
    have hpv : PreV s H (mY Mc).cls (ω.2.2.1 (70 + i)) (va_Pc ((aR (70 + i : Int) :: as).map (cv ad)) Pc) (as.map (cv ad)) := by
      refine ⟨hbl, ⟨cell, q1, q2, by rw [hcl]; exact q3⟩, fun U hU hW => ⟨?_, hpre U hU hW⟩⟩
      rw [List.map_cons, e70]
    have hstk : st0.map (cv ad) = (as.map (cv ad)).reverse ++ .ref (ω.2.2.1 (70 + i)) :: st.map (cv ad) := by
      rw [hst, List.map_append, List.map_reverse, List.map_cons, e70]
    have hroom8 : 2 * (F0 m pc ls (st0.map (cv ad))).monitorRoom + ((st.map (cv ad)).map fun v => v.category).sum ≤ 8 := lv_room (by rw [cat_sum]; exact Nat.le_of_ble_eq_true hs8)
    rw [List.map_cons, e70] at hMet hpv ⊢
    exact va_runV ⟨hx, hb, hml, hown, hts⟩ hMet (cwV n hts (lw_V F w4 w5 w1 w2) rfl rfl rfl ⟨rfl, w3⟩ ⟨by show mF Mc + 1 ≤ _; omega, by show 8 + (mN Mc + 11) + mW Mc ≤ _; omega⟩) hpv rfl (by rw [List.length_map]; exact hn) hls hstk hroom8 d hroom
end STR
theorem plJ1 : plainName RJ1 = true := by decide +kernel
theorem plJ2 : plainName RJ2 = true := by decide +kernel
theorem plJ3 : plainName RJ3 = true := by decide +kernel
def MSt_coder (Λ : Lay) : Mt := (Λ, yJ1_coder, cJ1_coder, 1, some .byte, 1, 120)
def MSt_isLatin1 (Λ : Lay) : Mt := (Λ, yJ1_isLatin1, cJ1_isLatin1, 1, some .boolean, 1, 120)
def MSt_length (Λ : Lay) : Mt := (Λ, yJ1_length, cJ1_length, 1, some .int, 2, 180)
def MPc_check (Λ : Lay) : Mt := (Λ, yJ3_checkIndex, cJ3_checkIndex, 3, some .int, 1, 120)
def MSt_check (Λ : Lay) : Mt := (Λ, yJ1_checkIndex, cJ1_checkIndex, 2, none, 2, 180)
def MSl_charAt (Λ : Lay) : Mt := (Λ, yJ2_charAt, cJ2_charAt, 2, some .char, 3, 240)
def MSt_charAt (Λ : Lay) : Mt := (Λ, yJ1_charAt, cJ1_charAt, 2, some .char, 4, 300)
theorem ndJ1c : yJ1_coder.cls ≠ "java/lang/invoke/MethodHandle" ∧ yJ1_coder.cls ≠ "java/lang/invoke/VarHandle" ∧ (parseMethodDescriptor yJ1_coder.desc).map (fun d => d.parameters.length) = some 0 := by decide +kernel
theorem ndJ1i : yJ1_isLatin1.cls ≠ "java/lang/invoke/MethodHandle" ∧ yJ1_isLatin1.cls ≠ "java/lang/invoke/VarHandle" ∧ (parseMethodDescriptor yJ1_isLatin1.desc).map (fun d => d.parameters.length) = some 0 := by decide +kernel
theorem ndJ1l : yJ1_length.cls ≠ "java/lang/invoke/MethodHandle" ∧ yJ1_length.cls ≠ "java/lang/invoke/VarHandle" ∧ (parseMethodDescriptor yJ1_length.desc).map (fun d => d.parameters.length) = some 0 := by decide +kernel
theorem ndJ3 : yJ3_checkIndex.cls ≠ "java/lang/invoke/MethodHandle" ∧ yJ3_checkIndex.cls ≠ "java/lang/invoke/VarHandle" ∧ (parseMethodDescriptor yJ3_checkIndex.desc).map (fun d => d.parameters.length) = some 3 := by decide +kernel
theorem ndJ1k : yJ1_checkIndex.cls ≠ "java/lang/invoke/MethodHandle" ∧ yJ1_checkIndex.cls ≠ "java/lang/invoke/VarHandle" ∧ (parseMethodDescriptor yJ1_checkIndex.desc).map (fun d => d.parameters.length) = some 2 := by decide +kernel
theorem ndJ2 : yJ2_charAt.cls ≠ "java/lang/invoke/MethodHandle" ∧ yJ2_charAt.cls ≠ "java/lang/invoke/VarHandle" ∧ (parseMethodDescriptor yJ2_charAt.desc).map (fun d => d.parameters.length) = some 2 := by decide +kernel
theorem ndJ1a : yJ1_charAt.cls ≠ "java/lang/invoke/MethodHandle" ∧ yJ1_charAt.cls ≠ "java/lang/invoke/VarHandle" ∧ (parseMethodDescriptor yJ1_charAt.desc).map (fun d => d.parameters.length) = some 1 := by decide +kernel
theorem cmSt_coder (Λ : Lay) : CMv (MSt_coder Λ) 0 := ⟨⟨q229, q975, ndJ1c⟩, q973, q974⟩
theorem cmSt_isLatin1 (Λ : Lay) : CMv (MSt_isLatin1 Λ) 0 := ⟨⟨q229, q995, ndJ1i⟩, q993, q994⟩
theorem cmSt_length (Λ : Lay) : CMv (MSt_length Λ) 0 := ⟨⟨q229, q971, ndJ1l⟩, q969, q970⟩
theorem cmPc_check (Λ : Lay) : CMs (MPc_check Λ) 3 := ⟨⟨q231, q1006, ndJ3⟩, q1005⟩
theorem cmSt_check (Λ : Lay) : CMs (MSt_check Λ) 2 := ⟨⟨q229, q1001, ndJ1k⟩, q1000⟩
theorem cmSl_charAt (Λ : Lay) : CMs (MSl_charAt Λ) 2 := ⟨⟨q230, q998, ndJ2⟩, q997⟩
theorem cmSt_charAt (Λ : Lay) : CMv (MSt_charAt Λ) 1 := ⟨⟨q229, q991, ndJ1a⟩, q989, q990⟩
theorem c_coder (Λ : Lay) (i : Nat) (hi : i < 13) (G : St) : MG (MSt_coder Λ) [aR (70 + i : Int)] G (some (0, G)) := by
  refine MG.of (M := MSt_coder Λ) plJ1 (Nat.le_of_ble_eq_true rfl) ?_
  show SS (MSt_coder Λ) some 0 [(0, aR (70 + i : Int))] [] G (some (0, G))
  refine r_sgetC 3 dJ1_coder_0 q976 rfl ?_
  refine SS.eqv (r' := if (1 : Int) = 0 then none else some (0, G)) rfl ?_
  refine r_if_eq 13 6 dJ1_coder_3 rfl rfl SS.none' ?_
  refine r_aload_n 7 0 dJ1_coder_6 rfl rfl rfl ?_
  refine r_scod 10 i dJ1_coder_7 q2840 hi rfl ?_
  refine r_goto 14 dJ1_coder_10 rfl ?_
  exact r_cret dJ1_coder_14 rfl rfl (fun _ _ => rfl) (fun h _ _ => h)
theorem c_isLatin1 (Λ : Lay) (i : Nat) (hi : i < 13) (G : St) : MG (MSt_isLatin1 Λ) [aR (70 + i : Int)] G (some (1, G)) := by
  refine MG.of (M := MSt_isLatin1 Λ) plJ1 (Nat.le_of_ble_eq_true rfl) ?_
  show SS (MSt_isLatin1 Λ) some 0 [(0, aR (70 + i : Int))] [] G (some (1, G))
  refine r_sgetC 3 dJ1_isLatin1_0 q976 rfl ?_
  refine SS.eqv (r' := if (1 : Int) = 0 then none else some (1, G)) rfl ?_
  refine r_if_eq 17 6 dJ1_isLatin1_3 rfl rfl SS.none' ?_
  refine r_aload_n 7 0 dJ1_isLatin1_6 rfl rfl rfl ?_
  refine r_scod 10 i dJ1_isLatin1_7 q2840 hi rfl ?_
  refine SS.eqv (r' := if (0 : Int) = 0 then some (1, G) else none) rfl ?_
  refine r_if_ne 17 13 dJ1_isLatin1_10 rfl rfl SS.none' ?_
  refine r_iconst 14 1 dJ1_isLatin1_13 rfl rfl ?_
  refine r_goto 18 dJ1_isLatin1_14 rfl ?_
  exact r_zreturn dJ1_isLatin1_18 rfl
theorem c_slen (Λ : Lay) (i : Nat) (hi : i < 13) (G : St) : MG (MSt_length Λ) [aR (70 + i : Int)] G (some ((swl i : Int), G)) := by
  refine MG.of (M := MSt_length Λ) plJ1 (Nat.le_of_ble_eq_true rfl) ?_
  show SS (MSt_length Λ) some 0 [(0, aR (70 + i : Int))] [] G (some ((swl i : Int), G))
  refine r_aload_n 1 0 dJ1_length_0 rfl rfl rfl ?_
  refine r_sval 4 i dJ1_length_1 q2839 hi rfl ?_
  refine r_sblen 5 i dJ1_length_4 hi rfl ?_
  refine r_aload_n 6 0 dJ1_length_5 rfl rfl rfl ?_
  refine SS.eqv (r' := bd (some (0, G)) (fun z G1 => some (j_sr (swl i) z, G1))) ?_ ?_
  · show _ = some (j_sr (swl i) 0, G)
    have : j_sr (swl i) 0 = swl i := by
      have : ∀ i, i < 13 → j_sr (swl i) 0 = swl i := by decide +kernel
      exact this i hi
    rw [this]
  refine r_callvS 9 i (Mc := MSt_coder Λ) (as := []) (st := [aI (swl i : Int)]) dJ1_length_6 rfl (c_coder Λ i hi G) q972 (cmSt_coder Λ) rfl rfl rfl hi rfl (Nat.le_of_ble_eq_true rfl) (Nat.le_of_ble_eq_true rfl) (fun _ => rfl) rfl (fun z G1 _ => ?_)
  refine r_ishr 10 dJ1_length_9 rfl ?_
  exact r_ireturn dJ1_length_10 rfl
theorem c_pcheck (Λ : Lay) (x n f : Int) (h0 : 0 ≤ x) (h1 : x < n) (G : St) : MG (MPc_check Λ) [aI x, aI n, aR f] G (some (x, G)) := by
  refine MG.of (M := MPc_check Λ) plJ3 (Nat.le_of_ble_eq_true rfl) ?_
  show SS (MPc_check Λ) some 0 [(0, aI x), (1, aI n), (2, aR f)] [] G (some (x, G))
  refine r_iload_n 1 0 dJ3_checkIndex_0 rfl rfl rfl ?_
  refine SS.eqv (r' := if x < 0 then none else some (x, G)) (by rw [if_neg (by omega)]) ?_
  refine r_if_lt 9 4 dJ3_checkIndex_1 rfl rfl SS.none' ?_
  refine r_iload_n 5 0 dJ3_checkIndex_4 rfl rfl rfl ?_
  refine r_iload_n 6 1 dJ3_checkIndex_5 rfl rfl rfl ?_
  refine SS.eqv (r' := if x < n then some (x, G) else none) (by rw [if_pos h1]) ?_
  refine r_icmp_lt 16 9 dJ3_checkIndex_6 rfl rfl ?_ SS.none'
  refine r_iload_n 17 0 dJ3_checkIndex_16 rfl rfl rfl ?_
  exact r_ireturn dJ3_checkIndex_17 rfl
theorem c_scheck (Λ : Lay) (x n : Int) (h0 : 0 ≤ x) (h1 : x < n) (G : St) : MG (MSt_check Λ) [aI x, aI n] G (some (0, G)) := by
  refine MG.of (M := MSt_check Λ) plJ1 (Nat.le_of_ble_eq_true rfl) ?_
  show SS (MSt_check Λ) some 0 [(0, aI x), (1, aI n)] [] G (some (0, G))
  have key : ∀ f, SS (MSt_check Λ) some 5 [(0, aI x), (1, aI n)] [aR f, aI n, aI x] G (some (0, G)) := by
    intro f
    refine SS.eqv (r' := bd (some (x, G)) (fun _ G1 => some (0, G1))) rfl ?_
    refine r_callsI 8 (Mc := MPc_check Λ) (as := [aI x, aI n, aR f]) (st := []) dJ1_checkIndex_5 rfl (c_pcheck Λ x n f h0 h1 G) q1004 (cmPc_check Λ) rfl rfl rfl (Nat.le_of_ble_eq_true rfl) (Nat.le_of_ble_eq_true rfl) (fun _ => rfl) rfl (fun z G1 => ?_)
    refine r_pop 9 dJ1_checkIndex_8 rfl rfl ?_
    exact r_return dJ1_checkIndex_9 rfl
  refine r_iload_n 1 0 dJ1_checkIndex_0 rfl rfl rfl ?_
  refine r_iload_n 2 1 dJ1_checkIndex_1 rfl rfl rfl ?_
  exact r_sgetF 5 dJ1_checkIndex_2 q1002 rfl (key 99) (key (-1))
theorem nar_ch {x : Int} (h0 : 0 ≤ x) (h1 : x < 65536) : narrow .char (.int (Int32.ofInt x)) = .int (Int32.ofInt x) := by
  obtain ⟨n, rfl⟩ : ∃ n : Nat, x = n := ⟨x.toNat, by omega⟩
  exact (pk_charN (q := n) (by omega)).1
theorem an255 (i j : Nat) (hi : i < 13) (hj : j < swl i) : j_an (swb i j : Int) 255 = swb i j := by
  have : ∀ i, i < 13 → ∀ j, j < 7 → j_an (swb i j : Int) 255 = swb i j := by decide +kernel
  exact this i hi j (by have := sw_len i hi; omega)
theorem c_lchar (Λ : Lay) (i : Nat) (j : Int) (hi : i < 13) (h0 : 0 ≤ j) (h1 : j < swl i) (G : St) : MG (MSl_charAt Λ) [aR (85 + i : Int), aI j] G (some ((swb i j.toNat : Int), G)) := by
  have hb := sw_b i j.toNat hi (by omega)
  refine MG.of (M := MSl_charAt Λ) plJ2 (Nat.le_of_ble_eq_true rfl) ?_
  show SS (MSl_charAt Λ) some 0 [(0, aR (85 + i : Int)), (1, aI j)] [] G (some ((swb i j.toNat : Int), G))
  refine r_iload_n 1 1 dJ2_charAt_0 rfl rfl rfl ?_
  refine r_aload_n 2 0 dJ2_charAt_1 rfl rfl rfl ?_
  refine r_sblen 3 i dJ2_charAt_2 hi rfl ?_
  refine SS.eqv (r' := bd (some (0, G)) (fun _ G1 => some ((swb i j.toNat : Int), G1))) rfl ?_
  refine r_callsV 6 (Mc := MSt_check Λ) (as := [aI j, aI (swl i : Int)]) (st := []) dJ2_charAt_3 rfl (c_scheck Λ j (swl i) h0 h1 G) q999 (cmSt_check Λ) rfl rfl rfl (Nat.le_of_ble_eq_true rfl) (Nat.le_of_ble_eq_true rfl) (fun _ => rfl) rfl (fun z G1 => ?_)
  refine r_aload_n 7 0 dJ2_charAt_6 rfl rfl rfl ?_
  refine r_iload_n 8 1 dJ2_charAt_7 rfl rfl rfl ?_
  refine r_sbald 9 i dJ2_charAt_8 hi h0 h1 rfl ?_
  refine r_sipush 12 255 dJ2_charAt_9 rfl rfl ?_
  refine r_iand 13 dJ2_charAt_12 rfl ?_
  rw [an255 i j.toNat hi (by omega)]
  refine r_i2c 14 dJ2_charAt_13 (by omega) (by omega) rfl ?_
  exact r_cret dJ2_charAt_14 rfl (nar_ch (by omega) (by omega)) (fun _ _ => rfl) (fun h _ _ => h)
theorem c_schr (Λ : Lay) (i : Nat) (j : Int) (hi : i < 13) (h0 : 0 ≤ j) (h1 : j < swl i) (G : St) : MG (MSt_charAt Λ) [aR (70 + i : Int), aI j] G (some ((swb i j.toNat : Int), G)) := by
  have hb := sw_b i j.toNat hi (by omega)
  refine MG.of (M := MSt_charAt Λ) plJ1 (Nat.le_of_ble_eq_true rfl) ?_
  show SS (MSt_charAt Λ) some 0 [(0, aR (70 + i : Int)), (1, aI j)] [] G (some ((swb i j.toNat : Int), G))
  refine r_aload_n 1 0 dJ1_charAt_0 rfl rfl rfl ?_
  refine SS.eqv (r' := bd (some (1, G)) (fun z G1 => if z = 0 then none else some ((swb i j.toNat : Int), G1))) rfl ?_
  refine r_callvS 4 i (Mc := MSt_isLatin1 Λ) (as := []) (st := []) dJ1_charAt_1 rfl (c_isLatin1 Λ i hi G) q992 (cmSt_isLatin1 Λ) rfl rfl rfl hi rfl (Nat.le_of_ble_eq_true rfl) (Nat.le_of_ble_eq_true rfl) (fun _ => rfl) rfl (fun z G1 _ => ?_)
  refine r_if_eq 16 7 dJ1_charAt_4 rfl rfl SS.none' ?_
  refine r_aload_n 8 0 dJ1_charAt_7 rfl rfl rfl ?_
  refine r_sval 11 i dJ1_charAt_8 q2839 hi rfl ?_
  refine r_iload_n 12 1 dJ1_charAt_11 rfl rfl rfl ?_
  refine SS.eqv (r' := bd (some ((swb i j.toNat : Int), G1)) (fun z G1 => if 0 ≤ z ∧ z < 65536 then some (z, G1) else none)) ?_ ?_
  · generalize hbb : (swb i j.toNat : Int) = b at *
    have hz : 0 ≤ b ∧ b < 65536 := ⟨by omega, by omega⟩
    exact (bd_some.trans (if_pos hz)).symm
  refine r_callsI 15 (Mc := MSl_charAt Λ) (as := [aR (85 + i : Int), aI j]) (st := []) dJ1_charAt_12 rfl (c_lchar Λ i j hi h0 h1 G1) q996 (cmSl_charAt Λ) rfl rfl rfl (Nat.le_of_ble_eq_true rfl) (Nat.le_of_ble_eq_true rfl) (fun _ => rfl) rfl (fun z G2 => ?_)
  by_cases hz : 0 ≤ z ∧ z < 65536
  · rw [if_pos hz]
    exact r_cret dJ1_charAt_15 rfl (nar_ch hz.1 hz.2) (fun _ _ => rfl) (fun h _ _ => h)
  · rw [if_neg hz]
    exact SS.none'
def S_len (w : Int) (G : St) : Option (Int × St) := ckB (w - 70) 13 (some ((swl (w - 70).toNat : Int), G))
def S_chr (w k : Int) (G : St) : Option (Int × St) := ckB (w - 70) 13 (ckB k (swl (w - 70).toNat) (some ((swb (w - 70).toNat k.toNat : Int), G)))
section STR2
variable {ρ : Type} {M : Mt} {T : ρ → Option (Int × St)} {pc : Nat} {lv lv' : List (Nat × AV)} {st st' : List AV} {G : St} {r r' : Option ρ}
theorem r_S_len (q : Nat) {w : Int} {k : Int → St → Option ρ} {idx : Nat} (d : decode (mC M) pc = .ok (.invokevirtual idx, 3)) (F : Cond.methodLink (mY M).cls idx yJ1_length ∈ lw_all) (hs8 : Nat.ble (nsl st) 8 = true) (hF : 3 ≤ mF M) (hWd : 200 ≤ mW M) (hq : pc + 3 = q) (kk : ∀ z G1, SS M T q lv (aI z :: st) G1 (k z G1)) : SS M T pc lv (aR w :: st) G (bd (S_len w G) k) := by
  unfold S_len
  by_cases h : 0 ≤ w - 70 ∧ w - 70 < 13
  · rw [ckB_p h.1 h.2]
    have e : w = 70 + ((w - 70).toNat : Int) := by omega
    rw [e]
    refine r_callvS q (w - 70).toNat (Mc := MSt_length (mL M)) (as := []) (st := st) d rfl ?_ F (cmSt_length (mL M)) rfl rfl hs8 (by omega) rfl hF hWd (fun _ => rfl) hq (fun z G1 _ => kk z G1)
    rw [← e]
    have := c_slen (mL M) (w - 70).toNat (by omega) G
    rw [← e] at this
    exact this
  · have : ckB (w - 70) 13 (some ((swl (w - 70).toNat : Int), G)) = none := if_neg h
    rw [this]
    exact SS.none'
theorem r_S_chr (q : Nat) {w j : Int} {k : Int → St → Option ρ} {idx : Nat} (d : decode (mC M) pc = .ok (.invokevirtual idx, 3)) (F : Cond.methodLink (mY M).cls idx yJ1_charAt ∈ lw_all) (hs8 : Nat.ble (nsl st) 8 = true) (hF : 5 ≤ mF M) (hWd : 321 ≤ mW M) (hq : pc + 3 = q) (kk : ∀ z G1, SS M T q lv (aI z :: st) G1 (k z G1)) : SS M T pc lv (aI j :: aR w :: st) G (bd (S_chr w j G) k) := by
  unfold S_chr
  by_cases h : 0 ≤ w - 70 ∧ w - 70 < 13
  · rw [ckB_p h.1 h.2]
    by_cases hj : 0 ≤ j ∧ j < swl (w - 70).toNat
    · rw [ckB_p hj.1 hj.2]
      have e : w = 70 + ((w - 70).toNat : Int) := by omega
      rw [e]
      refine r_callvS q (w - 70).toNat (Mc := MSt_charAt (mL M)) (as := [aI j]) (st := st) d rfl ?_ F (cmSt_charAt (mL M)) rfl rfl hs8 (by omega) rfl hF hWd (fun _ => rfl) hq (fun z G1 _ => kk z G1)
      rw [← e]
      have := c_schr (mL M) (w - 70).toNat j (by omega) hj.1 hj.2 G
      rw [← e] at this
      exact this
    · have : ckB j (swl (w - 70).toNat) (some ((swb (w - 70).toNat j.toNat : Int), G)) = none := if_neg hj
      rw [this]
      exact SS.none'
  · have : ∀ r : Option (Int × St), ckB (w - 70) 13 r = none := fun r => if_neg h
    rw [this]
    exact SS.none'
end STR2
