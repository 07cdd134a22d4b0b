/-! ROWS: constants, enum, text, Math, arraycopy -/
def ckA {ρ : Type} (p n L : Int) (r : Option ρ) : Option ρ := if 0 ≤ p ∧ 0 ≤ n ∧ p + n ≤ L then r else none
theorem ckA_p {ρ : Type} {p n L : Int} {r : Option ρ} (h1 : 0 ≤ p) (h2 : 0 ≤ n) (h3 : p + n ≤ L) : ckA p n L r = r := if_pos ⟨h1, h2, h3⟩
/-- a stretch copied -/
def acp (G : St) (o sp o' dp n : Int) : St := uq G o' (fun j => if dp ≤ j ∧ j < dp + n then G o (sp + (j - dp)) else G o' j)
theorem cl32b {i : Int} (h0 : 0 ≤ i) (h1 : i < 2147483648) : (Int32.ofInt i).toNatClampNeg = i.toNat ∧ ¬ Int32.ofInt i < 0 := by
  have hi : i32 i := ⟨by omega, by omega⟩
  constructor
  · show (Int32.ofInt i).toInt.toNat = i.toNat
    rw [t32i hi]
  · intro q
    have := (lt32 hi (⟨by omega, by omega⟩ : i32 0)).mp q
    omega
section SPC
variable {ρ : Type} {M : Mt} {T : ρ → Option (Int × St)} {pc : Nat} {lv lv' : List (Nat × AV)} {st st' : List AV} {G : St} {r r' : Option ρ}
theorem ss_ckA {p n L : Int} (h : 0 ≤ p → 0 ≤ n → p + n ≤ L → SS M T pc lv st G r) : SS M T pc lv st G (ckA p n L r) := by
  unfold ckA
  split
  · rename_i q; exact h q.1 q.2.1 q.2.2
  · exact SS.none'

/-- getstatic of a constant -/
theorem r_gets (q i : Nat) {idx : Nat} (d : decode (mC M) pc = .ok (.getstatic idx, 3)) (F : Cond.fieldLink (mY M).cls idx "ShareHouse$Op" (opN.getD i "") "LShareHouse$Op;" ∈ lw_all) (hi : Nat.ble (i + 1) 61 = true) (hq : pc + 3 = q) (kk : SS M T q lv (aR (i : Int) :: st) G r) : SS M T pc lv st G r := by
  subst hq
  have hi : i < 61 := Nat.le_of_ble_eq_true hi
  refine ss_st _ (aR (i : Int) :: st) (fun hI => al_c (Or.inr (Or.inl ⟨by omega, by omega⟩)) hI.2.2.2) (fun hI _ _ _ _ s m args _ _ _ ω _ C _ _ _ _ _ _ ad hE hP hS hl hr w => ?_) kk
  rw [List.map_cons, dr_ref ad (by omega), hE i (by omega)] at w
  exact va_gets C.1 C.2.1 (C.2.2.2.2.2.2.2.2.1.2.2.1.1 i hi).1 hS C.2.2.2.2.2.1 (C.2.2.2.2.2.2.1 _ F) (fun _ h => h) d w
/-- an enum constant's number -/
theorem r_geto (q : Nat) {z : Int} {idx : Nat} (d : decode (mC M) pc = .ok (.getfield idx, 3)) (F : Cond.fieldLink (mY M).cls idx "java/lang/Enum" "ordinal" "I" ∈ lw_all) (h0 : 0 ≤ z) (h1 : z < 61) (hq : pc + 3 = q) (kk : SS M T q lv (aI z :: st) G r) : SS M T pc lv (aR z :: st) G r := by
  subst hq
  refine ss_st _ (aI z :: st) (fun hI => al_c (show _ ∧ _ from ⟨by omega, by omega⟩) (al_t hI.2.2.2)) (fun hI _ _ _ _ s m args _ _ _ ω _ C _ _ _ _ _ _ ad hE hP hS hl hr w => ?_) kk
  obtain ⟨i, rfl⟩ : ∃ i : Nat, z = i := ⟨z.toNat, by omega⟩
  have hi : i < 61 := by omega
  rw [List.map_cons, dr_ref ad h0, hE i (by omega)]
  have e : ((List.range 61).map Int32.ofNat).getD i 0 = Int32.ofInt i := by
    rw [List.getD_eq_getElem?_getD, List.getElem?_map, List.getElem?_range hi]
    rfl
  refine va_getE (q := ("java/lang/Enum", "ordinal", "I", (List.range 61).map Int32.ofNat)) C.1 C.2.1 C.2.2.2.2.2.2.2.2.1.2.2.1 hi hS C.2.2.2.2.2.1 List.mem_cons_self (C.2.2.2.2.2.2.1 _ F) (fun _ h => h) d ?_
  show W _ _ _ _ _ _ _ _ _ _ _ _ _ _ _ (F0 _ _ _ (.int (((List.range 61).map Int32.ofNat).getD i 0) :: _))
  rw [e]
  exact w
/-- comparing constants -/
theorem ad_inj {Op : List String} {F : List (String × String × String × List Int32)} {A : Nat → Prop} {s : State} {H : Heap} {ad : Int → Nat} {aE : Nat → Nat} (hE : ∀ k : Nat, k < 100 → ad k = aE k) (h : va_En "ShareHouse$Op" "LShareHouse$Op;" opN F aE A s H) {x y : Int} (x0 : 0 ≤ x) (x1 : x < 61) (y0 : 0 ≤ y) (y1 : y < 61) : (some (ad x) = some (ad y)) ↔ x = y := by
  obtain ⟨i, rfl⟩ : ∃ i : Nat, x = i := ⟨x.toNat, by omega⟩
  obtain ⟨j, rfl⟩ : ∃ i : Nat, y = i := ⟨y.toNat, by omega⟩
  rw [hE i (by omega), hE j (by omega)]
  constructor
  · intro q
    have := h.2 i j (show i < 61 by omega) (show j < 61 by omega) (Option.some.inj q)
    omega
  · intro q
    have : i = j := by omega
    rw [this]
theorem r_acmp_eq (tgt q : Nat) {x y off : Int} (d : decode (mC M) pc = .ok (.if_acmp .eq off, 3)) (ht : (pc : Int) + off = (tgt : Int)) (hq : pc + 3 = q) (kt : SS M T tgt lv st G r) (kf : SS M T q lv st G r') : SS M T pc lv (aR y :: aR x :: st) G (ckB x 61 (ckB y 61 (if x = y then r else r'))) := by
  subst hq
  refine ss_ckB (fun x0 x1 => ss_ckB (fun y0 y1 => ?_))
  refine ss_br tgt (pc + 3) st (fun hI => al_t (al_t hI.2.2.2)) (fun hI _ _ _ _ s m args _ _ _ ω _ C _ _ _ _ _ _ ad hE wt wf => ?_) kt kf
  have hx := ad_inj (Op := []) hE C.2.2.2.2.2.2.2.2.1.2.2.1 x0 x1 y0 y1
  rw [List.map_cons, List.map_cons, dr_ref ad x0, dr_ref ad y0]
  exact lv_acmp_eq (rx := some (ad x)) (ry := some (ad y)) C.1 C.2.1 d ht (fun q => wt (hx.mp q)) (fun q => wf (fun q2 => q (hx.mpr q2)))
theorem r_acmp_ne (tgt q : Nat) {x y off : Int} (d : decode (mC M) pc = .ok (.if_acmp .ne off, 3)) (ht : (pc : Int) + off = (tgt : Int)) (hq : pc + 3 = q) (kt : SS M T tgt lv st G r) (kf : SS M T q lv st G r') : SS M T pc lv (aR y :: aR x :: st) G (ckB x 61 (ckB y 61 (if x = y then r' else r))) := by
  subst hq
  refine ss_ckB (fun x0 x1 => ss_ckB (fun y0 y1 => ?_))
  refine ss_br (pc + 3) tgt st (fun hI => al_t (al_t hI.2.2.2)) (fun hI _ _ _ _ s m args _ _ _ ω _ C _ _ _ _ _ _ ad hE wt wf => ?_) kf kt
  have hx := ad_inj (Op := []) hE C.2.2.2.2.2.2.2.2.1.2.2.1 x0 x1 y0 y1
  rw [List.map_cons, List.map_cons, dr_ref ad x0, dr_ref ad y0]
  exact lv_acmp_ne (rx := some (ad x)) (ry := some (ad y)) C.1 C.2.1 d ht (fun q => wf (fun q2 => q (hx.mpr q2))) (fun q => wt (hx.mp q))
theorem r_nonnull (tgt q : Nat) {x off : Int} (d : decode (mC M) pc = .ok (.ifnonnull off, 3)) (ht : (pc : Int) + off = (tgt : Int)) (hq : pc + 3 = q) (kt : SS M T tgt lv st G r) (kf : SS M T q lv st G r') : SS M T pc lv (aR x :: st) G (if x < 0 then r' else r) := by
  subst hq
  refine ss_br (pc + 3) tgt st (fun hI => al_t hI.2.2.2) (fun hI _ _ _ _ s m args _ _ _ ω _ C _ _ _ _ _ _ ad hE wt wf => ?_) kf kt
  rw [List.map_cons]
  by_cases hx : x < 0
  · have e : cv ad (aR x) = .null := if_pos hx
    rw [e]
    exact lv_ifnonnullN C.1 C.2.1 d (wt hx)
  · have e : cv ad (aR x) = .ref (ad x) := if_neg hx
    rw [e]
    exact lv_ifnonnull C.1 C.2.1 d ht (wf hx)
/-- a text -/
theorem r_ldcs (q i : Nat) {idx : Nat} {tx : String} (d : decode (mC M) pc = .ok (.ldc idx, 2)) (F : Cond.stringRef (mY M).cls idx tx ∈ lw_tbl) (hi : Nat.ble (i + 1) 13 = true) (htx : swd.getD i "" = tx) (hq : pc + 2 = q) (kk : SS M T q lv (aR (70 + i : Int) :: st) G r) : SS M T pc lv st G r := by
  subst hq
  have hi : i < 13 := Nat.le_of_ble_eq_true hi
  refine ss_st _ (aR (70 + i : Int) :: st) (fun hI => al_c (Or.inr (Or.inl ⟨by omega, by omega⟩)) hI.2.2.2) (fun hI _ _ _ _ s m args _ _ _ ω _ C _ _ _ _ _ _ ad hE hP hS hl hr w => ?_) kk
  rw [List.map_cons, dr_ref ad (by omega), show (70 + (i : Int)) = ((70 + i : Nat) : Int) by omega, hE (70 + i) (by omega)] at w
  exact va_ldcS C.1 C.2.1 C.2.2.2.2.2.1 (C.2.2.2.2.2.2.2.2.1.2.2.2.2.1 _ _ _ F i hi htx) d w
theorem r_mmax (q : Nat) {x y : Int} {idx : Nat} (d : decode (mC M) pc = .ok (.invokestatic idx, 3)) (F : Cond.methodLink (mY M).cls idx Lib.Math.max.name ∈ lw_all) (hF : 1 ≤ mF M) (hWd : 21 ≤ mW M) (hs8 : Nat.ble (nsl st) 8 = true) (hq : pc + 3 = q) (kk : SS M T q lv (aI (if x < y then y else x) :: st) G r) : SS M T pc lv (aI y :: aI x :: st) G r := by
  subst hq
  have h8 : nsl st ≤ 8 := Nat.le_of_ble_eq_true hs8
  refine ss_st _ (aI (if x < y then y else x) :: st) (fun hI => al_c ?_ (al_t (al_t hI.2.2.2))) (fun hI _ _ _ _ s m args _ _ _ ω _ C _ _ _ _ _ _ ad hE hP hS hl hr w => ?_) kk
  · have hy : i32 y := al_h hI.2.2.2
    have hx : i32 x := al_h (al_t hI.2.2.2)
    show i32 _
    split
    · exact hy
    · exact hx
  · have hy : i32 y := al_h hI.2.2.2
    have hx : i32 x := al_h (al_t hI.2.2.2)
    have hts := C.2.2.2.2.2.2.1
    have e : (if Int32.ofInt x < Int32.ofInt y then Int32.ofInt y else Int32.ofInt x) = Int32.ofInt (if x < y then y else x) := by
      by_cases h : x < y
      · rw [if_pos ((lt32 hx hy).mpr h), if_pos h]
      · rw [if_neg (fun q => h ((lt32 hx hy).mp q)), if_neg h]
    have hf1 := C.2.2.2.2.2.2.2.2.2.1
    have hf2 := C.2.2.2.2.2.2.2.2.2.2.1
    refine va_mmax (x := Int32.ofInt x) (y := Int32.ofInt y) C.1 C.2.1 (by rw [C.2.2.1]; exact hl.1.symm) C.2.2.2.2.2.1 (hts _ F) (hts _ q414) (hts _ q219) (hts _ q415) (by omega) (by rw [cat_sum]; omega) hr.1 hr.2 d ?_
    rw [e]
    exact w
theorem r_mmin (q : Nat) {x y : Int} {idx : Nat} (d : decode (mC M) pc = .ok (.invokestatic idx, 3)) (F : Cond.methodLink (mY M).cls idx Lib.Math.min.name ∈ lw_all) (hF : 1 ≤ mF M) (hWd : 21 ≤ mW M) (hs8 : Nat.ble (nsl st) 8 = true) (hq : pc + 3 = q) (kk : SS M T q lv (aI (if y < x then y else x) :: st) G r) : SS M T pc lv (aI y :: aI x :: st) G r := by
  subst hq
  have h8 : nsl st ≤ 8 := Nat.le_of_ble_eq_true hs8
  refine ss_st _ (aI (if y < x then y else x) :: st) (fun hI => al_c ?_ (al_t (al_t hI.2.2.2))) (fun hI _ _ _ _ s m args _ _ _ ω _ C _ _ _ _ _ _ ad hE hP hS hl hr w => ?_) kk
  · have hy : i32 y := al_h hI.2.2.2
    have hx : i32 x := al_h (al_t hI.2.2.2)
    show i32 _
    split
    · exact hy
    · exact hx
  · have hy : i32 y := al_h hI.2.2.2
    have hx : i32 x := al_h (al_t hI.2.2.2)
    have hts := C.2.2.2.2.2.2.1
    have e : (if Int32.ofInt y < Int32.ofInt x then Int32.ofInt y else Int32.ofInt x) = Int32.ofInt (if y < x then y else x) := by
      by_cases h : y < x
      · rw [if_pos ((lt32 hy hx).mpr h), if_pos h]
      · rw [if_neg (fun q => h ((lt32 hy hx).mp q)), if_neg h]
    have hf1 := C.2.2.2.2.2.2.2.2.2.1
    have hf2 := C.2.2.2.2.2.2.2.2.2.2.1
    refine va_mmin (x := Int32.ofInt x) (y := Int32.ofInt y) C.1 C.2.1 (by rw [C.2.2.1]; exact hl.1.symm) C.2.2.2.2.2.1 (hts _ F) (hts _ q411) (hts _ q219) (hts _ q412) (by omega) (by rw [cat_sum]; omega) hr.1 hr.2 d ?_
    rw [e]
    exact w
/-- a step that changes one object's whole row -/
theorem ss_uq (q : Nat) (st' : List AV) {o : Int} {f : Int → Int} {dd : Dsc} (hdd : okI M lv st G → (mL M).1 (G 0) o = some dd) (hok : okI M lv st G → (∀ v ∈ st', okV (mL M) (G 0) v) ∧ okD (mL M) (uq G o f) o dd)
    (hW : okI M lv st G → ∀ {p : Program} {l : Launch} {e : Env} {R : Room} {s : State} {m : MethodId} {args : Array Value} {below : List Frame} {meth : Method} {c : Code} {ω : Wd} {A : Nat → Prop}, CX M p R s m args meth c ω A →
      ∀ {H : Heap} {locs : List Loc} {ls : Array Slot} {cells slots : Nat} {Q : State → Prop} (ad : Int → Nat), RP (mL M) ω.1 ω.2.1 ad G H A → va_S A s.heap H locs → ls.size = mN M → (∀ (H1 : Heap) (L : List Loc), (∀ q ∈ L, q.base = ad o) → H1.size = H.size → (∀ q : Nat, q ≠ ad o → H1[q]? = H[q]?) → cellAt (mL M) ω.1 ω.2.1 ad (uq G o f) o dd H1 → W p l e R s m args below meth c H1 (locs ++ L) cells slots Q (F0 m q ls (st'.map (cv ad)))) → W p l e R s m args below meth c H locs cells slots Q (F0 m pc ls (st.map (cv ad))))
    (kk : SS M T q lv st' (uq G o f) r) : SS M T pc lv st G r := by
  intro hI out ho
  have hd := hdd hI
  have h0 : (uq G o f) 0 = G 0 := uq_0 G (by have := hI.1.1 _ _ _ hd; omega)
  have hoG : okG (mL M) (uq G o f) := okG.set hI.2.1 hd h0 (fun o' h => uq_o G h) (hok hI).2
  obtain ⟨h1, h2⟩ := kk ⟨hI.1, hoG, by rw [h0]; exact hI.2.2.1, by rw [h0]; exact (hok hI).1⟩ out ho
  refine ⟨⟨(mn.eq h0).tr h1.1, h1.2⟩, ?_⟩
  intro p l e R s m args below meth c ω A C ad ad0 E0 H locs ls c0 s0 a1 a2 a3 a4 a5 a6 a7 a8 a9 a10
  refine hW hI C ad a4 a5 a6.1 (fun H1 L hLb z1 oq hc => ?_)
  have hS1 : va_S A s.heap H1 (locs ++ L) := by
    refine ⟨by rw [z1]; exact a5.1, fun q g1 g2 => ?_, fun q hq => ?_⟩
    · rw [oq q (fun e => g2 (by rw [e]; exact a4.2.2 _ _ hd))]
      exact a5.2.1 q g1 g2
    · rcases List.mem_append.mp hq with h | h
      · exact a5.2.2 q h
      · rw [hLb q h]
        exact a4.2.2 _ _ hd
  have := h2 p l e R s m args below meth c ω A C ad ad0 E0 H1 (locs ++ L) ls c0 s0 a1 a2 (by rw [h0]; exact a3) (a4.set hd h0 (fun o' h => uq_o G h) hc oq) hS1 a6 (by rw [h0]; exact a7) (by rw [h0]; exact a8) a9 a10
  rw [h0] at this
  exact this
theorem r_acopy (q tag : Nat) {o sp o' dp n ns nd : Int} {idx : Nat} (d : decode (mC M) pc = .ok (.invokestatic idx, 3)) (F : Cond.methodLink (mY M).cls idx arraycopyName ∈ lw_all) (htag : tag = 0 ∨ tag = 1) (ha : pr (mL M) (G 0) o → 0 ≤ ns → (mL M).1 (G 0) o = some (.inr (tag, ns))) (ho : 0 ≤ ns → 0 ≤ o) (ha' : pr (mL M) (G 0) o' → 0 ≤ nd → (mL M).1 (G 0) o' = some (.inr (tag, nd))) (ho' : 0 ≤ nd → 0 ≤ o') (hF : 1 ≤ mF M) (hWd : 60 ≤ mW M) (hs8 : Nat.ble (nsl st) 8 = true) (hq : pc + 3 = q) (kk : SS M T q lv st (acp G o sp o' dp n) r) : SS M T pc lv (aI n :: aI dp :: aR o' :: aI sp :: aR o :: st) G (ckA sp n ns (ckA dp n nd r)) := by
  subst hq
  have h8 : nsl st ≤ 8 := Nat.le_of_ble_eq_true hs8
  refine ss_ckA (fun s1 n1 s2 => ss_ckA (fun d1 _ d2 => ?_))
  have hdo : okI M lv (aI n :: aI dp :: aR o' :: aI sp :: aR o :: st) G → (mL M).1 (G 0) o = some (.inr (tag, ns)) := fun hI => ha (top_pr (al_h (al_t (al_t (al_t (al_t hI.2.2.2))))) (ho (by omega))) (by omega)
  have hdd : okI M lv (aI n :: aI dp :: aR o' :: aI sp :: aR o :: st) G → (mL M).1 (G 0) o' = some (.inr (tag, nd)) := fun hI => ha' (top_pr (al_h (al_t (al_t hI.2.2.2))) (ho' (by omega))) (by omega)
  refine ss_uq _ st (dd := .inr (tag, nd)) hdd (fun hI => ⟨al_t (al_t (al_t (al_t (al_t hI.2.2.2)))), fun j j0 j1 => ?_⟩) (fun hI p l e R s m args below meth c ω A C H locs ls cells slots Q ad hP hS hls w => ?_) kk
  · have h100 := hI.1.1 _ _ _ (hdd hI)
    rw [uq_0 G (by omega), uq_s]
    by_cases e : dp ≤ j ∧ j < dp + n
    · rw [if_pos e]
      have h := hI.2.1 o _ (hdo hI) (sp + (j - dp)) (by omega) (by omega)
      rcases htag with rfl | rfl <;> exact h
    · rw [if_neg e]
      exact hI.2.1 o' _ (hdd hI) j j0 j1
  · have hns := hI.1.2 _ _ _ _ (hdo hI)
    have hnd := hI.1.2 _ _ _ _ (hdd hI)
    have hts := C.2.2.2.2.2.2.1
    have hc0 := hP.1 o _ (hdo hI)
    have hc1 := hP.1 o' _ (hdd hI)
    have f1 := C.2.2.2.2.2.2.2.2.2.1
    have f2 := C.2.2.2.2.2.2.2.2.2.2.1
    have hty : refKind (tgFT tag) = false := by rcases htag with rfl | rfl <;> rfl
    obtain ⟨c1, c2⟩ := cl32b s1 (by omega)
    obtain ⟨c3, c4⟩ := cl32b d1 (by omega)
    obtain ⟨c5, c6⟩ := cl32b n1 (by omega)
    have t9 : tag < 9 := by rcases htag with rfl | rfl <;> decide
    have hA := (tys_at C.2.2.2.2.2.2.2.2.1.1 t9).1
    obtain ⟨-, k0, hk0, cm0, hkk0⟩ := hA ns.toNat (fun j => cv ad (gl tag j (G o j)))
    obtain ⟨-, k1, hk1, cm1, hkk1⟩ := hA nd.toNat (fun j => cv ad (gl tag j (G o' j)))
    rw [List.map_cons, List.map_cons, List.map_cons, List.map_cons, List.map_cons, dr_ref ad (ho (by omega)), dr_ref ad (ho' (by omega))]
    have hnf : nativeFrameWords "java/lang/System" "arraycopy" 5 + 11 ≤ 52 := by decide +kernel
    have hlocs : 2 * (F0 m pc ls (.int (Int32.ofInt n) :: .int (Int32.ofInt dp) :: .ref (ad o') :: .int (Int32.ofInt sp) :: .ref (ad o) :: st.map (cv ad))).monitorRoom + ((st.map (cv ad)).map fun v => v.category).sum + (nativeFrameWords "java/lang/System" "arraycopy" 5 + 11) ≤ R.locals := by
      show 2 * 0 + _ + _ ≤ _
      rw [cat_sum]
      omega
    intro T1 hT X
    obtain ⟨vm', X', step⟩ := X.arraycopy C.1 C.2.2.2.2.2.1 (hts _ F) (hts _ q933) (hts _ q932) (hts _ q228) (src := ad o) (dst := ad o') (cs := arrV (ω.2.1 tag) ns.toNat (fun j => cv ad (gl tag j (G o j)))) (cd := arrV (ω.2.1 tag) nd.toNat (fun j => cv ad (gl tag j (G o' j)))) (srcPos := Int32.ofInt sp) (destPos := Int32.ofInt dp) (n := Int32.ofInt n) (by rw [hT]; exact hc0) (by rw [hT]; exact hc1)
      (fun _ h => by cases h) (fun _ h => by cases h) (fun h => by cases h) (fun h => by cases h) hk0 hk1 hkk0 hkk1 (by simp [hty]) c2 c4 c6
      (by rw [t32i ⟨by omega, by omega⟩, t32i ⟨by omega, by omega⟩, arrV_size]; omega)
      (by rw [t32i ⟨by omega, by omega⟩, t32i ⟨by omega, by omega⟩, arrV_size]; omega)
      (fun vm₁ _ i hi => by
        rw [c5] at hi
        have e : (arrV (ω.2.1 tag) ns.toNat (fun j => cv ad (gl tag j (G o j)))).slots.getD ((Int32.ofInt sp).toNatClampNeg + i) .null = cv ad (gl tag ((sp.toNat + i : Nat) : Int) (G o ((sp.toNat + i : Nat) : Int))) := by
          rw [Array.getD_eq_getD_getElem?, c1, arrV_read _ _ (by omega)]
          rfl
        have hok := hI.2.1 o _ (hdo hI) ((sp.toNat + i : Nat) : Int) (by omega) (by omega)
        rw [e]
        rcases htag with rfl | rfl
        · exact ⟨rfl, trivial⟩
        · refine ⟨?_, trivial⟩
          have hb : -128 ≤ G o ((sp.toNat + i : Nat) : Int) ∧ G o ((sp.toNat + i : Nat) : Int) < 128 := hok
          show (decide (-128 ≤ Int32.ofInt _) && decide (Int32.ofInt _ ≤ 127)) = true
          rw [Bool.and_eq_true, decide_eq_true_eq, decide_eq_true_eq]
          have hz : i32 (G o ((sp.toNat + i : Nat) : Int)) := ⟨by omega, by omega⟩
          exact ⟨(le32 (x := -128) ⟨by omega, by omega⟩ hz).mpr hb.1, (le32 (y := 127) hz ⟨by omega, by omega⟩).mpr (by omega)⟩)
      (g := F0 m pc ls (.int (Int32.ofInt n) :: .int (Int32.ofInt dp) :: .ref (ad o') :: .int (Int32.ofInt sp) :: .ref (ad o) :: st.map (cv ad))) rfl (by rw [C.2.2.1]; exact hls) (rest := st.map (cv ad)) rfl (by rw [C.2.1]; exact d) (by omega) hlocs
    have e1 : copied (arrV (ω.2.1 tag) ns.toNat (fun j => cv ad (gl tag j (G o j)))) (arrV (ω.2.1 tag) nd.toNat (fun j => cv ad (gl tag j (G o' j)))) (Int32.ofInt sp) (Int32.ofInt dp) (Int32.ofInt n) = arrV (ω.2.1 tag) nd.toNat (fun j => cv ad (gl tag j (acp G o sp o' dp n o' j))) := by
      have e2 := va_copied (fun z : Int => cv ad (gl tag 0 z)) (ω.2.1 tag) (ω.2.1 tag) (n0 := ns.toNat) (n1 := nd.toNat) (sp := sp.toNat) (dp := dp.toNat) (n := n.toNat) (fun j => G o j) (fun j => G o' j) (by omega)
      have g0 : ∀ (j : Nat) (z : Int), gl tag j z = gl tag 0 z := by intro j z; rcases htag with rfl | rfl <;> rfl
      unfold copied
      rw [c1, c3, c5]
      simp only [g0]
      rw [e2]
      congr 1
      funext j
      congr 2
      show va_cpy _ _ _ _ _ j = (uq G o' _) o' j
      rw [uq_s]
      unfold va_cpy
      by_cases h : dp.toNat ≤ j ∧ j < dp.toNat + n.toNat
      · rw [if_pos h, if_pos (by omega)]
        show G o ((sp.toNat + (j - dp.toNat) : Nat) : Int) = _
        rw [show ((sp.toNat + (j - dp.toNat) : Nat) : Int) = sp + (j - dp) by omega]
      · rw [if_neg h, if_neg (by omega)]
    rw [e1] at X' step
    have hl : ad o' < H.size := (Array.getElem?_eq_some_iff.mp hc1).1
    generalize hcell : arrV (ω.2.1 tag) nd.toNat (fun j => cv ad (gl tag j (acp G o sp o' dp n o' j))) = newc at X' step
    have hheap : ((T1.setVm vm').setCell (ad o') newc).heap = H.setIfInBounds (ad o') newc := by rw [← hT]; rfl
    obtain ⟨t, a1, b1⟩ := w _ _ (fun q hq => by obtain ⟨z, -, hz⟩ := List.mem_map.mp hq; rw [← hz]) (by simp) (fun q hq => by simp [Array.getElem?_setIfInBounds, Ne.symm hq]) (by
      show (H.setIfInBounds (ad o') newc)[ad o']? = some (arrV _ _ _)
      rw [show (H.setIfInBounds (ad o') newc)[ad o']? = some newc by simp [Array.getElem?_setIfInBounds, hl], ← hcell]
      rfl) _ hheap X'
    exact ⟨t, step t a1, b1⟩
end SPC
