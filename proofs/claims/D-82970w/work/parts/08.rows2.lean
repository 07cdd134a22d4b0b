/-! ROWS: branches, switches, returns -/
/-- a table switch -/
def swt {α : Type} (x : Int) : Int → List α → α → α
  | _, [], d => d
  | lo, r :: t, d => if x = lo then r else swt x (lo + 1) t d
theorem swt_out {α : Type} {x : Int} {d : α} : ∀ (rs : List α) (lo : Int), (x < lo ∨ lo + rs.length ≤ x) → swt x lo rs d = d := by
  intro rs
  induction rs with
  | nil => intro lo h; rfl
  | cons a t ih =>
    intro lo h
    simp only [List.length_cons] at h
    rw [swt, if_neg (by omega)]
    exact ih (lo + 1) (by omega)
theorem swt_in {α : Type} {x : Int} {d : α} : ∀ (rs : List α) (lo : Int) (i : Nat) (r : α), rs[i]? = some r → x = lo + i → swt x lo rs d = r := by
  intro rs
  induction rs with
  | nil => intro lo i r h; simp at h
  | cons a t ih =>
    intro lo i r h hx
    cases i with
    | zero =>
      simp at h
      subst h
      rw [swt, if_pos (by omega)]
    | succ i =>
      simp at h
      rw [swt, if_neg (by omega)]
      exact ih (lo + 1) i r h (by omega)

section ROWS2
variable {ρ : Type} {M : Mt} {T : ρ → Option (Int × St)} {pc : Nat} {lv lv' : List (Nat × AV)} {st st' : List AV} {G : St} {r r' : Option ρ}
theorem i32_0 : i32 0 := ⟨by decide, by decide⟩
theorem ss_br {P : Prop} [Decidable P] (pt pf : Nat) (st' : List AV) (hok : okI M lv st G → ∀ v ∈ st', okV (mL M) (G 0) v)
    (hW : okI M lv st G → ∀ {p : Program} {l : Launch} {e : Env} {R : Room} {s : State} {m : MethodId} {args : Array Value} {below : List Frame} {meth : Method} {c : Code} {ω : Wd} {A : Nat → Prop}, CX M p R s m args meth c ω A →
      ∀ {H : Heap} {locs : List Loc} {ls : Array Slot} {cells slots : Nat} {Q : State → Prop} (ad : Int → Nat), (∀ k : Nat, k < 100 → ad k = ω.2.2.1 k) → (P → W p l e R s m args below meth c H locs cells slots Q (F0 m pt ls (st'.map (cv ad)))) → (¬ P → W p l e R s m args below meth c H locs cells slots Q (F0 m pf ls (st'.map (cv ad)))) → W p l e R s m args below meth c H locs cells slots Q (F0 m pc ls (st.map (cv ad))))
    (kt : SS M T pt lv st' G r) (kf : SS M T pf lv st' G r') : SS M T pc lv st G (if P then r else r') := by
  intro hI out ho
  by_cases h : P
  · rw [if_pos h] at ho
    obtain ⟨h1, h2⟩ := kt ⟨hI.1, hI.2.1, hI.2.2.1, hok hI⟩ out ho
    refine ⟨h1, ?_⟩
    intro p l e R s m args below meth c ω A C ad ad0 E0 H locs ls c0 s0 a1 a2 a3 a4 a5 a6 a7 a8 a9 a10
    exact hW hI C ad a1 (fun _ => h2 p l e R s m args below meth c ω A C ad ad0 E0 H locs ls c0 s0 a1 a2 a3 a4 a5 a6 a7 a8 a9 a10) (fun q => absurd h q)
  · rw [if_neg h] at ho
    obtain ⟨h1, h2⟩ := kf ⟨hI.1, hI.2.1, hI.2.2.1, hok hI⟩ out ho
    refine ⟨h1, ?_⟩
    intro p l e R s m args below meth c ω A C ad ad0 E0 H locs ls c0 s0 a1 a2 a3 a4 a5 a6 a7 a8 a9 a10
    exact hW hI C ad a1 (fun q => absurd q h) (fun _ => h2 p l e R s m args below meth c ω A C ad ad0 E0 H locs ls c0 s0 a1 a2 a3 a4 a5 a6 a7 a8 a9 a10)
theorem r_goto (q : Nat) {off : Int} (d : decode (mC M) pc = .ok (.goto off, 3)) (ht : (pc : Int) + off = (q : Int)) (k : SS M T q lv st G r) : SS M T pc lv st G r :=
  ss_st q st (fun hI => hI.2.2.2) (fun hI _ _ _ _ _ _ _ _ _ _ _ _ C _ _ _ _ _ _ ad _ _ _ hl _ w => lv_goto C.1 C.2.1 d ht w) k
theorem r_icmp_eq (tgt q : Nat) {x y off : Int} (d : decode (mC M) pc = .ok (.if_icmp .eq off, 3)) (ht : (pc : Int) + off = (tgt : Int)) (hq : pc + 3 = q) (kt : SS M T tgt lv st G r) (kf : SS M T q lv st G r') : SS M T pc lv (aI y :: aI x :: st) G (if x = y then r else r') := by
  subst hq
  refine ss_br tgt (pc + 3) st (fun hI => al_t (al_t hI.2.2.2)) (fun hI _ _ _ _ _ _ _ _ _ _ _ _ C _ _ _ _ _ _ ad _ wt wf => ?_) kt kf
  have hy : i32 y := al_h hI.2.2.2
  have hx : i32 x := al_h (al_t hI.2.2.2)
  exact lv_icmp_eq (x := Int32.ofInt x) (y := Int32.ofInt y) C.1 C.2.1 d ht (fun q => wt ((eq32 hx hy).mp q)) (fun q => wf (fun q2 => q ((eq32 hx hy).mpr q2)))
theorem r_icmp_ne (tgt q : Nat) {x y off : Int} (d : decode (mC M) pc = .ok (.if_icmp .ne off, 3)) (ht : (pc : Int) + off = (tgt : Int)) (hq : pc + 3 = q) (kt : SS M T tgt lv st G r) (kf : SS M T q lv st G r') : SS M T pc lv (aI y :: aI x :: st) G (if x = y then r' else r) := by
  subst hq
  refine ss_br (pc + 3) tgt st (fun hI => al_t (al_t hI.2.2.2)) (fun hI _ _ _ _ _ _ _ _ _ _ _ _ C _ _ _ _ _ _ ad _ wt wf => ?_) kf kt
  have hy : i32 y := al_h hI.2.2.2
  have hx : i32 x := al_h (al_t hI.2.2.2)
  exact lv_icmp_ne (x := Int32.ofInt x) (y := Int32.ofInt y) C.1 C.2.1 d ht (fun q => wf (fun q2 => q ((eq32 hx hy).mpr q2))) (fun q => wt ((eq32 hx hy).mp q))
theorem r_icmp_lt (tgt q : Nat) {x y off : Int} (d : decode (mC M) pc = .ok (.if_icmp .lt off, 3)) (ht : (pc : Int) + off = (tgt : Int)) (hq : pc + 3 = q) (kt : SS M T tgt lv st G r) (kf : SS M T q lv st G r') : SS M T pc lv (aI y :: aI x :: st) G (if x < y then r else r') := by
  subst hq
  refine ss_br tgt (pc + 3) st (fun hI => al_t (al_t hI.2.2.2)) (fun hI _ _ _ _ _ _ _ _ _ _ _ _ C _ _ _ _ _ _ ad _ wt wf => ?_) kt kf
  have hy : i32 y := al_h hI.2.2.2
  have hx : i32 x := al_h (al_t hI.2.2.2)
  exact lv_icmp_lt (x := Int32.ofInt x) (y := Int32.ofInt y) C.1 C.2.1 d ht (fun q => wt ((lt32 hx hy).mp q)) (fun q => wf (fun q2 => q ((lt32 hx hy).mpr q2)))
theorem r_icmp_ge (tgt q : Nat) {x y off : Int} (d : decode (mC M) pc = .ok (.if_icmp .ge off, 3)) (ht : (pc : Int) + off = (tgt : Int)) (hq : pc + 3 = q) (kt : SS M T tgt lv st G r) (kf : SS M T q lv st G r') : SS M T pc lv (aI y :: aI x :: st) G (if x < y then r' else r) := by
  subst hq
  refine ss_br (pc + 3) tgt st (fun hI => al_t (al_t hI.2.2.2)) (fun hI _ _ _ _ _ _ _ _ _ _ _ _ C _ _ _ _ _ _ ad _ wt wf => ?_) kf kt
  have hy : i32 y := al_h hI.2.2.2
  have hx : i32 x := al_h (al_t hI.2.2.2)
  exact lv_icmp_ge (x := Int32.ofInt x) (y := Int32.ofInt y) C.1 C.2.1 d ht (fun q => wf (by have := (le32 hy hx).mp q; omega)) (fun q => wt (Int.not_le.mp fun z => q ((le32 hy hx).mpr z)))
theorem r_icmp_gt (tgt q : Nat) {x y off : Int} (d : decode (mC M) pc = .ok (.if_icmp .gt off, 3)) (ht : (pc : Int) + off = (tgt : Int)) (hq : pc + 3 = q) (kt : SS M T tgt lv st G r) (kf : SS M T q lv st G r') : SS M T pc lv (aI y :: aI x :: st) G (if y < x then r else r') := by
  subst hq
  refine ss_br tgt (pc + 3) st (fun hI => al_t (al_t hI.2.2.2)) (fun hI _ _ _ _ _ _ _ _ _ _ _ _ C _ _ _ _ _ _ ad _ wt wf => ?_) kt kf
  have hy : i32 y := al_h hI.2.2.2
  have hx : i32 x := al_h (al_t hI.2.2.2)
  exact lv_icmp_gt (x := Int32.ofInt x) (y := Int32.ofInt y) C.1 C.2.1 d ht (fun q => wt ((lt32 hy hx).mp q)) (fun q => wf (fun q2 => q ((lt32 hy hx).mpr q2)))
theorem r_icmp_le (tgt q : Nat) {x y off : Int} (d : decode (mC M) pc = .ok (.if_icmp .le off, 3)) (ht : (pc : Int) + off = (tgt : Int)) (hq : pc + 3 = q) (kt : SS M T tgt lv st G r) (kf : SS M T q lv st G r') : SS M T pc lv (aI y :: aI x :: st) G (if y < x then r' else r) := by
  subst hq
  refine ss_br (pc + 3) tgt st (fun hI => al_t (al_t hI.2.2.2)) (fun hI _ _ _ _ _ _ _ _ _ _ _ _ C _ _ _ _ _ _ ad _ wt wf => ?_) kf kt
  have hy : i32 y := al_h hI.2.2.2
  have hx : i32 x := al_h (al_t hI.2.2.2)
  exact lv_icmp_le (x := Int32.ofInt x) (y := Int32.ofInt y) C.1 C.2.1 d ht (fun q => wf (by have := (le32 hx hy).mp q; omega)) (fun q => wt (Int.not_le.mp fun z => q ((le32 hx hy).mpr z)))
theorem r_if_eq (tgt q : Nat) {x off : Int} (d : decode (mC M) pc = .ok (.ifCond .eq off, 3)) (ht : (pc : Int) + off = (tgt : Int)) (hq : pc + 3 = q) (kt : SS M T tgt lv st G r) (kf : SS M T q lv st G r') : SS M T pc lv (aI x :: st) G (if x = 0 then r else r') := by
  subst hq
  refine ss_br tgt (pc + 3) st (fun hI => al_t hI.2.2.2) (fun hI _ _ _ _ _ _ _ _ _ _ _ _ C _ _ _ _ _ _ ad _ wt wf => ?_) kt kf
  have hy : i32 0 := i32_0
  have hx : i32 x := al_h hI.2.2.2
  exact lv_if_eq (x := Int32.ofInt x) C.1 C.2.1 d ht (fun q => wt ((eq32 hx hy).mp q)) (fun q => wf (fun q2 => q ((eq32 hx hy).mpr q2)))
theorem r_if_ne (tgt q : Nat) {x off : Int} (d : decode (mC M) pc = .ok (.ifCond .ne off, 3)) (ht : (pc : Int) + off = (tgt : Int)) (hq : pc + 3 = q) (kt : SS M T tgt lv st G r) (kf : SS M T q lv st G r') : SS M T pc lv (aI x :: st) G (if x = 0 then r' else r) := by
  subst hq
  refine ss_br (pc + 3) tgt st (fun hI => al_t hI.2.2.2) (fun hI _ _ _ _ _ _ _ _ _ _ _ _ C _ _ _ _ _ _ ad _ wt wf => ?_) kf kt
  have hy : i32 0 := i32_0
  have hx : i32 x := al_h hI.2.2.2
  exact lv_if_ne (x := Int32.ofInt x) C.1 C.2.1 d ht (fun q => wf (fun q2 => q ((eq32 hx hy).mpr q2))) (fun q => wt ((eq32 hx hy).mp q))
theorem r_if_lt (tgt q : Nat) {x off : Int} (d : decode (mC M) pc = .ok (.ifCond .lt off, 3)) (ht : (pc : Int) + off = (tgt : Int)) (hq : pc + 3 = q) (kt : SS M T tgt lv st G r) (kf : SS M T q lv st G r') : SS M T pc lv (aI x :: st) G (if x < 0 then r else r') := by
  subst hq
  refine ss_br tgt (pc + 3) st (fun hI => al_t hI.2.2.2) (fun hI _ _ _ _ _ _ _ _ _ _ _ _ C _ _ _ _ _ _ ad _ wt wf => ?_) kt kf
  have hy : i32 0 := i32_0
  have hx : i32 x := al_h hI.2.2.2
  exact lv_if_lt (x := Int32.ofInt x) C.1 C.2.1 d ht (fun q => wt ((lt32 hx hy).mp q)) (fun q => wf (fun q2 => q ((lt32 hx hy).mpr q2)))
theorem r_if_ge (tgt q : Nat) {x off : Int} (d : decode (mC M) pc = .ok (.ifCond .ge off, 3)) (ht : (pc : Int) + off = (tgt : Int)) (hq : pc + 3 = q) (kt : SS M T tgt lv st G r) (kf : SS M T q lv st G r') : SS M T pc lv (aI x :: st) G (if x < 0 then r' else r) := by
  subst hq
  refine ss_br (pc + 3) tgt st (fun hI => al_t hI.2.2.2) (fun hI _ _ _ _ _ _ _ _ _ _ _ _ C _ _ _ _ _ _ ad _ wt wf => ?_) kf kt
  have hy : i32 0 := i32_0
  have hx : i32 x := al_h hI.2.2.2
  exact lv_if_ge (x := Int32.ofInt x) C.1 C.2.1 d ht (fun q => wf (by have := (le32 hy hx).mp q; omega)) (fun q => wt (Int.not_le.mp fun z => q ((le32 hy hx).mpr z)))
theorem r_if_gt (tgt q : Nat) {x off : Int} (d : decode (mC M) pc = .ok (.ifCond .gt off, 3)) (ht : (pc : Int) + off = (tgt : Int)) (hq : pc + 3 = q) (kt : SS M T tgt lv st G r) (kf : SS M T q lv st G r') : SS M T pc lv (aI x :: st) G (if 0 < x then r else r') := by
  subst hq
  refine ss_br tgt (pc + 3) st (fun hI => al_t hI.2.2.2) (fun hI _ _ _ _ _ _ _ _ _ _ _ _ C _ _ _ _ _ _ ad _ wt wf => ?_) kt kf
  have hy : i32 0 := i32_0
  have hx : i32 x := al_h hI.2.2.2
  exact lv_if_gt (x := Int32.ofInt x) C.1 C.2.1 d ht (fun q => wt ((lt32 hy hx).mp q)) (fun q => wf (fun q2 => q ((lt32 hy hx).mpr q2)))
theorem r_if_le (tgt q : Nat) {x off : Int} (d : decode (mC M) pc = .ok (.ifCond .le off, 3)) (ht : (pc : Int) + off = (tgt : Int)) (hq : pc + 3 = q) (kt : SS M T tgt lv st G r) (kf : SS M T q lv st G r') : SS M T pc lv (aI x :: st) G (if 0 < x then r' else r) := by
  subst hq
  refine ss_br (pc + 3) tgt st (fun hI => al_t hI.2.2.2) (fun hI _ _ _ _ _ _ _ _ _ _ _ _ C _ _ _ _ _ _ ad _ wt wf => ?_) kf kt
  have hy : i32 0 := i32_0
  have hx : i32 x := al_h hI.2.2.2
  exact lv_if_le (x := Int32.ofInt x) C.1 C.2.1 d ht (fun q => wf (by have := (le32 hx hy).mp q; omega)) (fun q => wt (Int.not_le.mp fun z => q ((le32 hx hy).mpr z)))
theorem cm_lt {x y : Int} : (j_cm x y < 0) ↔ x < y := by
  unfold j_cm
  split
  · constructor <;> intro h <;> omega
  · split <;> constructor <;> intro h <;> omega
theorem cm_gt {x y : Int} : (0 < j_cm x y) ↔ y < x := by
  unfold j_cm
  split
  · constructor <;> intro h <;> omega
  · split <;> constructor <;> intro h <;> omega
theorem cm_eq0 {x y : Int} : (j_cm x y = 0) ↔ x = y := by
  unfold j_cm
  split
  · constructor <;> intro h <;> omega
  · split <;> constructor <;> intro h <;> omega
theorem r_lif_eq (q1 tgt q : Nat) {x y off : Int} (d1 : decode (mC M) pc = .ok (.lcmp, 1)) (h1 : pc + 1 = q1) (d : decode (mC M) q1 = .ok (.ifCond .eq off, 3)) (ht : (q1 : Int) + off = (tgt : Int)) (hq : q1 + 3 = q) (kt : SS M T tgt lv st G r) (kf : SS M T q lv st G r') : SS M T pc lv (aL y :: aL x :: st) G (if x = y then r else r') := by
  refine r_lcmp q1 d1 h1 ?_
  have h := r_if_eq (x := j_cm x y) tgt q d ht hq kt kf
  simp only [cm_eq0] at h
  exact h
theorem r_lif_ne (q1 tgt q : Nat) {x y off : Int} (d1 : decode (mC M) pc = .ok (.lcmp, 1)) (h1 : pc + 1 = q1) (d : decode (mC M) q1 = .ok (.ifCond .ne off, 3)) (ht : (q1 : Int) + off = (tgt : Int)) (hq : q1 + 3 = q) (kt : SS M T tgt lv st G r) (kf : SS M T q lv st G r') : SS M T pc lv (aL y :: aL x :: st) G (if x = y then r' else r) := by
  refine r_lcmp q1 d1 h1 ?_
  have h := r_if_ne (x := j_cm x y) tgt q d ht hq kt kf
  simp only [cm_eq0] at h
  exact h
theorem r_lif_lt (q1 tgt q : Nat) {x y off : Int} (d1 : decode (mC M) pc = .ok (.lcmp, 1)) (h1 : pc + 1 = q1) (d : decode (mC M) q1 = .ok (.ifCond .lt off, 3)) (ht : (q1 : Int) + off = (tgt : Int)) (hq : q1 + 3 = q) (kt : SS M T tgt lv st G r) (kf : SS M T q lv st G r') : SS M T pc lv (aL y :: aL x :: st) G (if x < y then r else r') := by
  refine r_lcmp q1 d1 h1 ?_
  have h := r_if_lt (x := j_cm x y) tgt q d ht hq kt kf
  simp only [cm_lt] at h
  exact h
theorem r_lif_ge (q1 tgt q : Nat) {x y off : Int} (d1 : decode (mC M) pc = .ok (.lcmp, 1)) (h1 : pc + 1 = q1) (d : decode (mC M) q1 = .ok (.ifCond .ge off, 3)) (ht : (q1 : Int) + off = (tgt : Int)) (hq : q1 + 3 = q) (kt : SS M T tgt lv st G r) (kf : SS M T q lv st G r') : SS M T pc lv (aL y :: aL x :: st) G (if x < y then r' else r) := by
  refine r_lcmp q1 d1 h1 ?_
  have h := r_if_ge (x := j_cm x y) tgt q d ht hq kt kf
  simp only [cm_lt] at h
  exact h
theorem r_lif_gt (q1 tgt q : Nat) {x y off : Int} (d1 : decode (mC M) pc = .ok (.lcmp, 1)) (h1 : pc + 1 = q1) (d : decode (mC M) q1 = .ok (.ifCond .gt off, 3)) (ht : (q1 : Int) + off = (tgt : Int)) (hq : q1 + 3 = q) (kt : SS M T tgt lv st G r) (kf : SS M T q lv st G r') : SS M T pc lv (aL y :: aL x :: st) G (if y < x then r else r') := by
  refine r_lcmp q1 d1 h1 ?_
  have h := r_if_gt (x := j_cm x y) tgt q d ht hq kt kf
  simp only [cm_gt] at h
  exact h
theorem r_lif_le (q1 tgt q : Nat) {x y off : Int} (d1 : decode (mC M) pc = .ok (.lcmp, 1)) (h1 : pc + 1 = q1) (d : decode (mC M) q1 = .ok (.ifCond .le off, 3)) (ht : (q1 : Int) + off = (tgt : Int)) (hq : q1 + 3 = q) (kt : SS M T tgt lv st G r) (kf : SS M T q lv st G r') : SS M T pc lv (aL y :: aL x :: st) G (if y < x then r' else r) := by
  refine r_lcmp q1 d1 h1 ?_
  have h := r_if_le (x := j_cm x y) tgt q d ht hq kt kf
  simp only [cm_gt] at h
  exact h
def SLs {ρ : Type} (M : Mt) (T : ρ → Option (Int × St)) (lv : List (Nat × AV)) (st : List AV) (G : St) : List (Nat × Option ρ) → Prop
  | [] => True
  | (t, r) :: l => SS M T t lv st G r ∧ SLs M T lv st G l
theorem SLs.at : ∀ {l : List (Nat × Option ρ)}, SLs M T lv st G l → ∀ (i : Nat) (q : Nat × Option ρ), l[i]? = some q → SS M T q.1 lv st G q.2 := by
  intro l
  induction l with
  | nil => intro _ i q h; simp at h
  | cons a t ih =>
    intro h i q hq
    cases i with
    | zero => simp at hq; subst hq; exact h.1
    | succ i => simp at hq; exact ih h.2 i q hq
theorem r_tsw {dflt lo hi : Int} {offs : Array Int} {len : Nat} {x : Int} (tD : Nat) (l : List (Nat × Option ρ)) (d : decode (mC M) pc = .ok (.tableswitch dflt lo hi offs, len)) (hD : (pc : Int) + dflt = (tD : Int)) (hh : hi = lo + l.length - 1) (ho : offs.toList.map (fun off => (pc : Int) + off) = l.map (fun q => (q.1 : Int))) (hl : SLs M T lv st G l) (kd : SS M T tD lv st G r) : SS M T pc lv (aI x :: st) G (swt x lo (l.map (fun q => q.2)) r) := by
  intro hI out hout
  have hx : i32 x := al_h hI.2.2.2
  have hI' : okI M lv st G := ⟨hI.1, hI.2.1, hI.2.2.1, al_t hI.2.2.2⟩
  by_cases hin : lo ≤ x ∧ x ≤ hi
  · have hi1 : (x - lo).toNat < l.length := by omega
    obtain ⟨q, hq⟩ : ∃ q, l[(x - lo).toNat]? = some q := ⟨_, List.getElem?_eq_getElem hi1⟩
    rw [swt_in (l.map (fun q => q.2)) lo (x - lo).toNat q.2 (by simp [hq]) (by omega)] at hout
    obtain ⟨h1, h2⟩ := hl.at _ q hq hI' out hout
    refine ⟨h1, ?_⟩
    intro p le e R s m args below meth c ω A C ad ad0 E0 H locs ls c0 s0 a1 a2 a3 a4 a5 a6 a7 a8 a9 a10
    have hx2 : (Int32.ofInt x).toInt = x := t32i hx
    have hof : (offs.toList.map (fun off => (pc : Int) + off))[(x - lo).toNat]? = some (q.1 : Int) := by rw [ho]; simp [hq]
    rw [List.getElem?_map] at hof
    cases hoo : offs.toList[(x - lo).toNat]? with
    | none => rw [hoo] at hof; cases hof
    | some off =>
      rw [hoo] at hof
      exact lv_tableIn (x := Int32.ofInt x) (off := off) (tgt := q.1) C.1 C.2.1 d (by rw [hx2]; omega) (by rw [hx2]; omega) (by rw [hx2, ← Array.getElem?_toList]; exact hoo) (Option.some.inj hof) (h2 p le e R s m args below meth c ω A C ad ad0 E0 H locs ls c0 s0 a1 a2 a3 a4 a5 a6 a7 a8 a9 a10)
  · rw [swt_out (l.map (fun q => q.2)) lo (by rw [List.length_map]; omega)] at hout
    obtain ⟨h1, h2⟩ := kd hI' out hout
    refine ⟨h1, ?_⟩
    intro p le e R s m args below meth c ω A C ad ad0 E0 H locs ls c0 s0 a1 a2 a3 a4 a5 a6 a7 a8 a9 a10
    exact lv_tableOut (x := Int32.ofInt x) (tgt := tD) C.1 C.2.1 d (by rw [t32i hx]; omega) hD (h2 p le e R s m args below meth c ω A C ad ad0 E0 H locs ls c0 s0 a1 a2 a3 a4 a5 a6 a7 a8 a9 a10)
/-- returns -/
theorem ss_ret {z : Int} (hz : okI M lv st G → okR (mL M) (G 0) (mR M) z)
    (hW : okI M lv st G → ∀ {p : Program} {l : Launch} {e : Env} {R : Room} {s : State} {m : MethodId} {args : Array Value} {below : List Frame} {meth : Method} {c : Code} {ω : Wd} {A : Nat → Prop}, CX M p R s m args meth c ω A →
      ∀ {H : Heap} {locs : List Loc} {ls : Array Slot} {cells slots : Nat} {Qc : Array Value → State → Outcome → State → Prop} (ad : Int → Nat), (∀ t : State, t.heap = H → s.WarmedH t.vm → Qc args s (.returned (rv ad (mR M) z)) t) → (∀ q ∈ locs, A q.base) → W p l e R s m args below meth c H locs cells slots (MQ below Qc args s cells slots A) (F0 m pc ls (st.map (cv ad)))) :
    SS M some pc lv st G (some (z, G)) := by
  intro hI out ho
  cases ho
  refine ⟨⟨mn.rf, hI.2.1, hz hI⟩, ?_⟩
  intro p l e R s m args below meth c ω A C ad ad0 E0 H locs ls c0 s0 a1 a2 a3 a4 a5 a6 a7 a8 a9 a10
  rw [a9, a10]
  exact hW hI C ad (fun t ht _ => ⟨⟨ad, rfl, a2, by rw [ht]; exact a4⟩, a5.F ht⟩) a5.2.2
theorem r_return (d : decode (mC M) pc = .ok (.return_, 1)) (hR : mR M = none) : SS M some pc lv [] G (some (0, G)) := by
  refine ss_ret (fun _ => by rw [hR]; exact trivial) (fun _ _ _ _ _ _ _ _ _ _ _ _ _ C _ _ _ _ _ _ ad hq hf => ?_)
  rw [hR] at hq
  exact W.vret C.1 C.2.1 (by rw [C.2.2.2.1]; exact hR) hq hf d C.2.2.2.2.1
theorem r_ireturn {x : Int} (d : decode (mC M) pc = .ok (.ireturn, 1)) (hR : mR M = some .int) : SS M some pc lv [aI x] G (some (x, G)) := by
  refine ss_ret (fun hI => by rw [hR]; exact al_h hI.2.2.2) (fun _ _ _ _ _ _ _ _ _ _ _ _ _ C _ _ _ _ _ _ ad hq hf => ?_)
  rw [hR] at hq
  exact W.iret C.1 C.2.1 (by rw [C.2.2.2.1]; exact hR) hq hf d C.2.2.2.2.1
theorem r_lreturn {x : Int} (d : decode (mC M) pc = .ok (.lreturn, 1)) (hR : mR M = some .long) : SS M some pc lv [aL x] G (some (x, G)) := by
  refine ss_ret (fun hI => by rw [hR]; exact al_h hI.2.2.2) (fun _ _ _ _ _ _ _ _ _ _ _ _ _ C _ _ _ _ _ _ ad hq hf => ?_)
  rw [hR] at hq
  exact W.lret C.1 C.2.1 (by rw [C.2.2.2.1]; exact hR) hq hf d C.2.2.2.2.1
theorem nar_b {z : Int} (h : 0 ≤ z ∧ z ≤ 1) : narrow .boolean (.int (Int32.ofInt z)) = .int (Int32.ofInt z) ∧ fits .boolean (.int (Int32.ofInt z)) = true := by
  have : z = 0 ∨ z = 1 := by omega
  rcases this with rfl | rfl
  · exact ⟨rfl, rfl⟩
  · exact ⟨rfl, rfl⟩
theorem r_areturn {x : Int} {ft : FieldType} (d : decode (mC M) pc = .ok (.areturn, 1)) (hR : mR M = some (.array ft)) : SS M some pc lv [aR x] G (some (x, G)) := by
  refine ss_ret (fun hI => by rw [hR]; exact al_h hI.2.2.2) (fun _ _ _ _ _ _ _ _ _ _ _ _ _ C _ _ _ _ _ _ ad hq hf => ?_)
  rw [hR] at hq
  refine W.aret (v := dr ad x) C.1 C.2.1 (by rw [C.2.2.2.1]; exact hR) (Or.inr ⟨_, rfl⟩) ?_ hq hf d C.2.2.2.2.1
  unfold dr
  split
  · exact Or.inl rfl
  · exact Or.inr ⟨_, rfl⟩
/-- a boolean's end: 0 or 1 -/
theorem r_zreturn {x : Int} (d : decode (mC M) pc = .ok (.ireturn, 1)) (hR : mR M = some .boolean) : SS M some pc lv [aI x] G (ckB x 2 (some (x, G))) := by
  refine ss_ckB (fun h0 h1 => ?_)
  have hx : 0 ≤ x ∧ x ≤ 1 := ⟨h0, by omega⟩
  refine ss_ret (fun hI => by rw [hR]; exact hx) (fun _ _ _ _ _ _ _ _ _ _ _ _ _ C _ _ _ _ _ _ ad hq hf => ?_)
  rw [hR] at hq
  exact W.zret C.1 C.2.1 (by rw [C.2.2.2.1]; exact hR) (nar_b hx).1 hq hf d C.2.2.2.2.1
end ROWS2
