/-! THE PURE STATE: ids of objects, their cells, what the heap must hold for them -/
abbrev AV : Type := Int ⊕ Int ⊕ Int
abbrev aI (x : Int) : AV := Sum.inl x
abbrev aL (x : Int) : AV := Sum.inr (Sum.inl x)
abbrev aR (o : Int) : AV := Sum.inr (Sum.inr o)
abbrev St : Type := Int → Int → Int
abbrev Dsc : Type := Nat ⊕ (Nat × Int)
/-- what an id is (object of a class, or array of a kind and length) by what is made already; whether final fields are known; parties and width -/
abbrev Lay : Type := ((Int → Int) → Int → Option Dsc) × Bool × Int × Int
def dr (ad : Int → Nat) (z : Int) : Value := if z < 0 then .null else .ref (ad z)
def cv (ad : Int → Nat) (v : AV) : Value := match v with
  | .inl x => .int (Int32.ofInt x)
  | .inr (.inl x) => .long (Int64.ofInt x)
  | .inr (.inr o) => dr ad o
/-- kinds of fields by class and number: 0 int, 1 long, 2 a final reference, 3 a reference or null, 4 boolean, 5 a final int, 6 a final long -/
def kdL : List (List Nat) := [[5, 5, 2, 2, 0, 2, 2, 2, 2, 2, 2, 2, 2, 2, 2, 2, 2, 2, 4, 4, 2, 2, 2, 0, 0], [2, 2, 2, 2, 0], [2, 2, 2, 0, 0], [0, 0], [2, 2, 2, 2, 0, 0, 0, 0, 4], [2, 0, 0, 0], [2], [2, 0, 0, 0, 0, 0, 5, 2, 2, 2, 0, 0, 0, 3, 0, 0], [2, 2, 2, 2, 2, 2, 0, 2, 0, 0, 0, 0, 0, 0, 2, 2, 2, 2, 0, 0, 5], [2, 2, 2, 2, 2, 0], [5, 2, 2, 2, 2, 2, 0, 0, 0, 0, 2, 2, 2, 0, 0, 2, 2, 2, 2, 2, 2, 2, 0, 2, 2, 2, 2, 2, 0, 0, 2, 2, 0, 2, 2, 2], [2, 5, 2, 2, 2, 2, 2], [2, 2, 5, 2, 2, 2, 2, 2, 2, 2, 2, 2, 0], [2, 5, 2, 2, 2, 2, 2, 0, 0, 0, 0, 3], [5, 5, 6, 2, 2, 0, 0, 0, 0, 0, 2, 2, 1, 0, 2, 2, 2, 2, 2, 0, 0, 2, 2, 2, 2, 4, 0, 2, 2, 0, 0, 0, 0, 2, 0, 2, 2, 2, 2, 2, 2, 2, 2, 0, 2, 2, 2, 4, 2, 0, 2, 2, 2, 2, 2, 2, 0, 2, 2, 0, 0, 0, 0, 0, 2, 0, 0, 0, 0, 0, 0, 2, 2, 2, 2, 0, 2, 2, 2, 2, 2, 2, 2, 4, 2, 0, 2, 2, 2, 2, 2, 2, 2, 2, 0, 2, 2, 0, 2, 2, 2, 0, 2, 2, 2, 2, 2, 2, 2, 2, 0, 2, 2, 2, 2, 0, 2, 2, 0, 4, 0, 0, 0, 2, 4, 2, 2, 2, 2, 2, 2, 0, 2, 2, 2, 2, 2, 2, 2, 0, 0, 2, 2, 2, 2, 0]]
def kdT (ci k : Nat) : Nat := (kdL.getD ci []).getD k 0
/-- what final fields hold, by class, number and object -/
def tgL (P W o : Int) : List (List Int) := [[P, W, 101, 102, 0, 110, 120, 130, 140, 150, 160, 180, 220, 103, 240, 104, 105, 107, 0, 0, 170, 171, 172, 0, 0], [111, 112, 113, 114, 0], [121, 122, 123, 0, 0], [0, 0], [141, 142, 143, 144, 0, 0, 0, 0, 0], [241, 0, 0, 0], [o + 1], [151, 0, 0, 0, 0, 0, P, 110, 120, 130, 0, 0, 0, 0, 0, 0], [110, 130, 190, 161, 162, 163, 0, 164, 0, 0, 0, 0, 0, 0, 165, 166, 167, 168, 0, 0, W], [191, 192, 193, 194, 195, 0], [W, 110, 130, 140, 210, 181, 0, 0, 0, 0, 182, 183, 184, 0, 0, 185, 186, 187, 188, 189, 196, 197, 0, 198, 199, 200, 201, 202, 0, 0, 203, 204, 0, 205, 206, 207], [140, W, 211, 212, 213, 214, 215], [140, 180, P, 221, 222, 223, 224, 225, 226, 227, 228, 229, 0], [220, (o - 1000) / 32, o + 1, o + 3, o + 5, o + 7, o + 9, 0, 0, 0, 0, 0], [P, W, 2 ^ W.toNat - 1, 104, 105, 0, 0, 0, 0, 0, 111, 112, 0, 0, 115, 116, 117, 118, 119, 0, 0, 122, 123, 124, 125, 0, 0, 128, 129, 0, 0, 0, 0, 134, 0, 136, 137, 138, 139, 140, 141, 142, 143, 0, 145, 146, 147, 0, 149, 0, 151, 152, 153, 154, 155, 156, 0, 158, 159, 0, 0, 0, 0, 0, 165, 0, 0, 0, 0, 0, 0, 172, 173, 174, 175, 0, 177, 178, 179, 180, 181, 182, 183, 0, 185, 0, 187, 188, 189, 190, 191, 192, 193, 194, 0, 196, 197, 0, 199, 200, 201, 0, 203, 204, 205, 206, 207, 208, 209, 210, 0, 212, 213, 214, 215, 0, 217, 218, 0, 0, 0, 0, 0, 224, 0, 226, 227, 228, 229, 230, 231, 0, 233, 234, 235, 236, 237, 238, 239, 0, 0, 242, 243, 244, 245, 0]]
def tgT (P W : Int) (ci k : Nat) (o : Int) : Int := ((tgL P W o).getD ci []).getD k 0
/-- the component: its single objects and arrays -/
def tabC (P W : Int) : List (Int × Dsc) := [(100, .inl 0), (101, .inr (1, 20)), (102, .inr (1, 4000)), (103, .inr (8, P)), (104, .inr (0, 256)), (105, .inl 6), (106, .inr (4, 129)), (107, .inl 6), (108, .inr (4, 754)), (110, .inl 1), (111, .inr (5, 12000)), (112, .inr (0, 12000)), (113, .inr (0, 12000)), (114, .inr (0, 12000)), (120, .inl 2), (121, .inr (1, 4000)), (122, .inr (0, 2001)), (123, .inr (0, 2001)), (130, .inl 3), (140, .inl 4), (141, .inr (0, 40000)), (142, .inr (0, 40000)), (143, .inr (3, 40000)), (144, .inr (2, 40000)), (150, .inl 7), (151, .inr (1, 4000)), (160, .inl 8), (161, .inr (0, 12000)), (162, .inr (0, 12000)), (163, .inr (2, 12000)), (164, .inr (0, 128)), (165, .inr (0, 4000)), (166, .inr (0, 4000)), (167, .inr (0, 4000)), (168, .inr (0, 4000)), (170, .inr (0, 3 * P * P)), (171, .inr (0, 3 * P * P)), (172, .inr (0, 3 * P * P)), (180, .inl 10), (181, .inr (0, W * 4000)), (182, .inr (0, 256)), (183, .inr (0, 256)), (184, .inr (0, 256)), (185, .inr (0, W * 256)), (186, .inr (0, 256)), (187, .inr (0, 31)), (188, .inr (0, 31)), (189, .inr (0, 31)), (190, .inl 9), (191, .inr (0, 4000)), (192, .inr (0, 4000)), (193, .inr (0, 4000)), (194, .inr (0, 4000)), (195, .inr (0, 4000)), (196, .inr (7, 31)), (197, .inr (7, 31)), (198, .inr (4, 31)), (199, .inr (4, 31)), (200, .inr (0, 4000)), (201, .inr (0, 4000)), (202, .inr (0, 4000)), (203, .inr (0, W * 500)), (204, .inr (0, 4000)), (205, .inr (0, W)), (206, .inr (0, W)), (207, .inr (0, W)), (210, .inl 11), (211, .inr (0, 40)), (212, .inr (0, 40)), (213, .inr (0, 40)), (214, .inr (0, 40)), (215, .inr (0, 40)), (220, .inl 12), (221, .inr (0, 40000)), (222, .inr (0, 40000)), (223, .inr (0, 2002)), (224, .inr (0, 2002)), (225, .inr (0, 2001)), (226, .inr (0, 2001)), (227, .inr (0, W * 256)), (228, .inr (0, P + 1)), (229, .inr (0, W * 500)), (240, .inl 5), (241, .inl 6), (242, .inr (4, 32))]
def tabP : List Dsc := [.inl 13, .inl 6, .inr (4, 754), .inl 6, .inr (4, 129), .inl 6, .inr (4, 626), .inl 6, .inr (4, 626), .inl 6, .inr (4, 626), .inr (0, 64), .inr (0, 128), .inr (0, 256), .inr (0, 512), .inr (0, 1024), .inr (0, 2048), .inr (0, 4096), .inr (0, 8192), .inr (0, 16384), .inr (0, 32768)]
def tabT : List (Int × Dsc) := [(100, .inl 14), (104, .inr (0, 20)), (105, .inr (0, 4000)), (111, .inr (0, 2000)), (112, .inr (0, 2000)), (115, .inr (0, 12000)), (116, .inr (0, 12000)), (117, .inr (0, 12000)), (118, .inr (0, 12000)), (119, .inr (4, 12000)), (122, .inr (0, 4100)), (123, .inr (0, 4100)), (124, .inr (0, 4100)), (125, .inr (0, 4100)), (128, .inr (0, 70)), (129, .inr (0, 70)), (134, .inr (0, 12000)), (136, .inr (0, 2500)), (137, .inr (0, 2500)), (138, .inr (0, 2500)), (139, .inr (0, 2500)), (140, .inr (0, 2500)), (141, .inr (2, 2500)), (142, .inr (0, 2500)), (143, .inr (0, 2500)), (145, .inr (0, 4200)), (146, .inr (0, 4200)), (147, .inr (2, 4200)), (149, .inr (0, 70)), (151, .inr (0, 12000)), (152, .inr (0, 12000)), (153, .inr (0, 12000)), (154, .inr (0, 12000)), (155, .inr (0, 12000)), (156, .inr (2, 12000)), (158, .inr (0, 400)), (159, .inr (0, 400)), (165, .inr (0, 1000)), (172, .inr (0, 40000)), (173, .inr (0, 40000)), (174, .inr (0, 40000)), (175, .inr (0, 40000)), (177, .inr (0, 256)), (178, .inr (0, 256)), (179, .inr (0, 256)), (180, .inr (4, 256)), (181, .inr (4, 256)), (182, .inr (0, 500)), (183, .inr (0, 16000)), (185, .inr (0, 134400)), (187, .inr (0, 40)), (188, .inr (0, 40)), (189, .inr (0, 40)), (190, .inr (0, 40)), (191, .inr (0, 40)), (192, .inr (0, 40)), (193, .inr (0, 40)), (194, .inr (0, 40)), (196, .inr (0, 80)), (197, .inr (0, 8192)), (199, .inr (0, 300)), (200, .inr (0, 300)), (201, .inr (0, 300)), (203, .inr (0, 40)), (204, .inr (0, 40)), (205, .inr (2, 40)), (206, .inr (0, 327680)), (207, .inr (0, 327680)), (208, .inr (4, 12000)), (209, .inr (4, 12000)), (210, .inr (0, 12000)), (212, .inr (0, 400)), (213, .inr (0, 400)), (214, .inr (0, 40)), (215, .inr (4, 4200)), (217, .inr (4, 256)), (218, .inr (4, 500)), (224, .inr (0, 2000)), (226, .inr (0, 48192)), (227, .inr (0, 40000)), (228, .inr (0, 40000)), (229, .inr (0, 40000)), (230, .inr (0, 2003)), (231, .inr (0, 40000)), (233, .inr (0, 16)), (234, .inr (0, 16)), (235, .inr (0, 16)), (236, .inr (0, 16)), (237, .inr (0, 16)), (238, .inr (0, 481000)), (239, .inr (0, 481000)), (242, .inr (0, 1000)), (243, .inr (0, 1000)), (244, .inr (0, 1000)), (245, .inr (0, 16))]
def kd0 (kd : Nat) : Nat := match kd with
  | 2 => 3
  | 5 => 0
  | 6 => 1
  | x => x
def kd (Λ : Lay) (ci k : Nat) : Nat := if Λ.2.1 = true then kdT ci k else kd0 (kdT ci k)
abbrev tg (Λ : Lay) (ci k : Nat) (o : Int) : Int := tgT Λ.2.2.1 Λ.2.2.2 ci k o
/-- what a field holds, by its kind, what is told of it, and the store -/
def gk (kd : Nat) (t z : Int) : AV := match kd with
  | 1 => aL z
  | 2 => aR t
  | 3 => aR z
  | 5 => aI t
  | 6 => aL t
  | _ => aI z
def gv (Λ : Lay) (G : St) (ci : Nat) (o : Int) (k : Nat) : AV := gk (kd Λ ci k) (tg Λ ci k o) (G o k)
/-- kinds of arrays: 0 int, 1 byte, 2 boolean, 3 short, 4 long, 5 Op, 6 Party, 7 int[], 8 the parties -/
def gl (tag : Nat) (j z : Int) : AV := match tag with
  | 4 => aL z
  | 5 => aR z
  | 6 => aR z
  | 7 => aR z
  | 8 => aR (1000 + 32 * j)
  | _ => aI z
/-- the store with one place changed -/
def up (G : St) (o k v : Int) : St := fun o' k' => if o' = o ∧ k' = k then v else G o' k'
theorem up_s (G : St) (o k v : Int) : up G o k v o k = v := by simp [up]
theorem up_e (G : St) {o k v o' k' : Int} (h : o' = o) (h2 : k' = k) : up G o k v o' k' = v := by simp [up, h, h2]
theorem up_o (G : St) {o k v o' k' : Int} (h : o' ≠ o) : up G o k v o' k' = G o' k' := by simp [up, h]
theorem up_k (G : St) {o k v o' k' : Int} (h : k' ≠ k) : up G o k v o' k' = G o' k' := by simp [up, h]
theorem up_r (G : St) {o k v o' : Int} (h : o' ≠ o) : up G o k v o' = G o' := by
  funext k'
  exact up_o G h
theorem up_0 (G : St) {o k v : Int} (h : o ≠ 0) : up G o k v 0 = G 0 := up_r G (fun e => h e.symm)
/-- a row of the store replaced -/
def uq (G : St) (o : Int) (f : Int → Int) : St := fun o' => if o' = o then f else G o'
theorem uq_s (G : St) (o : Int) (f : Int → Int) : uq G o f o = f := by simp [uq]
theorem uq_o (G : St) {o o' : Int} {f : Int → Int} (h : o' ≠ o) : uq G o f o' = G o' := by simp [uq, h]
theorem uq_0 (G : St) {o : Int} {f : Int → Int} (h : o ≠ 0) : uq G o f 0 = G 0 := uq_o G (fun e => h e.symm)
/-- a constant (enum, text), or an id that is made -/
def pr (Λ : Lay) (E : Int → Int) (o : Int) : Prop := (0 ≤ o ∧ o < 100) ∨ ∃ d, Λ.1 E o = some d
def okV (Λ : Lay) (E : Int → Int) (v : AV) : Prop := match v with
  | .inl x => i32 x
  | .inr (.inl x) => i64 x
  | .inr (.inr o) => o < 0 ∨ pr Λ E o
def okK (Λ : Lay) (E : Int → Int) (kd : Nat) (t z : Int) : Prop := match kd with
  | 1 => i64 z
  | 2 => 0 ≤ t ∧ pr Λ E t
  | 3 => z < 0 ∨ pr Λ E z
  | 4 => 0 ≤ z ∧ z ≤ 1
  | 5 => i32 t
  | 6 => i64 t
  | _ => i32 z
def okE (Λ : Lay) (E : Int → Int) (tag : Nat) (j z : Int) : Prop := match tag with
  | 1 => -128 ≤ z ∧ z < 128
  | 2 => 0 ≤ z ∧ z ≤ 1
  | 3 => -32768 ≤ z ∧ z < 32768
  | 4 => i64 z
  | 5 => z < 0 ∨ pr Λ E z
  | 6 => z < 0 ∨ pr Λ E z
  | 7 => z < 0 ∨ pr Λ E z
  | 8 => pr Λ E (1000 + 32 * j)
  | _ => i32 z
def okD (Λ : Lay) (G : St) (o : Int) (d : Dsc) : Prop := match d with
  | .inl ci => ∀ k : Nat, okK Λ (G 0) (kd Λ ci k) (tg Λ ci k o) (G o k)
  | .inr (tag, n) => ∀ i : Int, 0 ≤ i → i < n → okE Λ (G 0) tag i (G o i)
def okG (Λ : Lay) (G : St) : Prop := ∀ (o : Int) (d : Dsc), Λ.1 (G 0) o = some d → okD Λ G o d
/-- what is asked of a layout: ids of what is made are 100 and more, lengths are ints -/
def LayOk (Λ : Lay) : Prop := (∀ E o d, Λ.1 E o = some d → 100 ≤ o) ∧ (∀ E o tag n, Λ.1 E o = some (.inr (tag, n)) → 0 ≤ n ∧ n < 2 ^ 31)
theorem okV_gk {Λ : Lay} {E : Int → Int} {kd : Nat} {t z : Int} (h : okK Λ E kd t z) : okV Λ E (gk kd t z) := by
  unfold gk
  split
  · exact h
  · exact Or.inr h.2
  · exact h
  · exact h
  · exact h
  · rename_i h1 h2 h3 h5 h6
    unfold okK at h
    split at h
    · exact absurd rfl h1
    · exact absurd rfl h2
    · exact absurd rfl h3
    · exact ⟨by omega, by omega⟩
    · exact absurd rfl h5
    · exact absurd rfl h6
    · exact h
theorem okV_gl {Λ : Lay} {E : Int → Int} {tag : Nat} {j z : Int} (h : okE Λ E tag j z) : okV Λ E (gl tag j z) := by
  unfold gl
  split
  · exact h
  · exact h
  · exact h
  · exact h
  · exact Or.inr h
  · rename_i h4 h5 h6 h7 h8
    unfold okE at h
    split at h
    · exact ⟨by omega, by omega⟩
    · exact ⟨by omega, by omega⟩
    · exact ⟨by omega, by omega⟩
    · exact absurd rfl h4
    · exact absurd rfl h5
    · exact absurd rfl h6
    · exact absurd rfl h7
    · exact absurd rfl h8
    · exact h
abbrev vwCl : List vw_C := [(RX1, TX1, 25), (RX2, TX2, 5), (RX3, TX3, 5), (RX4, TX4, 2), (RX5, TX5, 9), (RX6, TX6, 4), (RX7, TX7, 1), (RX8, TX8, 16), (RX9, TX9, 21), (RX10, TX10, 6), (RX11, TX11, 36), (RX12, TX12, 7), (RX13, TX13, 13), (RX14, TX14, 12), (RX15, TX15, 146)]
def tgFT (tag : Nat) : FieldType := match tag with
  | 0 => .int
  | 1 => .byte
  | 2 => .boolean
  | 3 => .short
  | 4 => .long
  | 5 => .object "ShareHouse$Op"
  | 6 => .object "ShareHouse$Party"
  | 7 => .array .int
  | _ => .object "ShareHouse$Party"
abbrev tysL (cA : Nat → ClassId) : List (ClassId × FieldType) := (List.range 9).map fun t => (cA t, tgFT t)
def cellAt (Λ : Lay) (D : va_G) (cA : Nat → ClassId) (ad : Int → Nat) (G : St) (o : Int) (d : Dsc) (H : Heap) : Prop := match d with
  | .inl ci => ∃ r : vw_C, vwCl[ci]? = some r ∧ t_OB (ad o) (D.1 ci) r.2.2 (D.2 ci) H (fun k => cv ad (gv Λ G ci o k))
  | .inr (tag, n) => H[ad o]? = some (arrV (cA tag) n.toNat (fun j => cv ad (gl tag j (G o j))))
theorem cellAt.kept {Λ : Lay} {D : va_G} {cA : Nat → ClassId} {ad : Int → Nat} {G : St} {o : Int} {d : Dsc} {H H1 : Heap} (h : cellAt Λ D cA ad G o d H) (hq : H1[ad o]? = H[ad o]?) : cellAt Λ D cA ad G o d H1 := by
  cases d with
  | inl ci =>
    obtain ⟨r, h1, h2⟩ := h
    exact ⟨r, h1, h2.kept hq⟩
  | inr x => exact hq.trans h
theorem cellAt.lt {Λ : Lay} {D : va_G} {cA : Nat → ClassId} {ad : Int → Nat} {G : St} {o : Int} {d : Dsc} {H : Heap} (h : cellAt Λ D cA ad G o d H) : ad o < H.size := by
  cases d with
  | inl ci =>
    obtain ⟨r, h1, cell, h2, -⟩ := h
    exact (Array.getElem?_eq_some_iff.mp h2).1
  | inr x => exact (Array.getElem?_eq_some_iff.mp h).1
/-- the heap holds the picture: every made id's cell, apart from one another, in the region A -/
def RP (Λ : Lay) (D : va_G) (cA : Nat → ClassId) (ad : Int → Nat) (G : St) (H : Heap) (A : Nat → Prop) : Prop :=
  (∀ o d, Λ.1 (G 0) o = some d → cellAt Λ D cA ad G o d H) ∧ (∀ o o' d d', Λ.1 (G 0) o = some d → Λ.1 (G 0) o' = some d' → ad o = ad o' → o = o') ∧ (∀ o d, Λ.1 (G 0) o = some d → A (ad o))
def AR (Λ : Lay) (ad : Int → Nat) (E : Int → Int) (sz : Nat) : Nat → Prop := fun q => (∃ o d, Λ.1 E o = some d ∧ q = ad o) ∨ sz ≤ q
/-- the words that don't ride in the lists: nest mates' links, castable, declares -/
def nst (w : Cond) : Bool := match w with
  | .fieldLinkNest .. => true
  | .methodLinkNest .. => true
  | .castable .. => true
  | .declares .. => true
  | _ => false
/-- arrays over int[] -/
def AOI (U : State) : Prop := (Cond.arrayOver (.array .int)).before #[] U = true
theorem AOI.spec {s : State} (h : AOI s) : ∃ comp c k, s.vm.findClass (FieldType.array .int).toString = some comp ∧ (s.vm.classes.findIdx? fun x => match x.kind with | .array component _ => component == comp | _ => false) = some c ∧ s.vm.classes[c]? = some k ∧ k.kind = .array comp (.array .int) ∧ s.vm.findClass ("[" ++ (FieldType.array .int).toString) = some c := by
  unfold AOI Cond.before Cond.holds at h
  simp only [Cond.value, beq_iff_eq] at h
  cases hc : s.vm.findClass (FieldType.array .int).toString with
  | none => simp [hc] at h
  | some comp =>
    simp only [hc, Option.bind_some, Option.bind_eq_some_iff, Option.map_eq_some_iff] at h
    obtain ⟨c, hi, k, hk, hb⟩ := h
    obtain ⟨hlt, hp, -⟩ := Array.findIdx?_eq_some_iff_getElem.mp hi
    have hkk : s.vm.classes[c] = k := (Array.getElem?_eq_some_iff.mp hk).2
    rw [hkk] at hp
    cases hkind : k.kind with
    | array component ty =>
      rw [hkind] at hb hp
      simp at hb hp
      exact ⟨comp, c, k, rfl, hi, hk, by rw [hkind, hp, hb.1], hb.2⟩
    | _ => rw [hkind] at hb; simp at hb
theorem AOI.moved {u U : State} (hvm : u.vm.Alike U.vm) (h : AOI u) : AOI U := by
  obtain ⟨comp, c, k, h1, h2, h3, h4, h5⟩ := h.spec
  obtain ⟨k', hk', he⟩ := hvm.2.2 _ _ h3
  have hi : (U.vm.classes.findIdx? fun (x : Class) => match x.kind with | .array component _ => component == comp | _ => false) = some c := by
    have e1 := va_idx_bare U.vm comp
    have e2 := va_idx_bare u.vm comp
    have e3 : U.vm.bare = u.vm.bare := by first | exact hvm.bare_eq | exact hvm.bare_eq.symm
    rw [e3] at e1
    exact e1.symm.trans (e2.trans h2)
  have hkind : k'.kind = .array comp (.array .int) := by rw [he]; exact h4
  have f1 : U.vm.findClass (FieldType.array .int).toString = some comp := by rw [hvm.findClass]; exact h1
  have f2 : U.vm.findClass ("[" ++ (FieldType.array .int).toString) = some c := by rw [hvm.findClass]; exact h5
  unfold AOI Cond.before Cond.holds
  simp only [Cond.value]
  rw [f1, Option.bind_some]
  refine (congrArg (fun o : Option Nat => (o.bind (fun c => (U.vm.classes[c]?).map fun (k : Class) => match k.kind with | .array _ ty => decide (ty = FieldType.array .int) && decide (U.vm.findClass ("[" ++ (FieldType.array .int).toString) = some c) | _ => false) == some true)) hi).trans ?_
  simp [hk', hkind, f2]
def NW (U : State) : Prop := (∀ w ∈ lw_tbl, nst w = true → va_Nw w U) ∧ va_AO "ShareHouse$Op" U ∧ va_AO "ShareHouse$Party" U ∧ AOI U
abbrev opN : List String := ["INPUT", "DEF", "PARAM", "ENDDEF", "OUTPUT", "ENDOUTPUT", "STATEMENT", "VAR", "ENDVAR", "TARGET", "PLACE", "ENDPLACE", "ASSIGN", "IF", "ELSE", "ENDIF", "FOR", "BOUND", "LOOP", "ENDFOR", "BLOCK", "ENDBLOCK", "NUMBER", "TRUE", "FALSE", "READ", "ELEMENT", "ENDELEMENT", "CALL", "ARGUMENT", "ENDCALL", "INT", "ENDINT", "BIT", "FIRST", "ENDBIT", "OPEN", "CLOSE", "OR", "AND", "BAR", "XOR", "ET", "SAME", "OTHER", "LESS", "MOST", "MORE", "LEAST", "LEFT", "RIGHT", "PLUS", "MINUS", "TIMES", "BY", "REST", "NEGATE", "TURN", "NOT", "CHOOSE", "END"]
abbrev opF : List (String × String × String × List Int32) := [("java/lang/Enum", "ordinal", "I", (List.range 61).map Int32.ofNat)]
abbrev swd : List String := ["input", "of", "var", "def", "for", "to", "if", "else", "output", "int", "bit", "true", "false"]
def swb (i j : Nat) : Nat := (((swd.getD i "").toList.getD j ' ').toNat)
def swl (i : Nat) : Nat := (swd.getD i "").toList.length
/-- the texts: objects of String, coder 0, their bytes; and what ldc finds -/
def SX (adE : Nat → Nat) (A : Nat → Prop) (U : State) (H : Heap) : Prop := ∀ i : Nat, i < 13 → va_O "java/lang/String" (adE (70 + i)) A U H ∧ va_OF "java/lang/String" "coder" "B" (.int 0) (adE (70 + i)) A U H ∧ va_OF "java/lang/String" "value" "[B" (.ref (adE (85 + i))) (adE (70 + i)) A U H ∧ va_T .byte (adE (85 + i)) (swl i) (fun j => .int (Int32.ofNat (swb i j))) A U H
def LX (adE : Nat → Nat) (U : State) : Prop := ∀ own k tx, Cond.stringRef own k tx ∈ lw_tbl → ∀ i, i < 13 → swd.getD i "" = tx → vk_R own k tx (adE (70 + i)) U
/-- two statics of the JDK's -/
def ZX (adE : Nat → Nat) (A : Nat → Prop) (U : State) (H : Heap) : Prop := va_Z "java/lang/String" "COMPACT_STRINGS" "Z" (.int 1) A U H ∧ (va_Z "jdk/internal/util/Preconditions" "SIOOBE_FORMATTER" "Ljava/util/function/BiFunction;" .null A U H ∨ va_Z "jdk/internal/util/Preconditions" "SIOOBE_FORMATTER" "Ljava/util/function/BiFunction;" (.ref (adE 99)) A U H)
abbrev Wd : Type := va_G × (Nat → ClassId) × (Nat → Nat) × (Nat → Nat)
/-- what holds of the tables and the constants: of a state U, a heap H, outside a region A -/
def WK (ω : Wd) (A : Nat → Prop) (U : State) (H : Heap) : Prop := va_K ω.1 vwCl (tysL ω.2.1) U ∧ NW U ∧ va_En "ShareHouse$Op" "LShareHouse$Op;" opN opF ω.2.2.1 A U H ∧ SX ω.2.2.1 A U H ∧ LX ω.2.2.1 U ∧ ZX ω.2.2.1 A U H
theorem NW.warm {s U : State} (hW : s.WarmedH U.vm) (h : NW s) : NW U := by
  refine ⟨fun w hw hn => ?_, va_AO.moved hW.alike h.2.1, va_AO.moved hW.alike h.2.2.1, h.2.2.2.moved hW.alike⟩
  have h1 := h.1 w hw hn
  cases w with
  | fieldLinkNest a b c d e f => exact va_Nw.warmF hW h1
  | methodLinkNest a b c d => exact va_Nw.warmM hW h1
  | castable a b => exact va_Nw.warmC hW h1
  | declares a => exact va_Nw.warmD hW h1
  | _ => cases hn
theorem WK.to {ω : Wd} {A B : Nat → Prop} {s U : State} {H H1 : Heap} (h : WK ω A s H) (hW : s.WarmedH U.vm) (hq : ∀ a : Nat, a < H.size → ¬ A a → H1[a]? = H[a]?) (hAB : ∀ q, B q → A q) : WK ω B U H1 := by
  obtain ⟨h1, h2, h3, h4, h5, h6, h7⟩ := h
  refine ⟨va_K.moved hW.alike h1, h2.warm hW, ((h3.kept hq).moved hW.alike).narrow hAB, fun i hi => ?_, fun own k tx hm i hi he => (h5 own k tx hm i hi he).warm hW, (va_Z.moved hW.alike (h6.kept hq)).narrow hAB, ?_⟩
  rotate_left
  · rcases h7 with h7 | h7
    · exact Or.inl ((va_Z.moved hW.alike (h7.kept hq)).narrow hAB)
    · exact Or.inr ((va_Z.moved hW.alike (h7.kept hq)).narrow hAB)
  obtain ⟨g1, g2, g3, g4⟩ := h4 i hi
  exact ⟨(va_O.moved hW.alike (g1.kept hq)).narrow hAB, (va_OF.moved hW.alike (g2.kept hq)).narrow hAB, (va_OF.moved hW.alike (g3.kept hq)).narrow hAB, (va_T.moved hW.alike (g4.kept hq)).narrow hAB⟩
def lkp (o : Int) : List (Int × Dsc) → Option Dsc
  | [] => none
  | (i, d) :: t => if o = i then some d else lkp o t
def dscC (P W o : Int) : Option Dsc := if 1000 ≤ o then (if o < 1000 + 32 * P then tabP[((o - 1000) % 32).toNat]? else none) else if (600 ≤ o ∧ o < 631) ∨ (700 ≤ o ∧ o < 731) then some (.inr (0, W * 256)) else lkp o (tabC P W)
def alwC (o : Int) : Bool := decide (o < 600) || (decide (1000 ≤ o) && decide ((o - 1000) % 32 ≤ 11))
def tag0 (d : Dsc) : Dsc := match d with
  | .inr (8, n) => .inr (6, n)
  | x => x
/-- the component's layouts: while it is made, and behind that; the twin's -/
def ΛC (P W : Int) : Lay := (fun E o => if alwC o = true then dscC P W o else if E o = 1 then dscC P W o else none, true, P, W)
def ΛC0 (P W : Int) : Lay := (fun E o => if E o = 1 then (dscC P W o).map tag0 else none, false, P, W)
def ΛT (P W : Int) : Lay := (fun _ o => lkp o tabT, true, P, W)
def ΛT0 (P W : Int) : Lay := (fun E o => if E o = 1 then lkp o tabT else none, false, P, W)
