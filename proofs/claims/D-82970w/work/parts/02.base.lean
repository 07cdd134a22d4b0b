/-! PURE NUMBERS: Java's int and long as Int, wrapped; bits by way of Int32 and Int64 -/
def w32 (z : Int) : Int := (z + 2147483648) % 4294967296 - 2147483648
def w64 (z : Int) : Int := (z + 9223372036854775808) % 18446744073709551616 - 9223372036854775808
def i32 (z : Int) : Prop := -2147483648 ≤ z ∧ z < 2147483648
def i64 (z : Int) : Prop := -9223372036854775808 ≤ z ∧ z < 9223372036854775808
theorem w32_id {z : Int} (h : i32 z) : w32 z = z := by unfold w32; unfold i32 at h; omega
theorem w64_id {z : Int} (h : i64 z) : w64 z = z := by unfold w64; unfold i64 at h; omega
theorem w32_eq {z : Int} (h1 : -2147483648 ≤ z) (h2 : z < 2147483648) : w32 z = z := by unfold w32; omega
theorem w64_eq {z : Int} (h1 : -9223372036854775808 ≤ z) (h2 : z < 9223372036854775808) : w64 z = z := by unfold w64; omega
theorem w32_r (z : Int) : i32 (w32 z) := by unfold w32 i32; omega
theorem w64_r (z : Int) : i64 (w64 z) := by unfold w64 i64; omega
theorem w32_bmod (z : Int) : z.bmod 4294967296 = w32 z := by
  unfold w32
  rw [Int.bmod_def]
  split <;> omega
theorem w64_bmod (z : Int) : z.bmod 18446744073709551616 = w64 z := by
  unfold w64
  rw [Int.bmod_def]
  split <;> omega
theorem t32 (z : Int) : (Int32.ofInt z).toInt = w32 z := by
  rw [Int32.toInt_ofInt]; exact w32_bmod z
theorem t64 (z : Int) : (Int64.ofInt z).toInt = w64 z := by
  rw [Int64.toInt_ofInt]; exact w64_bmod z
theorem o32 (z : Int) : Int32.ofInt (w32 z) = Int32.ofInt z := by
  rw [← t32, Int32.ofInt_toInt]
theorem o64 (z : Int) : Int64.ofInt (w64 z) = Int64.ofInt z := by
  rw [← t64, Int64.ofInt_toInt]
theorem t32i {z : Int} (h : i32 z) : (Int32.ofInt z).toInt = z := by rw [t32, w32_id h]
theorem t64i {z : Int} (h : i64 z) : (Int64.ofInt z).toInt = z := by rw [t64, w64_id h]
theorem i32_toInt (x : Int32) : i32 x.toInt := by
  have h := w32_r x.toInt
  rw [← t32, Int32.ofInt_toInt] at h
  exact h
theorem i64_toInt (x : Int64) : i64 x.toInt := by
  have h := w64_r x.toInt
  rw [← t64, Int64.ofInt_toInt] at h
  exact h
theorem i32_i64 {z : Int} (h : i32 z) : i64 z := by unfold i32 at h; unfold i64; omega
theorem lt32 {x y : Int} (hx : i32 x) (hy : i32 y) : Int32.ofInt x < Int32.ofInt y ↔ x < y := by rw [Int32.lt_iff_toInt_lt, t32i hx, t32i hy]
theorem le32 {x y : Int} (hx : i32 x) (hy : i32 y) : Int32.ofInt x ≤ Int32.ofInt y ↔ x ≤ y := by rw [Int32.le_iff_toInt_le, t32i hx, t32i hy]
theorem eq32 {x y : Int} (hx : i32 x) (hy : i32 y) : Int32.ofInt x = Int32.ofInt y ↔ x = y := by rw [← Int32.toInt_inj, t32i hx, t32i hy]
theorem lt64 {x y : Int} (hx : i64 x) (hy : i64 y) : Int64.ofInt x < Int64.ofInt y ↔ x < y := by rw [Int64.lt_iff_toInt_lt, t64i hx, t64i hy]
theorem eq64 {x y : Int} (hx : i64 x) (hy : i64 y) : Int64.ofInt x = Int64.ofInt y ↔ x = y := by rw [← Int64.toInt_inj, t64i hx, t64i hy]
theorem add32 (x y : Int) : Int32.ofInt x + Int32.ofInt y = Int32.ofInt (w32 (x + y)) := by rw [o32, Int32.ofInt_add]
theorem sub32 (x y : Int) : Int32.ofInt x - Int32.ofInt y = Int32.ofInt (w32 (x - y)) := by rw [o32, Int32.ofInt_sub]
theorem mul32 (x y : Int) : Int32.ofInt x * Int32.ofInt y = Int32.ofInt (w32 (x * y)) := by rw [o32, Int32.ofInt_mul]
theorem neg32 (x : Int) : -Int32.ofInt x = Int32.ofInt (w32 (-x)) := by rw [o32, Int32.ofInt_neg]
theorem add64 (x y : Int) : Int64.ofInt x + Int64.ofInt y = Int64.ofInt (w64 (x + y)) := by rw [o64, Int64.ofInt_add]
theorem sub64 (x y : Int) : Int64.ofInt x - Int64.ofInt y = Int64.ofInt (w64 (x - y)) := by rw [o64, Int64.ofInt_sub]
theorem mul64 (x y : Int) : Int64.ofInt x * Int64.ofInt y = Int64.ofInt (w64 (x * y)) := by rw [o64, Int64.ofInt_mul]
theorem neg64 (x : Int) : -Int64.ofInt x = Int64.ofInt (w64 (-x)) := by rw [o64, Int64.ofInt_neg]
def j_dv (x y : Int) : Int := (Int32.ofInt x / Int32.ofInt y).toInt
def j_rm (x y : Int) : Int := (Int32.ofInt x - Int32.ofInt x / Int32.ofInt y * Int32.ofInt y).toInt
def j_an (x y : Int) : Int := (Int32.ofInt x &&& Int32.ofInt y).toInt
def j_or (x y : Int) : Int := (Int32.ofInt x ||| Int32.ofInt y).toInt
def j_xo (x y : Int) : Int := (Int32.ofInt x ^^^ Int32.ofInt y).toInt
def j_sl (x y : Int) : Int := (Int32.ofInt x <<< (Int32.ofInt y &&& 31)).toInt
def j_sr (x y : Int) : Int := (Int32.ofInt x >>> (Int32.ofInt y &&& 31)).toInt
def j_us (x y : Int) : Int := (((Int32.ofInt x).toUInt32 >>> ((Int32.ofInt y).toUInt32 &&& Int32.toUInt32 31)).toInt32).toInt
def j_ldv (x y : Int) : Int := (Int64.ofInt x / Int64.ofInt y).toInt
def j_lrm (x y : Int) : Int := (Int64.ofInt x - Int64.ofInt x / Int64.ofInt y * Int64.ofInt y).toInt
def j_lan (x y : Int) : Int := (Int64.ofInt x &&& Int64.ofInt y).toInt
def j_lor (x y : Int) : Int := (Int64.ofInt x ||| Int64.ofInt y).toInt
def j_lxo (x y : Int) : Int := (Int64.ofInt x ^^^ Int64.ofInt y).toInt
def j_lsl (x y : Int) : Int := (Int64.ofInt x <<< ((Int32.ofInt y).toInt64 &&& 63)).toInt
def j_lsr (x y : Int) : Int := (Int64.ofInt x >>> ((Int32.ofInt y).toInt64 &&& 63)).toInt
def j_lus (x y : Int) : Int := (((Int64.ofInt x).toUInt64 >>> ((Int32.ofInt y).toInt64.toUInt64 &&& Int64.toUInt64 63)).toInt64).toInt
def j_b8 (x : Int) : Int := ((Int32.ofInt x).toInt8.toInt32).toInt
def j_s16 (x : Int) : Int := ((Int32.ofInt x).toInt16.toInt32).toInt
def j_cm (x y : Int) : Int := if x > y then 1 else if x = y then 0 else -1
theorem j_cm_r (x y : Int) : i32 (j_cm x y) := by
  unfold j_cm i32
  split
  · omega
  · split <;> omega
theorem cm64 {x y : Int} (hx : i64 x) (hy : i64 y) : lg_cmp (Int64.ofInt x) (Int64.ofInt y) = Int32.ofInt (j_cm x y) := by
  unfold lg_cmp j_cm
  by_cases h1 : x > y
  · rw [if_pos ((lt64 hy hx).mpr h1), if_pos h1]; rfl
  · rw [if_neg (fun h => h1 ((lt64 hy hx).mp h)), if_neg h1]
    by_cases h2 : x = y
    · rw [if_pos ((eq64 hx hy).mpr h2), if_pos h2]; rfl
    · rw [if_neg (fun h => h2 ((eq64 hx hy).mp h)), if_neg h2]; rfl
theorem i2l64 {x : Int} (h : i32 x) : (Int32.ofInt x).toInt64 = Int64.ofInt x := by
  apply Int64.toInt_inj.mp
  rw [Int32.toInt_toInt64, t32i h, t64i (i32_i64 h)]
theorem l2i64 (x : Int) : (Int64.ofInt x).toInt32 = Int32.ofInt (w32 x) := by
  rw [o32, Int64.toInt32_ofInt]
/-- many ways by a number: a switch -/
def sw {α : Type} (x : Int) : List (Int × α) → α → α
  | [], d => d
  | (c, r) :: t, d => if x = c then r else sw x t d
