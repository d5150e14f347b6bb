/-! NUMBERS: ints as mathematical integers in range -/
def i32 (x : Int) : Prop := -2147483648 ≤ x ∧ x ≤ 2147483647
def i64 (x : Int) : Prop := -9223372036854775808 ≤ x ∧ x ≤ 9223372036854775807
def wr (x : Int) : Int := (x + 2147483648) % 4294967296 - 2147483648
def wl (x : Int) : Int := (x + 9223372036854775808) % 18446744073709551616 - 9223372036854775808
def w8 (x : Int) : Int := (x + 128) % 256 - 128
theorem wr_id {x : Int} (h : i32 x) : wr x = x := by
  obtain ⟨h1, h2⟩ := h
  unfold wr
  omega
theorem wl_id {x : Int} (h : i64 x) : wl x = x := by
  obtain ⟨h1, h2⟩ := h
  unfold wl
  omega
theorem i32_wr (x : Int) : i32 (wr x) := by
  unfold i32 wr
  omega
theorem i64_wl (x : Int) : i64 (wl x) := by
  unfold i64 wl
  omega
theorem i32_w8 (x : Int) : i32 (w8 x) := by
  unfold i32 w8
  omega
theorem bm32 (x : Int) : x.bmod 4294967296 = wr x := by
  unfold wr
  rw [Int.bmod_eq_emod]
  split <;> omega
theorem bm64 (x : Int) : x.bmod 18446744073709551616 = wl x := by
  unfold wl
  rw [Int.bmod_eq_emod]
  split <;> omega
theorem bm8 (x : Int) : x.bmod 256 = w8 x := by
  unfold w8
  rw [Int.bmod_eq_emod]
  split <;> omega
theorem t32 (x : Int) : (Int32.ofInt x).toInt = wr x := Int32.toInt_ofInt.trans (bm32 x)
theorem t64 (x : Int) : (Int64.ofInt x).toInt = wl x := Int64.toInt_ofInt.trans (bm64 x)
theorem t32' {x : Int} (h : i32 x) : (Int32.ofInt x).toInt = x := (t32 x).trans (wr_id h)
theorem t64' {x : Int} (h : i64 x) : (Int64.ofInt x).toInt = x := (t64 x).trans (wl_id h)
theorem i32_toInt (x : Int32) : i32 x.toInt := by
  have h1 := Int32.toInt_lt x
  have h2 := Int32.le_toInt x
  unfold i32
  omega
theorem i64_toInt (x : Int64) : i64 x.toInt := by
  have h1 := Int64.toInt_lt x
  have h2 := Int64.le_toInt x
  unfold i64
  omega
theorem of_wr (x : Int) : Int32.ofInt (wr x) = Int32.ofInt x := Int32.toInt_inj.mp (by rw [t32, t32, wr_id (i32_wr x)])
theorem of_wl (x : Int) : Int64.ofInt (wl x) = Int64.ofInt x := Int64.toInt_inj.mp (by rw [t64, t64, wl_id (i64_wl x)])
theorem lt32 {x y : Int} (hx : i32 x) (hy : i32 y) : Int32.ofInt x < Int32.ofInt y ↔ x < y := by rw [Int32.lt_iff_toInt_lt, t32' hx, t32' hy]
theorem le32 {x y : Int} (hx : i32 x) (hy : i32 y) : Int32.ofInt x ≤ Int32.ofInt y ↔ x ≤ y := by rw [Int32.le_iff_toInt_le, t32' hx, t32' hy]
theorem eq32 {x y : Int} (hx : i32 x) (hy : i32 y) : Int32.ofInt x = Int32.ofInt y ↔ x = y := by rw [← Int32.toInt_inj, t32' hx, t32' hy]
theorem lt64 {x y : Int} (hx : i64 x) (hy : i64 y) : Int64.ofInt x < Int64.ofInt y ↔ x < y := by rw [Int64.lt_iff_toInt_lt, t64' hx, t64' hy]
theorem eq64 {x y : Int} (hx : i64 x) (hy : i64 y) : Int64.ofInt x = Int64.ofInt y ↔ x = y := by rw [← Int64.toInt_inj, t64' hx, t64' hy]
theorem i32_0 : i32 0 := by unfold i32; omega
theorem i64_0 : i64 0 := by unfold i64; omega
theorem of32_0 : Int32.ofInt 0 = 0 := rfl
theorem of64_0 : Int64.ofInt 0 = 0 := rfl
theorem z_eq {x : Int} (h : i32 x) : Int32.ofInt x = 0 ↔ x = 0 := by rw [← of32_0]; exact eq32 h i32_0
theorem z_lt {x : Int} (h : i32 x) : Int32.ofInt x < 0 ↔ x < 0 := by rw [← of32_0]; exact lt32 h i32_0
theorem z_ge {x : Int} (h : i32 x) : 0 ≤ Int32.ofInt x ↔ 0 ≤ x := by rw [← of32_0]; exact le32 i32_0 h
theorem z_gt {x : Int} (h : i32 x) : 0 < Int32.ofInt x ↔ 0 < x := by rw [← of32_0]; exact lt32 i32_0 h
theorem z_le {x : Int} (h : i32 x) : Int32.ofInt x ≤ 0 ↔ x ≤ 0 := by rw [← of32_0]; exact le32 h i32_0
theorem clamp32 {x : Int} (h : i32 x) : (Int32.ofInt x).toNatClampNeg = x.toNat := by
  show (Int32.ofInt x).toInt.toNat = x.toNat
  rw [t32' h]
theorem in32 {x n : Int} (h : i32 x) (h0 : 0 ≤ x) (h1 : x < n) : vp_in (Int32.ofInt x) n.toNat := by
  unfold vp_in
  rw [z_lt h, clamp32 h]
  omega
/-! operations of ints that stay as the machine's -/
def jand (x y : Int) : Int := (Int32.ofInt x &&& Int32.ofInt y).toInt
def jor (x y : Int) : Int := (Int32.ofInt x ||| Int32.ofInt y).toInt
def jxor (x y : Int) : Int := (Int32.ofInt x ^^^ Int32.ofInt y).toInt
def jshl (x y : Int) : Int := (Int32.ofInt x <<< (Int32.ofInt y &&& 31)).toInt
def jshr (x y : Int) : Int := (Int32.ofInt x >>> (Int32.ofInt y &&& 31)).toInt
def jushr (x y : Int) : Int := ((Int32.ofInt x).toUInt32 >>> ((Int32.ofInt y).toUInt32 &&& Int32.toUInt32 31)).toInt32.toInt
def jdiv (x y : Int) : Int := (Int32.ofInt x / Int32.ofInt y).toInt
def jrem (x y : Int) : Int := (Int32.ofInt x - Int32.ofInt x / Int32.ofInt y * Int32.ofInt y).toInt
def ldv (x y : Int) : Int := (Int64.ofInt x / Int64.ofInt y).toInt
theorem div32 {x y : Int} (hx : i32 x) (hy : i32 y) (h0 : 0 ≤ x) (h1 : 0 < y) : Int32.ofInt x / Int32.ofInt y = Int32.ofInt (x / y) := by
  apply Int32.toInt_inj.mp
  have h : i32 (x / y) := by
    have a1 : 0 ≤ x / y := Int.ediv_nonneg h0 (Int.le_of_lt h1)
    have a2 : x / y ≤ x := Int.ediv_le_self y h0
    unfold i32 at *
    omega
  rw [Int32.toInt_div, t32' hx, t32' hy, t32' h, Int.tdiv_eq_ediv_of_nonneg h0]
  exact (bm32 _).trans (wr_id h)
theorem jdiv_nn {x y : Int} (hx : i32 x) (hy : i32 y) (h0 : 0 ≤ x) (h1 : 0 < y) : jdiv x y = x / y := by
  have h : i32 (x / y) := by
    have a1 : 0 ≤ x / y := Int.ediv_nonneg h0 (Int.le_of_lt h1)
    have a2 : x / y ≤ x := Int.ediv_le_self y h0
    unfold i32 at *
    omega
  unfold jdiv
  rw [div32 hx hy h0 h1, t32' h]
theorem rem32 {x y : Int} (hx : i32 x) (hy : i32 y) (h0 : 0 ≤ x) (h1 : 0 < y) : Int32.ofInt x - Int32.ofInt x / Int32.ofInt y * Int32.ofInt y = Int32.ofInt (x % y) := by
  rw [div32 hx hy h0 h1, ← Int32.ofInt_mul, ← Int32.ofInt_sub]
  congr 1
  rw [Int.emod_def, Int.mul_comm]
theorem i32_mod {x y : Int} (hy : i32 y) (h1 : 0 < y) : i32 (x % y) := by
  have a1 := Int.emod_nonneg x (show y ≠ 0 by omega)
  have a2 := Int.emod_lt_of_pos x h1
  unfold i32 at *
  omega
theorem jrem_nn {x y : Int} (hx : i32 x) (hy : i32 y) (h0 : 0 ≤ x) (h1 : 0 < y) : jrem x y = x % y := by
  unfold jrem
  rw [rem32 hx hy h0 h1, t32' (i32_mod hy h1)]
theorem div64 {x y : Int} (hx : i64 x) (hy : i64 y) (h0 : 0 ≤ x) (h1 : 0 < y) : Int64.ofInt x / Int64.ofInt y = Int64.ofInt (x / y) := by
  apply Int64.toInt_inj.mp
  have h : i64 (x / y) := by
    have a1 : 0 ≤ x / y := Int.ediv_nonneg h0 (Int.le_of_lt h1)
    have a2 : x / y ≤ x := Int.ediv_le_self y h0
    unfold i64 at *
    omega
  rw [Int64.toInt_div, t64' hx, t64' hy, t64' h, Int.tdiv_eq_ediv_of_nonneg h0]
  exact (bm64 _).trans (wl_id h)
theorem ldv_nn {x y : Int} (hx : i64 x) (hy : i64 y) (h0 : 0 ≤ x) (h1 : 0 < y) : ldv x y = x / y := by
  have h : i64 (x / y) := by
    have a1 : 0 ≤ x / y := Int.ediv_nonneg h0 (Int.le_of_lt h1)
    have a2 : x / y ≤ x := Int.ediv_le_self y h0
    unfold i64 at *
    omega
  unfold ldv
  rw [div64 hx hy h0 h1, t64' h]
theorem i2l32 {x : Int} (hx : i32 x) : (Int32.ofInt x).toInt64 = Int64.ofInt x := by
  apply Int64.toInt_inj.mp
  rw [Int32.toInt_toInt64, t32' hx, t64' (by unfold i32 at hx; unfold i64; omega)]
theorem l2i64 (x : Int) : (Int64.ofInt x).toInt32 = Int32.ofInt x := by
  apply Int32.toInt_inj.mp
  rw [Int64.toInt_toInt32, t64, t32]
  refine (bm32 _).trans ?_
  unfold wr wl
  omega
theorem i2b32 (x : Int) : (Int32.ofInt x).toInt8.toInt32 = Int32.ofInt (w8 x) := by
  apply Int32.toInt_inj.mp
  rw [Int8.toInt_toInt32, Int32.toInt_toInt8, t32, t32' (i32_w8 x)]
  refine (bm8 _).trans ?_
  unfold wr w8
  omega
