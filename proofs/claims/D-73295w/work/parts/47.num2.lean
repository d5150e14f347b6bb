/-! NUMBERS, once more: masks and shifts -/
theorem j_toNat (x : Int) : (Int32.ofInt x).toBitVec.toNat = (x % 4294967296).toNat := by
  show (BitVec.ofInt 32 x).toNat = _
  rw [BitVec.toNat_ofInt]
  rfl
theorem bv_lo {b : BitVec 32} (h : b.toNat < 2147483648) : b.toInt = b.toNat := by
  rw [BitVec.toInt_eq_toNat_cond]
  rw [if_pos (by omega)]
theorem jand_lo {x y : Int} (k : Nat) (hk : k < 32) (hy : y = ((2 ^ k : Nat) : Int) - 1) : jand x y = x % ((2 ^ k : Nat) : Int) := by
  have hp : (2 ^ k : Nat) ≤ 2 ^ 31 := Nat.pow_le_pow_right (by omega) (by omega)
  have hp0 : 0 < (2 ^ k : Nat) := Nat.pow_pos (by omega)
  have e1 : (Int32.ofInt y).toBitVec.toNat = 2 ^ k - 1 := by
    rw [j_toNat, hy]
    omega
  have e2 : (Int32.ofInt x &&& Int32.ofInt y).toBitVec.toNat = (x % 4294967296).toNat % 2 ^ k := by
    show ((Int32.ofInt x).toBitVec &&& (Int32.ofInt y).toBitVec).toNat = _
    rw [BitVec.toNat_and, e1, j_toNat, Nat.and_two_pow_sub_one_eq_mod]
  have lt : (x % 4294967296).toNat % 2 ^ k < 2 ^ k := Nat.mod_lt _ hp0
  show (Int32.ofInt x &&& Int32.ofInt y).toBitVec.toInt = _
  rw [bv_lo (by rw [e2]; omega), e2, Int.natCast_emod, Int.toNat_of_nonneg (Int.emod_nonneg _ (by omega))]
  exact Int.emod_emod_of_dvd x (by
    have : (2 ^ 32 : Nat) = 2 ^ k * 2 ^ (32 - k) := by rw [← Nat.pow_add]; congr 1; omega
    refine ⟨((2 ^ (32 - k) : Nat) : Int), ?_⟩
    rw [← Int.natCast_mul, ← this]
    rfl)
theorem jshr_16 {x : Int} (hx : i32 x) : jshr x 16 = x / 65536 := by
  show ((Int32.ofInt x).toBitVec.sshiftRight' (((Int32.ofInt 16 &&& 31).toBitVec).smod 32)).toInt = _
  have e : ((Int32.ofInt 16 &&& 31).toBitVec).smod 32 = 16#32 := by decide
  rw [e, BitVec.sshiftRight_eq', BitVec.toInt_sshiftRight]
  have e2 : (Int32.ofInt x).toBitVec.toInt = x := t32' hx
  rw [e2, Int.shiftRight_eq_div_pow]
  rfl
theorem jushr_16 {x : Int} : jushr x 16 = x % 4294967296 / 65536 := by
  have e : ((Int32.ofInt x).toUInt32 >>> ((Int32.ofInt 16).toUInt32 &&& Int32.toUInt32 31)).toInt32.toBitVec.toNat = (x % 4294967296).toNat / 65536 := by
    show ((Int32.ofInt x).toBitVec >>> (((Int32.ofInt 16).toUInt32 &&& Int32.toUInt32 31).toBitVec % 32)).toNat = _
    have e1 : (((Int32.ofInt 16).toUInt32 &&& Int32.toUInt32 31).toBitVec % 32) = 16#32 := by decide
    rw [e1]
    show ((Int32.ofInt x).toBitVec >>> (16 : Nat)).toNat = _
    rw [BitVec.toNat_ushiftRight, j_toNat, Nat.shiftRight_eq_div_pow]
  show ((Int32.ofInt x).toUInt32 >>> ((Int32.ofInt 16).toUInt32 &&& Int32.toUInt32 31)).toInt32.toBitVec.toInt = _
  rw [bv_lo (by rw [e]; omega), e]
  omega
/-- what is drawn of a seed: 15 bits -/
def drawV (s : Int) : Int := s / 65536 % 32768
theorem draw_u {s : Int} : jand (jushr s 16) 32767 = drawV s := by
  rw [jand_lo (y := 32767) 15 (by omega) rfl, jushr_16]
  unfold drawV
  show s % 4294967296 / 65536 % 32768 = s / 65536 % 32768
  omega
theorem draw_s {s : Int} (h : i32 s) : jand (jshr s 16) 32767 = drawV s := by
  rw [jand_lo (y := 32767) 15 (by omega) rfl, jshr_16 h]
  rfl
/-- the next seed -/
def seedV (s : Int) : Int := wr (wr (1103515245 * s) + 12345)
