/-! NUMBERS: bits -/
theorem sh_am : ∀ k : Fin 32, ((Int32.ofInt (k.val : Int) &&& 31).toBitVec).smod 32 = BitVec.ofNat 32 k.val := by decide +kernel
theorem jshr_k {x : Int} (hx : i32 x) (k : Nat) (hk : k < 32) : jshr x (k : Int) = x / ((2 ^ k : Nat) : Int) := by
  show ((Int32.ofInt x).toBitVec.sshiftRight' (((Int32.ofInt (k : Int) &&& 31).toBitVec).smod 32)).toInt = _
  rw [sh_am ⟨k, hk⟩, BitVec.sshiftRight_eq', BitVec.toInt_sshiftRight]
  have e2 : (Int32.ofInt x).toBitVec.toInt = x := t32' hx
  rw [e2, Int.shiftRight_eq_div_pow, BitVec.toNat_ofNat, Nat.mod_eq_of_lt (Nat.lt_of_lt_of_le hk (by decide))]
theorem jand_1b (x : Int) : jand x 1 = x % 2 := jand_lo 1 (by omega) rfl
theorem jand_7b (x : Int) : jand x 7 = x % 8 := jand_lo 3 (by omega) rfl
/-- the power of two -/
def pw (k : Int) : Int := ((2 ^ k.toNat : Nat) : Int)
/-- the bit k of s -/
def bitI (s k : Int) : Int := s / pw k % 2
theorem pw_pos (k : Int) : 0 < pw k := by
  have : 0 < 2 ^ k.toNat := Nat.pow_pos (by omega)
  unfold pw
  omega
theorem bitI_r (s k : Int) : bitI s k = 0 ∨ bitI s k = 1 := by unfold bitI; omega
theorem has_e {s k : Int} (hs : i32 s) (hk : 0 ≤ k ∧ k < 32) : jand (jshr s k) 1 = bitI s k := by
  have e : k = ((k.toNat : Nat) : Int) := by omega
  rw [jand_1b]
  conv => lhs; rw [e]
  rw [jshr_k hs k.toNat (by omega)]
  rfl
theorem jshl_0 : ∀ k : Fin 16, jshl 1 (k.val : Int) = ((2 ^ k.val : Nat) : Int) := by decide +kernel
theorem jshl_1 {k : Int} (hk : 0 ≤ k ∧ k < 16) : jshl 1 k = pw k := by
  have e := jshl_0 ⟨k.toNat, by omega⟩
  have e2 : ((k.toNat : Nat) : Int) = k := by omega
  rw [← e2]
  exact e
theorem jor_lt0 : ∀ k : Fin 8, ∀ x : Fin 256, x.val < 2 ^ k.val → jor (x.val : Int) ((2 ^ k.val : Nat) : Int) = (x.val : Int) + ((2 ^ k.val : Nat) : Int) := by decide +kernel
/-- a bit more, above all that are -/
theorem jor_lt {x k : Int} (hk : 0 ≤ k ∧ k < 8) (hx : 0 ≤ x ∧ x < pw k) : jor x (pw k) = x + pw k := by
  have h8 : (2 ^ k.toNat : Nat) ≤ 2 ^ 7 := Nat.pow_le_pow_right (by omega) (by omega)
  have hx' : x < ((2 ^ k.toNat : Nat) : Int) := hx.2
  have e := jor_lt0 ⟨k.toNat, by omega⟩ ⟨x.toNat, by omega⟩ (show x.toNat < 2 ^ k.toNat by omega)
  have e2 : ((x.toNat : Nat) : Int) = x := by omega
  have e' : jor ((x.toNat : Nat) : Int) (pw k) = ((x.toNat : Nat) : Int) + pw k := e
  rw [e2] at e'
  exact e'
theorem jor_z0 : ∀ x : Fin 256, jor (x.val : Int) 0 = (x.val : Int) := by decide +kernel
theorem jor_z {x : Int} (hx : 0 ≤ x ∧ x < 256) : jor x 0 = x := by
  have e := jor_z0 ⟨x.toNat, by omega⟩
  have e' : jor ((x.toNat : Nat) : Int) 0 = ((x.toNat : Nat) : Int) := e
  rw [show ((x.toNat : Nat) : Int) = x by omega] at e'
  exact e'
theorem pw_0 : pw 0 = 1 := rfl
theorem pw_1 : pw 1 = 2 := rfl
theorem pw_2 : pw 2 = 4 := rfl
theorem pw_3 : pw 3 = 8 := rfl
theorem pw_s {k : Int} (hk : 0 ≤ k) : pw (k + 1) = 2 * pw k := by
  unfold pw
  rw [show (k + 1).toNat = k.toNat + 1 by omega, Nat.pow_succ]
  omega
