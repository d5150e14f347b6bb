/-! SETS of operations as bits -/
/-- the number whose bits (of the first t) are these -/
noncomputable def numR (P : Int → Prop) : Nat → Int
  | 0 => 0
  | t + 1 => numR P t + (@ite Int (P t) (Classical.propDecidable _) (pw t) 0)
theorem num_s {P : Int → Prop} {t : Nat} : numR P (t + 1) = numR P t + (@ite Int (P t) (Classical.propDecidable _) (pw t) 0) := rfl
theorem pw_nat (t : Nat) : pw ((t + 1 : Nat) : Int) = 2 * pw (t : Int) := by
  rw [show ((t + 1 : Nat) : Int) = (t : Int) + 1 by omega]
  exact pw_s (by omega)
theorem num_r (P : Int → Prop) : ∀ t : Nat, 0 ≤ numR P t ∧ numR P t < pw t := by
  intro t
  induction t with
  | zero => exact ⟨Int.le_refl 0, show (0 : Int) < 1 by omega⟩
  | succ t ih =>
    have hp := pw_pos t
    rw [pw_nat]
    show 0 ≤ numR P t + (@ite Int (P t) (Classical.propDecidable _) (pw t) 0) ∧ numR P t + (@ite Int (P t) (Classical.propDecidable _) (pw t) 0) < 2 * pw t
    split <;> omega
theorem pw_mono : ∀ {a b : Nat}, a ≤ b → pw a ≤ pw b := by
  intro a b h
  have := Nat.pow_le_pow_right (n := 2) (by omega) h
  unfold pw
  simp only [Int.toNat_natCast]
  omega
theorem pw_le8 {t : Nat} (h : t ≤ 8) : pw t ≤ 256 := pw_mono h
theorem num_ext {P P' : Int → Prop} : ∀ {t : Nat}, (∀ k : Int, 0 ≤ k → k < t → (P k ↔ P' k)) → numR P t = numR P' t := by
  intro t
  induction t with
  | zero => intro _; rfl
  | succ t ih =>
    intro h
    have e : P t = P' t := propext (h t (by omega) (by omega))
    rw [num_s, num_s, ih fun k a b => h k a (by omega), e]
theorem pw_dvd : ∀ {k t : Nat}, k < t → ∃ c, pw t = 2 * c * pw k := by
  intro k t h
  induction t with
  | zero => omega
  | succ t ih =>
    by_cases e : k = t
    · subst e
      exact ⟨1, by rw [pw_nat]; omega⟩
    · obtain ⟨c, hc⟩ := ih (by omega)
      refine ⟨2 * c, ?_⟩
      rw [pw_nat, hc, Int.mul_assoc 2 (2 * c)]
theorem num_bit {P : Int → Prop} : ∀ {t : Nat} {k : Int}, 0 ≤ k → k < t → (bitI (numR P t) k = 1 ↔ P k) := by
  intro t
  induction t with
  | zero => intro k a b; omega
  | succ t ih =>
    intro k a b
    have hp := pw_pos k
    by_cases e : k = t
    · subst e
      have hr := num_r P t
      rw [num_s]
      unfold bitI
      by_cases q : P (t : Int)
      · rw [if_pos q]
        refine ⟨fun _ => q, fun _ => ?_⟩
        rw [show numR P t + pw t = numR P t + 1 * pw t by omega, Int.add_mul_ediv_right _ _ (by omega), Int.ediv_eq_zero_of_lt hr.1 hr.2]
        rfl
      · rw [if_neg q, Int.add_zero, Int.ediv_eq_zero_of_lt hr.1 hr.2]
        exact ⟨fun y => absurd y (by decide), fun y => absurd y q⟩
    · have h := ih (k := k) a (by omega)
      have eb : bitI (numR P (t + 1)) k = bitI (numR P t) k := by
        obtain ⟨c, hc⟩ := pw_dvd (k := k.toNat) (t := t) (by omega)
        rw [show ((k.toNat : Nat) : Int) = k by omega] at hc
        rw [num_s]
        unfold bitI
        by_cases q : P (t : Int)
        · rw [if_pos q, hc, Int.add_mul_ediv_right _ _ (by omega), Int.mul_comm 2 c, Int.add_mul_emod_self_right]
        · rw [if_neg q, Int.add_zero]
      rw [eb]
      exact h
theorem num_split {P : Int → Prop} : ∀ {t : Nat} {k : Int}, 0 ≤ k → k < t → numR P t = numR (fun j => P j ∧ ¬ j = k) t + bitI (numR P t) k * pw k := by
  intro t k a b
  have hb : bitI (numR P t) k = @ite Int (P k) (Classical.propDecidable _) 1 0 := by
    have h1 := num_bit (P := P) a b
    have h2 := bitI_r (numR P t) k
    split
    · exact h1.mpr ‹_›
    · rename_i q
      rcases h2 with y | y
      · exact y
      · exact absurd (h1.mp y) q
  rw [hb]
  have gen : ∀ n : Nat, numR P n = numR (fun j => P j ∧ ¬ j = k) n + (if k < n then (@ite Int (P k) (Classical.propDecidable _) 1 0) * pw k else 0) := by
    intro n
    induction n with
    | zero =>
      rw [if_neg (by omega)]
      rfl
    | succ n ih =>
      show numR P n + _ = numR (fun j => P j ∧ ¬ j = k) n + _ + _
      rw [ih]
      by_cases e : k = n
      · subst e
        have e1 : ¬ ((n : Int) < (n : Int)) := by omega
        have e2 : (n : Int) < ((n + 1 : Nat) : Int) := by omega
        have e3 : ¬ (P (n : Int) ∧ ¬ (n : Int) = (n : Int)) := fun y => y.2 rfl
        rw [if_neg e1, if_neg e3, if_pos e2]
        by_cases q : P (n : Int)
        · rw [if_pos q, if_pos q]; omega
        · rw [if_neg q, if_neg q]; omega
      · by_cases h : k < n
        · rw [if_pos h, if_pos (show k < ((n + 1 : Nat) : Int) by omega)]
          by_cases q : P (n : Int)
          · rw [if_pos q, if_pos (show P (n : Int) ∧ ¬ (n : Int) = k from ⟨q, fun y => e y.symm⟩)]; omega
          · rw [if_neg q, if_neg (show ¬ (P (n : Int) ∧ ¬ (n : Int) = k) from fun y => q y.1)]; omega
        · rw [if_neg h, if_neg (show ¬ k < ((n + 1 : Nat) : Int) by omega)]
          by_cases q : P (n : Int)
          · rw [if_pos q, if_pos (show P (n : Int) ∧ ¬ (n : Int) = k from ⟨q, fun y => e y.symm⟩)]; omega
          · rw [if_neg q, if_neg (show ¬ (P (n : Int) ∧ ¬ (n : Int) = k) from fun y => q y.1)]
  have := gen t
  rw [if_pos b] at this
  exact this
theorem clr0 : ∀ k : Fin 8, ∀ x : Fin 256, jand (x.val : Int) (jxor ((2 ^ k.val : Nat) : Int) (-1)) = (x.val : Int) - (x.val / 2 ^ k.val % 2 : Nat) * ((2 ^ k.val : Nat) : Int) := by decide +kernel
/-- a bit taken out -/
theorem clr_e {s k : Int} (hs : 0 ≤ s ∧ s < 256) (hk : 0 ≤ k ∧ k < 8) : jand s (jxor (pw k) (-1)) = s - bitI s k * pw k := by
  have e := clr0 ⟨k.toNat, by omega⟩ ⟨s.toNat, by omega⟩
  have e' : jand ((s.toNat : Nat) : Int) (jxor (pw k) (-1)) = ((s.toNat : Nat) : Int) - ((s.toNat / 2 ^ k.toNat % 2 : Nat) : Int) * pw k := e
  have e2 : ((s.toNat / 2 ^ k.toNat % 2 : Nat) : Int) = bitI s k := by
    unfold bitI pw
    rw [Int.natCast_emod, Int.natCast_ediv, show ((s.toNat : Nat) : Int) = s by omega]
    rfl
  rw [e2, show ((s.toNat : Nat) : Int) = s by omega] at e'
  exact e'
theorem num_clr {P : Int → Prop} {t : Nat} {k : Int} (ht : t ≤ 8) (hk : 0 ≤ k ∧ k < t) : jand (numR P t) (jxor (jshl 1 k) (-1)) = numR (fun j => P j ∧ ¬ j = k) t := by
  have hr := num_r P t
  have h8 := pw_le8 ht
  rw [jshl_1 (by omega), clr_e (by omega) (by omega)]
  have := num_split (P := P) hk.1 hk.2
  omega
theorem m1_0 : ∀ x : Fin 256, jand (x.val : Int) (-1) = (x.val : Int) := by decide +kernel
theorem jand_m1 {x : Int} (hx : 0 ≤ x ∧ x < 256) : jand x (-1) = x := by
  have e := m1_0 ⟨x.toNat, by omega⟩
  have e' : jand ((x.toNat : Nat) : Int) (-1) = ((x.toNat : Nat) : Int) := e
  rw [show ((x.toNat : Nat) : Int) = x by omega] at e'
  exact e'
/-- a number is the set of its bits -/
theorem num_of : ∀ {t : Nat} {s : Int}, 0 ≤ s → s < pw t → numR (fun j => bitI s j = 1) t = s := by
  intro t
  induction t with
  | zero =>
    intro s a b
    have : pw ((0 : Nat) : Int) = 1 := rfl
    show (0 : Int) = s
    omega
  | succ t ih =>
    intro s a b
    rw [pw_nat] at b
    have hp := pw_pos t
    have hs2 : 0 ≤ s % pw t ∧ s % pw t < pw t := ⟨Int.emod_nonneg _ (by omega), Int.emod_lt_of_pos _ hp⟩
    have hd : s = pw t * (s / pw t) + s % pw t := (Int.mul_ediv_add_emod s (pw t)).symm
    have hq : s / pw t = 0 ∨ s / pw t = 1 := by
      have h0 : 0 ≤ s / pw t := Int.ediv_nonneg a (by omega)
      have h1 : s / pw t < 2 := Int.ediv_lt_of_lt_mul hp b
      omega
    have e1 : numR (fun j => bitI s j = 1) t = numR (fun j => bitI (s % pw t) j = 1) t := num_ext fun k k0 k1 => by
      obtain ⟨c, hc⟩ := pw_dvd (k := k.toNat) (t := t) (by omega)
      rw [show ((k.toNat : Nat) : Int) = k by omega] at hc
      have hpk := pw_pos k
      have eb : bitI s k = bitI (s % pw t) k := by
        unfold bitI
        rcases hq with q | q
        · rw [show s = s % pw t by rw [q] at hd; omega]
          rw [Int.emod_emod]
        · have hs' : s = s % pw t + c * 2 * pw k := by rw [q, hc] at hd; rw [show c * 2 * pw k = 2 * c * pw k by rw [Int.mul_comm c 2]]; rw [← hc] at hd ⊢; omega
          conv => lhs; rw [hs']
          rw [Int.add_mul_ediv_right _ _ (by omega), Int.add_mul_emod_self_right]
      show bitI s k = 1 ↔ bitI (s % pw t) k = 1
      rw [eb]
    show numR (fun j => bitI s j = 1) t + (@ite Int (bitI s t = 1) (Classical.propDecidable _) (pw t) 0) = s
    rw [e1, ih hs2.1 hs2.2]
    have eb : bitI s t = s / pw t := by unfold bitI; omega
    rw [eb]
    rcases hq with q | q
    · rw [if_neg (by omega)]; rw [q] at hd; omega
    · rw [if_pos q]; rw [q] at hd; omega
/-! how many bits, the lowest one -/
def bc0 (x : Int) : Int := x % 2 + x / 2 % 2 + x / 4 % 2 + x / 8 % 2 + x / 16 % 2 + x / 32 % 2 + x / 64 % 2 + x / 128 % 2
def lo0 (x : Int) : Int := if x % 2 = 1 then 0 else if x / 2 % 2 = 1 then 1 else if x / 4 % 2 = 1 then 2 else if x / 8 % 2 = 1 then 3 else if x / 16 % 2 = 1 then 4 else if x / 32 % 2 = 1 then 5 else if x / 64 % 2 = 1 then 6 else if x / 128 % 2 = 1 then 7 else 32
theorem ush_am : ∀ k : Fin 32, (((Int32.ofInt (k.val : Int)).toUInt32 &&& Int32.toUInt32 31).toBitVec % 32) = BitVec.ofNat 32 k.val := by decide +kernel
theorem jushr_k {x : Int} (k : Nat) (hk : 1 ≤ k ∧ k < 32) : jushr x (k : Int) = x % 4294967296 / ((2 ^ k : Nat) : Int) := by
  have hp : 2 ≤ 2 ^ k := by
    have := Nat.pow_le_pow_right (n := 2) (by omega) hk.1
    omega
  have e : ((Int32.ofInt x).toUInt32 >>> ((Int32.ofInt (k : Int)).toUInt32 &&& Int32.toUInt32 31)).toInt32.toBitVec.toNat = (x % 4294967296).toNat / 2 ^ k := by
    show ((Int32.ofInt x).toBitVec >>> (((Int32.ofInt (k : Int)).toUInt32 &&& Int32.toUInt32 31).toBitVec % 32)).toNat = _
    rw [ush_am ⟨k, hk.2⟩]
    show ((Int32.ofInt x).toBitVec >>> ((BitVec.ofNat 32 k).toNat)).toNat = _
    rw [BitVec.toNat_ushiftRight, j_toNat, Nat.shiftRight_eq_div_pow, BitVec.toNat_ofNat, Nat.mod_eq_of_lt (Nat.lt_of_lt_of_le hk.2 (by decide))]
  have lt : (x % 4294967296).toNat / 2 ^ k < 2147483648 := by
    refine Nat.div_lt_of_lt_mul ?_
    have : 2 * 2147483648 ≤ 2 ^ k * 2147483648 := Nat.mul_le_mul_right _ hp
    omega
  show ((Int32.ofInt x).toUInt32 >>> ((Int32.ofInt (k : Int)).toUInt32 &&& Int32.toUInt32 31)).toInt32.toBitVec.toInt = _
  rw [bv_lo (by rw [e]; exact lt), e, Int.natCast_ediv, Int.toNat_of_nonneg (Int.emod_nonneg _ (by omega))]
theorem jus1 {x : Int} (h : 0 ≤ x ∧ x < 2147483648) : jushr x 1 = x / 2 := by
  have := jushr_k (x := x) 1 (by omega)
  rw [show x % 4294967296 = x by omega] at this
  exact this
theorem jus2 {x : Int} (h : 0 ≤ x ∧ x < 2147483648) : jushr x 2 = x / 4 := by
  have := jushr_k (x := x) 2 (by omega)
  rw [show x % 4294967296 = x by omega] at this
  exact this
theorem jus4 {x : Int} (h : 0 ≤ x ∧ x < 2147483648) : jushr x 4 = x / 16 := by
  have := jushr_k (x := x) 4 (by omega)
  rw [show x % 4294967296 = x by omega] at this
  exact this
def bcE (x : Int) : Int :=
  let a := wr (x - jand (jushr x 1) 1431655765)
  let b := wr (jand a 858993459 + jand (jushr a 2) 858993459)
  let c := jand (wr (b + jushr b 4)) 252645135
  let d := wr (c + jushr c 8)
  let e := wr (d + jushr d 16)
  jand e 63
theorem bcE_0 : ∀ x : Fin 256, bcE (x.val : Int) = bc0 (x.val : Int) := by decide +kernel
theorem bcE_e {x : Int} (h : 0 ≤ x ∧ x < 256) : bcE x = bc0 x := by
  have e := bcE_0 ⟨x.toNat, by omega⟩
  have e' : bcE ((x.toNat : Nat) : Int) = bc0 ((x.toNat : Nat) : Int) := e
  rw [show ((x.toNat : Nat) : Int) = x by omega] at e'
  exact e'
def mk0 (x : Int) : Int := if x = 0 then -1 else pw (lo0 x) - 1
theorem mk_0 : ∀ x : Fin 256, jand (jxor (x.val : Int) (-1)) ((x.val : Int) - 1) = mk0 (x.val : Int) := by decide +kernel
theorem mk_e {x : Int} (h : 0 ≤ x ∧ x < 256) : jand (jxor x (-1)) (x - 1) = mk0 x := by
  have e := mk_0 ⟨x.toNat, by omega⟩
  have e' : jand (jxor ((x.toNat : Nat) : Int) (-1)) (((x.toNat : Nat) : Int) - 1) = mk0 ((x.toNat : Nat) : Int) := e
  rw [show ((x.toNat : Nat) : Int) = x by omega] at e'
  exact e'
theorem mk_r0 : ∀ x : Fin 256, (x.val = 0 ∧ mk0 (x.val : Int) = -1 ∧ lo0 (x.val : Int) = 32) ∨ (mk0 (x.val : Int) = 0 ∧ lo0 (x.val : Int) = 0) ∨ (mk0 (x.val : Int) = 1 ∧ lo0 (x.val : Int) = 1) ∨ (mk0 (x.val : Int) = 3 ∧ lo0 (x.val : Int) = 2) ∨ (mk0 (x.val : Int) = 7 ∧ lo0 (x.val : Int) = 3) ∨ (mk0 (x.val : Int) = 15 ∧ lo0 (x.val : Int) = 4) ∨ (mk0 (x.val : Int) = 31 ∧ lo0 (x.val : Int) = 5) ∨ (mk0 (x.val : Int) = 63 ∧ lo0 (x.val : Int) = 6) ∨ (mk0 (x.val : Int) = 127 ∧ lo0 (x.val : Int) = 7) := by decide +kernel
theorem mk_r {x : Int} (h : 0 ≤ x ∧ x < 256) : (mk0 x = -1 ∧ lo0 x = 32) ∨ (mk0 x = 0 ∧ lo0 x = 0) ∨ (mk0 x = 1 ∧ lo0 x = 1) ∨ (mk0 x = 3 ∧ lo0 x = 2) ∨ (mk0 x = 7 ∧ lo0 x = 3) ∨ (mk0 x = 15 ∧ lo0 x = 4) ∨ (mk0 x = 31 ∧ lo0 x = 5) ∨ (mk0 x = 63 ∧ lo0 x = 6) ∨ (mk0 x = 127 ∧ lo0 x = 7) := by
  have e := mk_r0 ⟨x.toNat, by omega⟩
  have e3 : ((x.toNat : Nat) : Int) = x := by omega
  simp only [e3] at e
  exact e.imp (fun q => q.2) id
