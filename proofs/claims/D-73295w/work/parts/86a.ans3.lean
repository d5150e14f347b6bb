/-! PURE: sets in peace, programs that leak -/
def peaceV (v : Vw) (s : Int) : Prop := ∀ a b, 0 ≤ b → b < a → a < v 0 → bitI s a = 1 → bitI s b = 1 → ¬ clashV v a b
noncomputable def besR (v : Vw) : Nat → Int
  | 0 => 0
  | t + 1 => @ite Int (bc0 (besR v t) < bc0 ((t + 1 : Nat) : Int) ∧ peaceV v ((t + 1 : Nat) : Int)) (Classical.propDecidable _) ((t + 1 : Nat) : Int) (besR v t)
noncomputable def besideAns (v : Vw) : Int := besR v (pw (v 0) - 1).toNat
theorem besR_s {v : Vw} {t : Nat} : besR v (t + 1) = @ite Int (bc0 (besR v t) < bc0 ((t + 1 : Nat) : Int) ∧ peaceV v ((t + 1 : Nat) : Int)) (Classical.propDecidable _) ((t + 1 : Nat) : Int) (besR v t) := rfl
theorem besR_r (v : Vw) : ∀ t : Nat, 0 ≤ besR v t ∧ besR v t ≤ t := by
  intro t
  induction t with
  | zero => exact ⟨Int.le_refl 0, Int.le_refl 0⟩
  | succ t ih =>
    rw [besR_s]
    split <;> omega
/-- a bench with a program of n operations -/
def prgV (v : Vw) (n : Int) (f : Int → Int) : Vw := fun k => if k = 3 then n else if 12 ≤ k ∧ k < 12 + n then f (k - 12) else v k
def digV (o num n : Int) : Int → Int := fun k => num / o ^ (n - 1 - k).toNat % o
/-- a program in figures -/
def figR (f : Int → Int) : Nat → Int
  | 0 => 0
  | t + 1 => 10 * figR f t + f t + 1
noncomputable def prfR (v : Vw) (n : Int) : Nat → Int → Int
  | 0, _ => -1
  | t + 1, num => if leakV (prgV v n (digV (v 0) num n)) = -1 then prfR v n t (num + 1) else 1000 * n + figR (digV (v 0) num n) n.toNat
noncomputable def prfS (v : Vw) : Nat → Int → Int
  | 0, _ => -1
  | t + 1, n => if prfR v n (v 0 ^ n.toNat).toNat 0 = -1 then prfS v t (n + 1) else prfR v n (v 0 ^ n.toNat).toNat 0
noncomputable def proofAns (v : Vw) : Int := if v 0 = 0 then -1 else prfS v 3 1
theorem prfR_s {v : Vw} {n num : Int} {t : Nat} : prfR v n (t + 1) num = if leakV (prgV v n (digV (v 0) num n)) = -1 then prfR v n t (num + 1) else 1000 * n + figR (digV (v 0) num n) n.toNat := rfl
theorem prfS_s {v : Vw} {n : Int} {t : Nat} : prfS v (t + 1) n = if prfR v n (v 0 ^ n.toNat).toNat 0 = -1 then prfS v t (n + 1) else prfR v n (v 0 ^ n.toNat).toNat 0 := rfl
theorem digV_r {o num n k : Int} (h : 0 < o) : 0 ≤ digV o num n k ∧ digV o num n k < o := ⟨Int.emod_nonneg _ (by omega), Int.emod_lt_of_pos _ h⟩
theorem figR_r {f : Int → Int} (h : ∀ k, 0 ≤ f k ∧ f k < 8) : ∀ t : Nat, 0 ≤ figR f t ∧ (0 < t → 0 < figR f t) ∧ (t = 0 → figR f t = 0) ∧ (t = 1 → figR f t ≤ 8) ∧ (t = 2 → figR f t ≤ 88) ∧ (t = 3 → figR f t ≤ 888) := by
  intro t
  induction t with
  | zero => exact ⟨Int.le_refl 0, fun q => by omega, fun _ => rfl, fun q => by omega, fun q => by omega, fun q => by omega⟩
  | succ t ih =>
    have := h t
    have e : figR f (t + 1) = 10 * figR f t + f t + 1 := rfl
    rw [e]
    obtain ⟨a, b, c, d1, d2, d3⟩ := ih
    refine ⟨by omega, fun _ => by omega, fun q => by omega, fun q => ?_, fun q => ?_, fun q => ?_⟩
    · have := c (by omega); omega
    · have := d1 (by omega); omega
    · have := d2 (by omega); omega
theorem okB_prg {v : Vw} {n : Int} {f : Int → Int} (h : okB v) (hn : 0 ≤ n ∧ n ≤ 10) (hf : ∀ k, 0 ≤ k → k < n → 0 ≤ f k ∧ f k < v 0) : okB (prgV v n f) := by
  have e : ∀ k, ¬ k = 3 → ¬ (12 ≤ k ∧ k < 22) → prgV v n f k = v k := fun k a b => by unfold prgV; rw [if_neg a, if_neg (by omega)]
  have e3 : prgV v n f 3 = n := if_pos rfl
  have hv8 := h.n8
  obtain ⟨h1, h2, h3, h4, h5, h6, h7, h8, h9, h10, h11, h12, h13, h14⟩ := h
  refine ⟨by rw [e 0 (by omega) (by omega)]; exact h1, by rw [e 1 (by omega) (by omega)]; exact h2, by rw [e 2 (by omega) (by omega)]; exact h3, by rw [e3]; exact hn, by rw [e 4 (by omega) (by omega)]; exact h5, by rw [e 5 (by omega) (by omega)]; exact h6, by rw [e 6 (by omega) (by omega)]; exact h7, by rw [e 7 (by omega) (by omega)]; exact h8, by rw [e 8 (by omega) (by omega)]; exact h9, by rw [e 9 (by omega) (by omega)]; exact h10, by rw [e 10 (by omega) (by omega)]; exact h11, fun k a b => ?_, fun k a b => ?_, fun k a b => ?_⟩
  · rw [e3] at b
    rw [e 0 (by omega) (by omega)]
    unfold prgV
    rw [if_neg (by omega), if_pos (by omega), show 12 + k - 12 = k by omega]
    exact hf k a b
  · rw [e _ (by omega) (by omega)]; exact h13 k a b
  · rw [e 0 (by omega) (by omega)] at b
    obtain ⟨k1, k2, k3, k4⟩ := h14 k a b
    have eN : opN (prgV v n f) k = opN v k := e _ (by omega) (by omega)
    refine ⟨by rw [eN]; exact k1, by rw [show opG (prgV v n f) k = opG v k from e _ (by omega) (by omega)]; exact k2, by rw [show opP (prgV v n f) k = opP v k from e _ (by omega) (by omega)]; exact k3, fun j c1 c2 => ?_⟩
    rw [eN] at c2
    rw [show opK (prgV v n f) k j = opK v k j from e _ (by omega) (by omega), show opX (prgV v n f) k j = opX v k j from e _ (by omega) (by omega)]
    exact k4 j c1 c2
theorem wfC_at {v v' : Vw} (he : ∀ k, 417 ≤ k → v' k = v k) : ∀ (t : Nat) (i : Int) (n : Nat), 0 ≤ i → wfC v t i n → wfC v' t i n := by
  intro t
  induction t with
  | zero => intro i n _ _; trivial
  | succ t ih =>
    intro i n hi h
    unfold wfC at h ⊢
    rw [he (417 + 2 * i) (by omega)]
    split
    · rename_i q
      rw [if_pos q] at h
      exact ih _ _ (by omega) h
    · rename_i q
      rw [if_neg q] at h
      split
      · rename_i q2
        rw [if_pos q2] at h
        exact ⟨h.1, ih _ _ (by omega) h.2⟩
      · rename_i q2
        rw [if_neg q2] at h
        exact ⟨h.1, ih _ _ (by omega) h.2⟩
/-- the law is that of another bench with the same text -/
theorem lawOK.at {v v' : Vw} (h : lawOK v) (e2 : v' 2 = v 2) (e : ∀ k, 368 ≤ k → v' k = v k) : lawOK v' := by
  obtain ⟨h1, h2⟩ := h
  refine ⟨by rw [e2]; exact h1, fun q => ?_⟩
  rw [e2] at q
  obtain ⟨l1, l2⟩ := h2 q
  rw [e 368 (by omega)]
  refine ⟨l1, fun n n0 n1 => ?_⟩
  obtain ⟨a1, a2, a3, a4, a5⟩ := l2 n n0 n1
  unfold lineOK
  rw [e (369 + 4 * n) (by omega), e (370 + 4 * n) (by omega), e (371 + 4 * n) (by omega), e (372 + 4 * n) (by omega)]
  refine ⟨a1, a2, a3, fun i i0 i1 => ?_, wfC_at (fun k q => e k (by omega)) _ _ _ a3.1 a5⟩
  rw [e (417 + 2 * i) (by omega), e (418 + 2 * i) (by omega)]
  exact a4 i i0 i1
theorem traV_ops {v v' : Vw} {p : Int} (he : ∀ k, 30 ≤ k → k < 102 → v' k = v k) (h : okOp v p) (hp : 0 ≤ p ∧ p < 8) : traV v' p = traV v p := by
  have h3 := h.1
  exact (traV_op (he _ (by omega) (by omega)).symm (he _ (by omega) (by omega)).symm fun i i0 i1 => ⟨(he _ (by omega) (by omega)).symm, (he _ (by omega) (by omega)).symm⟩).symm
theorem TrOk.ops {f : Ci} {m : Int} {v v' : Vw} (h : TrOk f m v) (hv : okB v) (e0 : v' 0 = v 0) (he : ∀ k, 30 ≤ k → k < 102 → v' k = v k) : TrOk f m v' := fun p a b => by
  have h8 := hv.n8
  rw [e0] at b
  rw [traV_ops he (hv.op p a b) (by omega)]
  exact h p a b
/-- a boot forgets where guests were -/
theorem bootV_eq {v v' : Vw} (h : eqB v v') : bootV v' = bootV v := funext fun k => by
  by_cases hk : 102 ≤ k ∧ k < 128
  · rcases (show k = 102 ∨ k = 103 ∨ k = 104 ∨ k = 105 ∨ k = 106 ∨ k = 107 ∨ k = 108 ∨ k = 109 ∨ k = 110 ∨ k = 111 ∨ k = 112 ∨ k = 113 ∨ k = 114 ∨ k = 115 ∨ k = 116 ∨ k = 117 ∨ k = 118 ∨ k = 119 ∨ k = 120 ∨ k = 121 ∨ k = 122 ∨ k = 123 ∨ k = 124 ∨ k = 125 ∨ k = 126 ∨ k = 127 by omega) with rfl | rfl | rfl | rfl | rfl | rfl | rfl | rfl | rfl | rfl | rfl | rfl | rfl | rfl | rfl | rfl | rfl | rfl | rfl | rfl | rfl | rfl | rfl | rfl | rfl | rfl
    · rfl
    · rfl
    · rfl
    · rfl
    · rfl
    · exact h 22 (by omega)
    · exact h 23 (by omega)
    · exact h 24 (by omega)
    · exact h 25 (by omega)
    · exact h 26 (by omega)
    · exact h 27 (by omega)
    · exact h 28 (by omega)
    · exact h 29 (by omega)
    · rfl
    · rfl
    · rfl
    · rfl
    · rfl
    · exact h 22 (by omega)
    · exact h 23 (by omega)
    · exact h 24 (by omega)
    · exact h 25 (by omega)
    · exact h 26 (by omega)
    · exact h 27 (by omega)
    · exact h 28 (by omega)
    · exact h 29 (by omega)
  · rw [bootV_eqB k hk, bootV_eqB k hk]
    exact h k hk
theorem leakV_eq {v v' : Vw} (h : eqB v v') : leakV v' = leakV v := by
  unfold leakV
  rw [bootV_eq h]
