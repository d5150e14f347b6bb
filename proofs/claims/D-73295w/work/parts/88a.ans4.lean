/-! PURE: which operation it was -/
/-- what is told of an operation -/
noncomputable def toldV (v : Vw) (p w : Int) : Int := if w = 0 then opN v p else if w = 1 then opG v p else if w = 6 then opK v p 0 else trtV v p (w - 2)
/-- what is told is well formed: n bytes, two by two -/
def toldOk (tp : Int → Int) (n : Int) : Prop := n % 2 = 0 ∧ n ≤ 40 ∧ ∀ k, 0 ≤ k → k < n → k % 2 = 0 → (0 ≤ tp k ∧ tp k ≤ 6) ∧ 0 ≤ tp (k + 1) ∧ tp (k + 1) ≤ 10
/-- of the first t rows how many are wrong -/
noncomputable def wrgR (v : Vw) (tp : Int → Int) (p : Int) : Nat → Int
  | 0 => 0
  | t + 1 => wrgR v tp p t + (if toldV v p (tp (2 * (t : Int))) = tp (2 * (t : Int) + 1) then 0 else 1)
noncomputable def wrgV (v : Vw) (tp : Int → Int) (n p : Int) : Int := wrgR v tp p (n / 2).toNat
noncomputable def fitV (v : Vw) (tp : Int → Int) (n w : Int) : Int := numR (fun p => wrgV v tp n p ≤ w) (v 0).toNat
theorem wrgR_r (v : Vw) (tp : Int → Int) (p : Int) : ∀ t : Nat, 0 ≤ wrgR v tp p t ∧ wrgR v tp p t ≤ t := by
  intro t
  induction t with
  | zero => exact ⟨Int.le_refl 0, Int.le_refl 0⟩
  | succ t ih =>
    unfold wrgR
    split <;> omega
noncomputable def likelyAns (v : Vw) (tp : Int → Int) (n : Int) : Int := if fitV v tp n 0 = 0 then (if fitV v tp n 1 = 0 then -1 else lo0 (fitV v tp n 1)) else lo0 (fitV v tp n 0)
/-- of a set how many (of the first t) are told a value -/
noncomputable def partC (v : Vw) (s w x : Int) : Nat → Int
  | 0 => 0
  | t + 1 => partC v s w x t + (if bitI s t = 1 ∧ toldV v t w = x then 1 else 0)
/-- the most of the first t values -/
noncomputable def partR (v : Vw) (s w : Int) : Nat → Int
  | 0 => 0
  | t + 1 => if partR v s w t ≤ partC v s w t (v 0).toNat then partC v s w t (v 0).toNat else partR v s w t
noncomputable def partV (v : Vw) (s w : Int) : Int := partR v s w 11
/-- among the first t things that are told the first one with the smallest part -/
noncomputable def askB (v : Vw) (s : Int) : Nat → Int × Int
  | 0 => (-1, 1000000)
  | t + 1 => if partV v s t < (askB v s t).2 then ((t : Int), partV v s t) else askB v s t
noncomputable def askAns (v : Vw) (tp : Int → Int) (n : Int) : Int := if bc0 (fitV v tp n 1) ≤ 1 then -1 else (askB v (fitV v tp n 1) 7).1
theorem partC_r (v : Vw) (s w x : Int) : ∀ t : Nat, 0 ≤ partC v s w x t ∧ partC v s w x t ≤ t := by
  intro t
  induction t with
  | zero => exact ⟨Int.le_refl 0, Int.le_refl 0⟩
  | succ t ih =>
    unfold partC
    split <;> omega
theorem partR_r (v : Vw) (s w : Int) (h : 0 ≤ v 0 ∧ v 0 ≤ 8) : ∀ t : Nat, 0 ≤ partR v s w t ∧ partR v s w t ≤ 8 := by
  intro t
  induction t with
  | zero => exact ⟨Int.le_refl 0, show (0 : Int) ≤ 8 by omega⟩
  | succ t ih =>
    have := partC_r v s w t (v 0).toNat
    unfold partR
    split <;> omega
