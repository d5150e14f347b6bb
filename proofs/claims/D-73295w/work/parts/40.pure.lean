/-! PURE LAYER: machines, operations -/
noncomputable def vP (p : Prop) : Int := @ite Int p (Classical.propDecidable p) 1 0
theorem vP_t {p : Prop} (h : p) : vP p = 1 := by unfold vP; rw [if_pos h]
theorem vP_f {p : Prop} (h : ¬ p) : vP p = 0 := by unfold vP; rw [if_neg h]
theorem vP_r (p : Prop) : vP p = 0 ∨ vP p = 1 := by
  by_cases h : p
  · exact Or.inr (vP_t h)
  · exact Or.inl (vP_f h)
theorem vP_1 {p : Prop} : vP p = 1 ↔ p := by
  by_cases h : p
  · rw [vP_t h]; simp [h]
  · rw [vP_f h]; simp [h]
theorem vP_0 {p : Prop} : vP p = 0 ↔ ¬ p := by
  by_cases h : p
  · rw [vP_t h]; simp [h]
  · rw [vP_f h]; simp [h]
theorem vP_c {p q : Prop} (h : p ↔ q) : vP p = vP q := by rw [propext h]
theorem vP_e {p : Prop} {x : Int} (h : x = 0 ∨ x = 1) (hp : x = 1 ↔ p) : x = vP p := by
  rcases h with rfl | rfl
  · exact (vP_f (fun q => by have := hp.mpr q; omega)).symm
  · exact (vP_t (hp.mp rfl)).symm
theorem vP_i32 (p : Prop) : i32 (vP p) := by
  rcases vP_r p with h | h <;> rw [h] <;> unfold i32 <;> omega
theorem jor_01 {x y : Int} (hx : x = 0 ∨ x = 1) (hy : y = 0 ∨ y = 1) : jor x y = vP (x = 1 ∨ y = 1) := by
  rcases hx with rfl | rfl <;> rcases hy with rfl | rfl
  · rw [vP_f (by omega)]; decide
  · rw [vP_t (by omega)]; decide
  · rw [vP_t (by omega)]; decide
  · rw [vP_t (by omega)]; decide
theorem jor_P (p q : Prop) : jor (vP p) (vP q) = vP (p ∨ q) := by
  rw [jor_01 (vP_r p) (vP_r q)]
  exact vP_c (by rw [vP_1, vP_1])
theorem jand_01 {x y : Int} (hx : x = 0 ∨ x = 1) (hy : y = 0 ∨ y = 1) : jand x y = vP (x = 1 ∧ y = 1) := by
  rcases hx with rfl | rfl <;> rcases hy with rfl | rfl
  · rw [vP_f (by omega)]; decide
  · rw [vP_f (by omega)]; decide
  · rw [vP_f (by omega)]; decide
  · rw [vP_t (by omega)]; decide
theorem jand_P (p q : Prop) : jand (vP p) (vP q) = vP (p ∧ q) := by
  rw [jand_01 (vP_r p) (vP_r q)]
  exact vP_c (by rw [vP_1, vP_1])
/-- a machine: r, mode, base, clock, whether it skips, its cells by turns of 8 -/
abbrev Ms : Type := Int × Int × Int × Int × Int × (Int → Int)
/-- a place of the cells, by turns of 8, changed -/
def upP (c : Int → Int) (i v : Int) : Int → Int := fun k => if k % 8 = i % 8 then v else c k
/-- a micro -/
def step1 (kind n : Int) (m : Ms) : Ms :=
  if kind = 0 then ((m.1 + n) % 4, m.2)
  else if kind = 1 then (m.2.2.2.2.2 (n + m.2.2.1), m.2)
  else if kind = 2 then (m.1, m.2.1, m.2.2.1, m.2.2.2.1, m.2.2.2.2.1, upP m.2.2.2.2.2 (n + m.2.2.1) m.1)
  else if kind = 3 then (m.1, 1, m.2.2)
  else if kind = 4 then (m.1, 0, m.2.2)
  else if kind = 5 then (m.1, m.2.1, 2 * m.1, m.2.2.2)
  else if kind = 6 then (m.2.2.1 / 2, m.2)
  else if kind = 7 then (m.2.1, m.2)
  else if kind = 8 then (m.2.2.2.1 % 4, m.2)
  else if kind = 9 then (m.1, m.2.1, m.2.2.1, m.2.2.2.1, (if m.1 = n % 4 then 1 else m.2.2.2.2.1), m.2.2.2.2.2)
  else m
/-- micros one behind another, t at the most, from the k-th on; a quiet one in mode 0 is the last -/
def runM (K X : Int → Int) : Nat → Int → Ms → Ms
  | 0, _, m => m
  | t + 1, k, m => if K k = 10 ∧ (step1 (K k) (X k) m).2.1 ≠ 1 then step1 (K k) (X k) m else runM K X t (k + 1) (step1 (K k) (X k) m)
/-- an operation of n micros is done: at first nothing is skipped -/
def doM (n : Int) (K X : Int → Int) (m : Ms) : Ms := runM K X n.toNat 0 (m.1, m.2.1, m.2.2.1, m.2.2.2.1, 0, m.2.2.2.2.2)
def perC (c : Int → Int) : Prop := ∀ k, c (k % 8) = c k
def okM (m : Ms) : Prop := (0 ≤ m.1 ∧ m.1 < 4) ∧ (m.2.1 = 0 ∨ m.2.1 = 1) ∧ (0 ≤ m.2.2.1 ∧ m.2.2.1 < 8) ∧ (0 ≤ m.2.2.2.1 ∧ m.2.2.2.1 < 8) ∧ (m.2.2.2.2.1 = 0 ∨ m.2.2.2.2.1 = 1) ∧ ∀ k, 0 ≤ m.2.2.2.2.2 k ∧ m.2.2.2.2.2 k < 4
theorem step1_ok {kind n : Int} {m : Ms} (hn : 0 ≤ n) (h : okM m) : okM (step1 kind n m) := by
  obtain ⟨h1, h2, h3, h4, h5, h6⟩ := h
  unfold step1
  split
  · exact ⟨by dsimp only; omega, h2, h3, h4, h5, h6⟩
  · split
    · exact ⟨h6 _, h2, h3, h4, h5, h6⟩
    · split
      · refine ⟨h1, h2, h3, h4, h5, fun k => ?_⟩
        show 0 ≤ upP _ _ _ k ∧ upP _ _ _ k < 4
        unfold upP
        split
        · exact h1
        · exact h6 k
      · split
        · exact ⟨h1, Or.inr rfl, h3, h4, h5, h6⟩
        · split
          · exact ⟨h1, Or.inl rfl, h3, h4, h5, h6⟩
          · split
            · exact ⟨h1, h2, by dsimp only; omega, h4, h5, h6⟩
            · split
              · exact ⟨by dsimp only; omega, h2, h3, h4, h5, h6⟩
              · split
                · exact ⟨by dsimp only; omega, h2, h3, h4, h5, h6⟩
                · split
                  · exact ⟨by dsimp only; omega, h2, h3, h4, h5, h6⟩
                  · split
                    · refine ⟨h1, h2, h3, h4, ?_, h6⟩
                      dsimp only
                      split
                      · exact Or.inr rfl
                      · exact h5
                    · exact ⟨h1, h2, h3, h4, h5, h6⟩
theorem runM_ok {K X : Int → Int} : ∀ (t : Nat) (k : Int) (m : Ms), (∀ i, k ≤ i → i < k + t → 0 ≤ X i) → okM m → okM (runM K X t k m) := by
  intro t
  induction t with
  | zero => intro k m _ h; exact h
  | succ t ih =>
    intro k m hX h
    have h1 := step1_ok (kind := K k) (hX k (by omega) (by omega)) h
    unfold runM
    split
    · exact h1
    · exact ih (k + 1) _ (fun i a b => hX i (by omega) (by omega)) h1
theorem runM_congr {K X K' X' : Int → Int} : ∀ (t : Nat) (k : Int) (m : Ms), (∀ i, k ≤ i → i < k + t → K i = K' i ∧ X i = X' i) → runM K X t k m = runM K' X' t k m := by
  intro t
  induction t with
  | zero => intro k m _; rfl
  | succ t ih =>
    intro k m h
    obtain ⟨e1, e2⟩ := h k (by omega) (by omega)
    unfold runM
    rw [e1, e2, ih (k + 1) _ (fun i a b => h i (by omega) (by omega))]
theorem doM_ok {n : Int} {K X : Int → Int} {m : Ms} (hX : ∀ i, 0 ≤ i → i < n → 0 ≤ X i) (h : okM m) : okM (doM n K X m) :=
  runM_ok _ _ _ (fun i a b => hX i a (by omega)) ⟨h.1, h.2.1, h.2.2.1, h.2.2.2.1, Or.inl rfl, h.2.2.2.2.2⟩
theorem doM_congr {n : Int} {K X K' X' : Int → Int} (m : Ms) (h : ∀ i, 0 ≤ i → i < n → K i = K' i ∧ X i = X' i) : doM n K X m = doM n K' X' m :=
  runM_congr _ _ _ fun i a b => h i a (by omega)
theorem jor_1 {x : Int} (h : x = 0 ∨ x = 1) : jor x 1 = 1 := by rcases h with rfl | rfl <;> decide
theorem jor_0 {x : Int} (h : x = 0 ∨ x = 1) : jor x 0 = x := by rcases h with rfl | rfl <;> decide
theorem jand_1 {x : Int} (h : x = 0 ∨ x = 1) : jand x 1 = x := by rcases h with rfl | rfl <;> decide
theorem jand_0 {x : Int} (h : x = 0 ∨ x = 1) : jand x 0 = 0 := by rcases h with rfl | rfl <;> decide
/-- an operation of n micros has this one -/
def tch (n : Int) (K X : Int → Int) (kind num : Int) : Prop := ∃ i, 0 ≤ i ∧ i < n ∧ K i = kind ∧ X i = num
theorem tch_s {k : Int} {K X : Int → Int} {kind num : Int} (h : 0 ≤ k) : tch (k + 1) K X kind num ↔ tch k K X kind num ∨ (K k = kind ∧ X k = num) := by
  constructor
  · rintro ⟨i, h1, h2, h3⟩
    by_cases e : i = k
    · subst e; exact Or.inr h3
    · exact Or.inl ⟨i, h1, by omega, h3⟩
  · rintro (⟨i, h1, h2, h3⟩ | h3)
    · exact ⟨i, h1, by omega, h3⟩
    · exact ⟨k, h, by omega, h3⟩
theorem tch_0 {K X : Int → Int} {kind num : Int} : ¬ tch 0 K X kind num := by
  rintro ⟨i, h1, h2, -⟩
  omega
/-- two operations have the same micros and the same guard -/
def likeO (n n' g g' : Int) (K X K' X' : Int → Int) (k : Int) : Prop := n = n' ∧ g = g' ∧ ∀ i, 0 ≤ i → i < k → K i = K' i ∧ X i = X' i
