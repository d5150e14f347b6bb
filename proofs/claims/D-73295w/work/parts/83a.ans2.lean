/-! PURE: more answers -/
def clashV (v : Vw) (a b : Int) : Prop := ∃ n, (0 ≤ n ∧ n < 8) ∧ (tch (opN v a) (opK v a) (opX v a) 2 n ∧ tch (opN v b) (opK v b) (opX v b) 2 n ∨ tch (opN v a) (opK v a) (opX v a) 2 n ∧ tch (opN v b) (opK v b) (opX v b) 1 n ∨ tch (opN v b) (opK v b) (opX v b) 2 n ∧ tch (opN v a) (opK v a) (opX v a) 1 n)
def twinV (v : Vw) (a b : Int) : Prop := opN v a = opN v b ∧ opG v a = opG v b ∧ ∀ i, 0 ≤ i → i < opN v a → opK v a i = opK v b i ∧ opX v a i = opX v b i
/-- how many of the first t are twins of a; of all two by two -/
noncomputable def twinC (v : Vw) (a : Int) : Nat → Int
  | 0 => 0
  | t + 1 => twinC v a t + vP (twinV v a t)
noncomputable def twinT (v : Vw) : Nat → Int
  | 0 => 0
  | t + 1 => twinT v t + twinC v t t
noncomputable def twinsV (v : Vw) : Int := twinT v (v 0).toNat
noncomputable def amtV (v : Vw) (w p : Int) : Int := if w = 0 then opN v p else if w = 1 then emuV v p else usesV v p
noncomputable def mostR (v : Vw) (w : Int) : Nat → Int
  | 0 => -1
  | t + 1 => if mostR v w t = -1 ∨ amtV v w t > amtV v w (mostR v w t) then (t : Int) else mostR v w t
noncomputable def mostAns (v : Vw) (w : Int) : Int := mostR v w (v 0).toNat
theorem mostR_r (v : Vw) (w : Int) : ∀ t : Nat, mostR v w t = -1 ∨ (0 ≤ mostR v w t ∧ mostR v w t < t) := by
  intro t
  induction t with
  | zero => exact Or.inl rfl
  | succ t ih =>
    unfold mostR
    split
    · exact Or.inr (by omega)
    · rcases ih with q | q
      · exact Or.inl q
      · exact Or.inr (by omega)
noncomputable def ghV (v : Vw) (p a b : Int) : Int := if a = 1 then 0 else if b = 0 then -(sumV v 1 p) else opN v p
noncomputable def hhV (v : Vw) (p a b : Int) : Int := if a = 1 then (if b = 0 then -1 else 1) else if b = 0 then worV v p else -(emuV v p)
def restC (v : Vw) (p a b : Int) : Prop := ghV v p (1 - a) b ≤ ghV v p a b ∧ hhV v p a (1 - b) ≤ hhV v p a b
noncomputable def restAns (v : Vw) (p : Int) : Int := numR (fun k => restC v p (k / 2) (k % 2)) 4
/-- of n cells from f on how much more who takes next has -/
def ldV (c : Int → Int) : Nat → Int → Int
  | 0, _ => 0
  | n + 1, f => if c f - ldV c n (f + 1) ≤ c (f + n) - ldV c n f then c (f + n) - ldV c n f else c f - ldV c n (f + 1)
theorem ldV_r {c : Int → Int} (h : ∀ k, 0 ≤ k → k < 8 → 0 ≤ c k ∧ c k < 4) : ∀ (n : Nat) (f : Int), 0 ≤ f → f + n ≤ 8 → -(3 * (n : Int)) ≤ ldV c n f ∧ ldV c n f ≤ 3 * (n : Int) := by
  intro n
  induction n with
  | zero => intro f _ _; exact ⟨Int.le_refl 0, Int.le_refl 0⟩
  | succ n ih =>
    intro f f0 f1
    have a := ih (f + 1) (by omega) (by omega)
    have b := ih f f0 (by omega)
    have c1 := h f f0 (by omega)
    have c2 := h (f + n) (by omega) (by omega)
    unfold ldV
    split <;> omega
def leadAns (v : Vw) : Int := ldV (fun k => v (22 + k)) 8 0
def sideAns (v : Vw) : Int := if v 29 - ldV (fun k => v (22 + k)) 7 0 ≤ v 22 - ldV (fun k => v (22 + k)) 7 1 then 0 else 1
/-! the tape -/
def feedB (a b c d e j : Int) : Int := w8 (jshr (if j / 4 = 0 then a else if j / 4 = 1 then b else if j / 4 = 2 then c else if j / 4 = 3 then d else e) (24 - 8 * (j % 4)))
def feedT (tp : Int → Int) (sz a b c d e n : Int) : Int → Int := fun i => if sz ≤ i ∧ i < sz + n then feedB a b c d e (i - sz) else tp i
theorem feedT_0 {tp : Int → Int} {sz a b c d e : Int} : feedT tp sz a b c d e 0 = tp := funext fun i => if_neg (by omega)
theorem feedT_s {tp : Int → Int} {sz a b c d e n i x : Int} (hn : 0 ≤ n) (hi : i = sz + n) (hx : x = feedB a b c d e n) : us (feedT tp sz a b c d e n) i x = feedT tp sz a b c d e (n + 1) := funext fun k => by
  subst hi
  subst hx
  unfold us feedT
  by_cases h : k = sz + n
  · rw [if_pos h, if_pos (by omega), show k - sz = n by omega]
  · rw [if_neg h]
    by_cases h2 : sz ≤ k ∧ k < sz + n
    · rw [if_pos h2, if_pos (by omega)]
    · rw [if_neg h2, if_neg (by omega)]
