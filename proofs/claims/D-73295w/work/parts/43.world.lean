/-! PURE LAYER: the bench as one row (the reference's layout), steps of guests -/
abbrev Vw : Type := Int → Int
def us (v : Vw) (i x : Int) : Vw := fun k => if k = i then x else v k
theorem us_e {v : Vw} {i x k : Int} (h : k = i) : us v i x k = x := if_pos h
theorem us_n {v : Vw} {i x k : Int} (h : ¬ k = i) : us v i x k = v k := if_neg h
/-- the guest i begins at -/
def guA (i : Int) : Int := 102 + 13 * i
def opN (v : Vw) (p : Int) : Int := v (30 + 9 * p)
def opG (v : Vw) (p : Int) : Int := v (31 + 9 * p)
def opP (v : Vw) (p : Int) : Int := v (32 + 9 * p)
def opK (v : Vw) (p : Int) : Int → Int := fun i => v (33 + 9 * p + 2 * i)
def opX (v : Vw) (p : Int) : Int → Int := fun i => v (34 + 9 * p + 2 * i)
def opD (v : Vw) (p : Int) (m : Ms) : Ms := doM (opN v p) (opK v p) (opX v p) m
/-- the machine of the guest i, in its own words -/
def guM (v : Vw) (i : Int) : Ms := (v (guA i + 1), v (guA i + 2), v (guA i + 3), v (guA i + 4), 0, fun k => v (guA i + 5 + k % 8))
/-- a machine of which the place of all lies so far on -/
def trM (m : Ms) (by' : Int) : Ms := (m.1, m.2.1, (m.2.2.1 + by') % 8, m.2.2.2.1, m.2.2.2.2.1, fun k => m.2.2.2.2.2 (k - by'))
def mdM (m : Ms) (x : Int) : Ms := (m.1, x, m.2.2)
/-- the guest i is at pc, with this machine and clock -/
def setG (v : Vw) (i pc : Int) (m : Ms) (cl : Int) : Vw := fun k =>
  if k = guA i then pc else if k = guA i + 1 then m.1 else if k = guA i + 2 then m.2.1 else if k = guA i + 3 then m.2.2.1 else if k = guA i + 4 then cl
  else if guA i + 5 ≤ k ∧ k < guA i + 13 then m.2.2.2.2.2 (k - (guA i + 5)) else v k
def nextPc (pc sk : Int) : Int := if pc + (if sk = 1 then 2 else 1) < 12 then pc + (if sk = 1 then 2 else 1) else 12
def isHaltV (v : Vw) (i : Int) : Prop := v 3 ≤ v (guA i)
def opAtV (v : Vw) (i : Int) : Int := v (12 + v (guA i))
/-- a step of guest i on the bare machine -/
def bareV (v : Vw) (i : Int) : Vw :=
  if v 3 ≤ v (guA i) then v
  else if opG v (opAtV v i) = 1 ∧ v (guA i + 2) = 0 then setG v i (v 4) (mdM (guM v i) 1) ((v (guA i + 4) + 1) % 8)
  else setG v i (nextPc (v (guA i)) (opD v (opAtV v i) (guM v i)).2.2.2.2.1) (opD v (opAtV v i) (guM v i)) ((v (guA i + 4) + 1) % 8)
/-- what is let through -/
def letM (v : Vw) (p s : Int) (m : Ms) : Ms := opD v p (trM (mdM m 0) s)
/-- ranges of a bench -/
def okOp (v : Vw) (p : Int) : Prop := (0 ≤ opN v p ∧ opN v p ≤ 3) ∧ (opG v p = 0 ∨ opG v p = 1) ∧ (opP v p = 0 ∨ opP v p = 1) ∧ ∀ i, 0 ≤ i → i < opN v p → (0 ≤ opK v p i ∧ opK v p i ≤ 10) ∧ 0 ≤ opX v p i ∧ opX v p i < 8
def okGu (v : Vw) (i : Int) : Prop := (0 ≤ v (guA i) ∧ v (guA i) ≤ 12) ∧ okM (guM v i)
/-- all but the guests -/
def okB (v : Vw) : Prop := (0 ≤ v 0 ∧ v 0 ≤ 8) ∧ (0 ≤ v 1 ∧ v 1 ≤ 12) ∧ (v 2 = 0 ∨ v 2 = 1) ∧ (0 ≤ v 3 ∧ v 3 ≤ 10) ∧ (0 ≤ v 4 ∧ v 4 ≤ 9) ∧ (v 5 = 0 ∨ v 5 = 2 ∨ v 5 = 4 ∨ v 5 = 6) ∧ (0 ≤ v 6 ∧ v 6 ≤ 7) ∧ (0 ≤ v 7 ∧ v 7 ≤ 100) ∧ (0 ≤ v 8 ∧ v 8 ≤ 9999) ∧ (0 ≤ v 9 ∧ v 9 ≤ 9999) ∧ (0 ≤ v 10 ∧ v 10 ≤ 60) ∧ (∀ k, 0 ≤ k → k < v 3 → 0 ≤ v (12 + k) ∧ v (12 + k) < v 0) ∧ (∀ k, 0 ≤ k → k < 8 → 0 ≤ v (22 + k) ∧ v (22 + k) < 4) ∧ ∀ p, 0 ≤ p → p < v 0 → okOp v p
theorem gM_ok {v : Vw} {i : Int} (h : okGu v i) : okM (guM v i) := h.2
theorem opD_ok {v : Vw} {p : Int} {m : Ms} (h : okOp v p) (hm : okM m) : okM (opD v p m) := doM_ok (fun i a b => (h.2.2.2 i a b).2.1) hm
theorem doM_sk {n : Int} {K X : Int → Int} {a b c e s s' : Int} {f : Int → Int} : doM n K X (a, b, c, e, s, f) = doM n K X (a, b, c, e, s', f) := rfl
theorem nextPc_r {pc sk : Int} (h : 0 ≤ pc) : 0 ≤ nextPc pc sk ∧ nextPc pc sk ≤ 12 := by
  unfold nextPc
  split <;> split at * <;> omega
theorem trM_ok {m : Ms} {s : Int} (h : okM m) : okM (trM m s) := ⟨h.1, h.2.1, by show 0 ≤ (m.2.2.1 + s) % 8 ∧ (m.2.2.1 + s) % 8 < 8; omega, h.2.2.2.1, h.2.2.2.2.1, fun k => h.2.2.2.2.2 (k - s)⟩
theorem mdM_ok {m : Ms} {x : Int} (hx : x = 0 ∨ x = 1) (h : okM m) : okM (mdM m x) := ⟨h.1, hx, h.2.2⟩
theorem setG_o {v : Vw} {i pc : Int} {m : Ms} {cl k : Int} (h : ¬ (guA i ≤ k ∧ k < guA i + 13)) : setG v i pc m cl k = v k := by
  unfold setG
  rw [if_neg (by omega), if_neg (by omega), if_neg (by omega), if_neg (by omega), if_neg (by omega), if_neg (by omega)]
theorem setG_ok {v : Vw} {i pc : Int} {m : Ms} {cl : Int} (hp : 0 ≤ pc ∧ pc ≤ 12) (hm : okM m) (hc : 0 ≤ cl ∧ cl < 8) : okGu (setG v i pc m cl) i := by
  have e0 : setG v i pc m cl (guA i) = pc := if_pos rfl
  have e1 : setG v i pc m cl (guA i + 1) = m.1 := by unfold setG; rw [if_neg (by omega), if_pos rfl]
  have e2 : setG v i pc m cl (guA i + 2) = m.2.1 := by unfold setG; rw [if_neg (by omega), if_neg (by omega), if_pos rfl]
  have e3 : setG v i pc m cl (guA i + 3) = m.2.2.1 := by unfold setG; rw [if_neg (by omega), if_neg (by omega), if_neg (by omega), if_pos rfl]
  have e4 : setG v i pc m cl (guA i + 4) = cl := by unfold setG; rw [if_neg (by omega), if_neg (by omega), if_neg (by omega), if_neg (by omega), if_pos rfl]
  have e5 : ∀ k, setG v i pc m cl (guA i + 5 + k % 8) = m.2.2.2.2.2 (k % 8) := fun k => by
    unfold setG
    rw [if_neg (by omega), if_neg (by omega), if_neg (by omega), if_neg (by omega), if_neg (by omega), if_pos (by omega), show guA i + 5 + k % 8 - (guA i + 5) = k % 8 by omega]
  refine ⟨by rw [e0]; exact hp, ?_, ?_, ?_, ?_, Or.inl rfl, fun k => ?_⟩
  · show 0 ≤ setG v i pc m cl (guA i + 1) ∧ setG v i pc m cl (guA i + 1) < 4
    rw [e1]; exact hm.1
  · show setG v i pc m cl (guA i + 2) = 0 ∨ setG v i pc m cl (guA i + 2) = 1
    rw [e2]; exact hm.2.1
  · show 0 ≤ setG v i pc m cl (guA i + 3) ∧ setG v i pc m cl (guA i + 3) < 8
    rw [e3]; exact hm.2.2.1
  · show 0 ≤ setG v i pc m cl (guA i + 4) ∧ setG v i pc m cl (guA i + 4) < 8
    rw [e4]; exact hc
  · show 0 ≤ setG v i pc m cl (guA i + 5 + k % 8) ∧ setG v i pc m cl (guA i + 5 + k % 8) < 4
    rw [e5]; exact hm.2.2.2.2.2 (k % 8)
/-- the first s at which something is, of t from here on -/
noncomputable def firstP (P : Int → Prop) : Nat → Int → Int
  | 0, _ => -1
  | t + 1, s => @ite Int (P s) (Classical.propDecidable _) s (firstP P t (s + 1))
theorem firstP_t {P : Int → Prop} {t : Nat} {s : Int} (h : P s) : firstP P (t + 1) s = s := by unfold firstP; exact if_pos h
theorem firstP_f {P : Int → Prop} {t : Nat} {s : Int} (h : ¬ P s) : firstP P (t + 1) s = firstP P t (s + 1) := by
  conv => lhs; unfold firstP
  exact if_neg h
theorem firstP_r {P : Int → Prop} : ∀ (t : Nat) (s : Int), firstP P t s = -1 ∨ (s ≤ firstP P t s ∧ firstP P t s < s + t) := by
  intro t
  induction t with
  | zero => intro s; exact Or.inl rfl
  | succ t ih =>
    intro s
    by_cases h : P s
    · rw [firstP_t h]; exact Or.inr (by omega)
    · rw [firstP_f h]
      rcases ih (s + 1) with e | e
      · exact Or.inl e
      · exact Or.inr (by omega)
/-! what hangs on what -/
abbrev stM (s : Int) : Ms := tabM s (s / 4 % 2) (s / 8 % 4 * 2) 0 0 0
def trapsV (v : Vw) (p md : Int) : Prop := opG v p = 1 ∧ md = 0
def isCtl (v : Vw) (p s : Int) : Prop := ¬ trapsV v p (s / 4 % 2) ∧ ((opD v p (stM s)).2.1 ≠ s / 4 % 2 ∨ (opD v p (stM s)).2.2.1 ≠ s / 8 % 4 * 2)
def isMdl (v : Vw) (p s : Int) : Prop := s / 4 % 2 ≠ 1 ∧ ¬ opG v p = 1 ∧ unM (opD v p (stM s)) (opD v p (tabM s 1 (s / 8 % 4 * 2) 0 0 0)) 0
def isLoc (v : Vw) (p s : Int) : Prop := ¬ trapsV v p (s / 4 % 2) ∧ unM (opD v p (stM s)) (opD v p (tabM s (s / 4 % 2) 0 0 0 (s / 8 % 4 * 2))) (s / 8 % 4 * 2)
def isTim (v : Vw) (p s : Int) : Prop := ¬ trapsV v p (s / 4 % 2) ∧ ∃ c, 1 ≤ c ∧ c < 8 ∧ unM (opD v p (stM s)) (opD v p (tabM s (s / 4 % 2) (s / 8 % 4 * 2) c 0 0)) 0
def isSo (v : Vw) (p w s : Int) : Prop := (w = 0 ∧ isCtl v p s) ∨ (w = 1 ∧ isMdl v p s) ∨ (w = 2 ∧ isLoc v p s) ∨ (w = 3 ∧ isTim v p s)
/-- the first state that shows it; none -/
noncomputable def witV (v : Vw) (p w : Int) : Int := firstP (isSo v p w) 512 0
/-- whether it is so -/
noncomputable def trtV (v : Vw) (p w : Int) : Int := vP (witV v p w ≠ -1)
/-- what the law knows of an operation, and of its uses -/
def usesR (v : Vw) (p : Int) : Nat → Int
  | 0 => 0
  | t + 1 => usesR v p t + (if v (12 + t) = p then 1 else 0)
def usesV (v : Vw) (p : Int) : Int := usesR v p (v 3).toNat
noncomputable def sensV (v : Vw) (p : Int) : Int := vP (trtV v p 0 = 1 ∨ trtV v p 1 = 1 ∨ trtV v p 2 = 1)
noncomputable def factV (v : Vw) (p : Int) : Int → Int := fun k =>
  if k = 0 then p else if k = 1 then opN v p else if k = 2 then trtV v p 0 else if k = 3 then trtV v p 1 else if k = 4 then trtV v p 2 else if k = 5 then trtV v p 3
  else if k = 6 then usesV v p else if k = 7 then opG v p else if k = 8 then opP v p else if k = 9 then sensV v p else 0
/-! the law: of each line its codes one behind another, over a pile -/
def pop2 (c : Int) : List Int → List Int
  | b :: a :: r => (if c = 11 then a + b else if c = 12 then (if a < b then 1 else 0) else if c = 13 then (if a > b then 1 else 0) else if c = 15 then (if a + b = 2 then 1 else 0) else if a + b > 0 then 1 else 0) :: r
  | r => r
def runC (v : Vw) (fc : Int → Int) : Nat → Int → List Int → List Int
  | 0, _, st => st
  | t + 1, i, st =>
    runC v fc t (i + 1) (if v (417 + 2 * i) ≤ 9 then fc (v (417 + 2 * i)) :: st else if v (417 + 2 * i) = 10 then v (418 + 2 * i) :: st
      else if v (417 + 2 * i) = 14 then (match st with | a :: r => (1 - a) :: r | [] => []) else pop2 (v (417 + 2 * i)) st)
/-- whether line n holds -/
def holdV (v : Vw) (fc : Int → Int) (n : Int) : Prop := match runC v fc (v (372 + 4 * n) - v (371 + 4 * n)).toNat (v (371 + 4 * n)) [] with
  | [] => True
  | x => x.getLast? = some 1
noncomputable def sumR (v : Vw) (fc : Int → Int) (w : Int) : Nat → Int
  | 0 => 0
  | t + 1 => sumR v fc w t + @ite Int (v (369 + 4 * t) = w ∧ holdV v fc t) (Classical.propDecidable _) (v (370 + 4 * t)) 0
/-- one of the three sums of the law of an operation -/
noncomputable def sumV (v : Vw) (w p : Int) : Int := if v 2 = 1 then sumR v (factV v p) w (v 368).toNat else 0
noncomputable def emuV (v : Vw) (p : Int) : Int := v 6 + sumV v 0 p
noncomputable def worV (v : Vw) (p : Int) : Int := 1 + sumV v 2 p
/-- what becomes of a step of the hosted guest: 0 reflected, 1 emulated, 2 escaped, 5 plain, 6 halted -/
noncomputable def hostH (v : Vw) : Int :=
  if v 3 ≤ v (guA 1) then 6
  else if opG v (opAtV v 1) = 1 ∧ v (guA 1 + 2) = 0 then 0
  else if opG v (opAtV v 1) = 1 ∨ opP v (opAtV v 1) = 1 then 1
  else if (letM v (opAtV v 1) (v 5) (guM v 1)).2.1 = 1 then 2 else 5
noncomputable def hostV (v : Vw) : Vw :=
  if v 3 ≤ v (guA 1) then v
  else if opG v (opAtV v 1) = 1 ∧ v (guA 1 + 2) = 0 then setG v 1 (v 4) (mdM (guM v 1) 1) ((v (guA 1 + 4) + (1 + emuV v (opAtV v 1))) % 8)
  else if opG v (opAtV v 1) = 1 ∨ opP v (opAtV v 1) = 1 then setG v 1 (nextPc (v (guA 1)) (opD v (opAtV v 1) (guM v 1)).2.2.2.2.1) (opD v (opAtV v 1) (guM v 1)) ((v (guA 1 + 4) + (1 + emuV v (opAtV v 1))) % 8)
  else setG v 1 (nextPc (v (guA 1)) (letM v (opAtV v 1) (v 5) (guM v 1)).2.2.2.2.1) (mdM (trM (letM v (opAtV v 1) (v 5) (guM v 1)) (8 - v 5)) (v (guA 1 + 2))) ((v (guA 1 + 4) + 1) % 8)
