/-! READING: pure -/
/-- of a row of bytes from p on those between lo and hi -/
abbrev chP (tp : Int → Int) (e lo hi p : Int) : Prop := p < e ∧ lo ≤ tp p ∧ tp p ≤ hi
def spP (tp : Int → Int) (e lo hi : Int) : Nat → Int → Int
  | 0, p => p
  | t + 1, p => if chP tp e lo hi p then spP tp e lo hi t (p + 1) else p
def spB (tp : Int → Int) (e lo hi p : Int) : Int := spP tp e lo hi (e - p).toNat p
theorem spB_s {tp : Int → Int} {e lo hi p : Int} (h : chP tp e lo hi p) : spB tp e lo hi p = spB tp e lo hi (p + 1) := by
  unfold spB
  have h1 := h.1
  rw [show (e - p).toNat = (e - (p + 1)).toNat + 1 by omega]
  exact if_pos h
theorem spB_e {tp : Int → Int} {e lo hi p : Int} (h : ¬ chP tp e lo hi p) : spB tp e lo hi p = p := by
  unfold spB
  cases (e - p).toNat with
  | zero => rfl
  | succ t => exact if_neg h
theorem spP_r {tp : Int → Int} {e lo hi : Int} : ∀ (t : Nat) (p : Int), p ≤ spP tp e lo hi t p ∧ (p ≤ e → spP tp e lo hi t p ≤ e) := by
  intro t
  induction t with
  | zero => intro p; exact ⟨Int.le_refl _, fun h => h⟩
  | succ t ih =>
    intro p
    show p ≤ (if chP tp e lo hi p then spP tp e lo hi t (p + 1) else p) ∧ (p ≤ e → (if chP tp e lo hi p then spP tp e lo hi t (p + 1) else p) ≤ e)
    have i := ih (p + 1)
    by_cases h : chP tp e lo hi p
    · rw [if_pos h]
      have h1 := h.1
      exact ⟨by omega, fun _ => i.2 (by omega)⟩
    · rw [if_neg h]
      exact ⟨Int.le_refl _, fun q => q⟩
theorem spB_r {tp : Int → Int} {e lo hi p : Int} : p ≤ spB tp e lo hi p ∧ (p ≤ e → spB tp e lo hi p ≤ e) := spP_r _ _
abbrev skB (tp : Int → Int) (e p : Int) : Int := spB tp e 32 32 p
abbrev wdB (tp : Int → Int) (e p : Int) : Int := spB tp e 97 122 p
abbrev fgB (tp : Int → Int) (e p : Int) : Int := spB tp e 48 57 p
/-- a word's bytes stand from b to q -/
abbrev isW (tp : Int → Int) (b q : Int) (s : List Int) : Prop := q - b = (s.length : Int) ∧ ∀ k : Nat, k < s.length → tp (b + k) = s.getD k 0
def txB : Nat → List Int
  | 0 => [111, 112]
  | 1 => [109, 105, 99, 114, 111, 115]
  | 2 => [99, 111, 110, 116, 114, 111, 108]
  | 3 => [109, 111, 100, 97, 108]
  | 4 => [108, 111, 99, 97, 108]
  | 5 => [116, 105, 109, 101, 100]
  | 6 => [117, 115, 101, 115]
  | 7 => [103, 117, 97, 114, 100, 101, 100]
  | 8 => [112, 97, 116, 99, 104, 101, 100]
  | 9 => [115, 101, 110, 115, 105, 116, 105, 118, 101]
  | 10 => [97, 100, 100]
  | 11 => [108, 111, 97, 100]
  | 12 => [115, 97, 118, 101]
  | 13 => [114, 105, 115, 101]
  | 14 => [100, 114, 111, 112]
  | 15 => [109, 111, 118, 101]
  | 16 => [119, 104, 101, 114, 101]
  | 17 => [119, 104, 111]
  | 18 => [116, 105, 109, 101]
  | 19 => [115, 107, 105, 112]
  | 20 => [113, 117, 105, 101, 116]
  | 21 => [112, 114, 111, 103, 114, 97, 109]
  | 22 => [99, 101, 108, 108, 115]
  | 23 => [118, 101, 99, 116, 111, 114]
  | 24 => [115, 104, 105, 102, 116]
  | 25 => [99, 111, 115, 116]
  | 26 => [97, 108, 97, 114, 109]
  | 27 => [112, 117, 114, 115, 101]
  | 28 => [98, 108, 97, 109, 101]
  | 29 => [119, 111, 114, 116, 104]
  | 30 => [105, 102]
  | 31 => [110, 111, 116]
  | 32 => [97, 110, 100]
  | 33 => [111, 114]
  | _ => []
/-- the first of words that stands there -/
def wrF (tp : Int → Int) (b q : Int) (i : Nat) : Nat → Nat → Int
  | 0, _ => -1
  | t + 1, k => if isW tp b q (txB (i + k)) then (k : Int) else wrF tp b q i t (k + 1)
theorem wrF_r {tp : Int → Int} {b q : Int} {i : Nat} : ∀ (t k : Nat), wrF tp b q i t k = -1 ∨ (k : Int) ≤ wrF tp b q i t k ∧ wrF tp b q i t k < (k + t : Nat) := by
  intro t
  induction t with
  | zero => intro k; exact Or.inl rfl
  | succ t ih =>
    intro k
    show (if isW tp b q (txB (i + k)) then (k : Int) else wrF tp b q i t (k + 1)) = -1 ∨ (k : Int) ≤ (if isW tp b q (txB (i + k)) then (k : Int) else wrF tp b q i t (k + 1)) ∧ (if isW tp b q (txB (i + k)) then (k : Int) else wrF tp b q i t (k + 1)) < (k + (t + 1) : Nat)
    split
    · exact Or.inr (by omega)
    · rcases ih (k + 1) with h | h
      · exact Or.inl h
      · exact Or.inr (by omega)
abbrev kndW (tp : Int → Int) (b q : Int) : Int := wrF tp b q 10 11 0
abbrev prtW (tp : Int → Int) (b q : Int) : Int := wrF tp b q 0 7 0
abbrev tagW (tp : Int → Int) (b q : Int) : Int := wrF tp b q 7 3 0
def decP (tp : Int → Int) (b : Int) : Nat → Int
  | 0 => 0
  | t + 1 => 10 * decP tp b t + tp (b + t) - 48
/-- a number in its bounds: where it ends, what it is -/
def numP (tp : Int → Int) (e p lo hi : Int) : Option (Int × Int) :=
  if fgB tp e (skB tp e p) = skB tp e p ∨ 3 < fgB tp e (skB tp e p) - skB tp e p ∨ decP tp (skB tp e p) (fgB tp e (skB tp e p) - skB tp e p).toNat < lo ∨ hi < decP tp (skB tp e p) (fgB tp e (skB tp e p) - skB tp e p).toNat then none
  else some (fgB tp e (skB tp e p), decP tp (skB tp e p) (fgB tp e (skB tp e p) - skB tp e p).toNat)
theorem numP_r {tp : Int → Int} {e p lo hi q x : Int} (hp : p ≤ e) (h : numP tp e p lo hi = some (q, x)) : p < q ∧ q ≤ e ∧ lo ≤ x ∧ x ≤ hi := by
  unfold numP at h
  split at h
  · cases h
  · rename_i hn
    cases h
    have a : p ≤ skB tp e p ∧ (p ≤ e → skB tp e p ≤ e) := spB_r
    have b : skB tp e p ≤ fgB tp e (skB tp e p) ∧ (skB tp e p ≤ e → fgB tp e (skB tp e p) ≤ e) := spB_r
    have a2 := a.2 hp
    have b2 := b.2 a2
    have c1 := a.1
    have c2 := b.1
    refine ⟨?_, b2, ?_, ?_⟩
    · rcases Int.lt_or_le (skB tp e p) (fgB tp e (skB tp e p)) with q | q
      · omega
      · exact absurd (Or.inl (by omega)) hn
    · rcases Int.lt_or_le (decP tp (skB tp e p) (fgB tp e (skB tp e p) - skB tp e p).toNat) lo with q | q
      · exact absurd (Or.inr (Or.inr (Or.inl q))) hn
      · exact q
    · rcases Int.lt_or_le hi (decP tp (skB tp e p) (fgB tp e (skB tp e p) - skB tp e p).toNat) with q | q
      · exact absurd (Or.inr (Or.inr (Or.inr q))) hn
      · exact q
/-! a bench: of what was read where it is wrong, or where it ends and what the bench is then -/
abbrev BR : Type := Int ⊕ (Int × Vw)
def rN1 (tp : Int → Int) (e a hi f p : Int) (v : Vw) : BR := match numP tp e p 0 hi with
  | none => .inl (skB tp e p)
  | some y => .inr (y.1, us v a (f * y.2))
abbrev hasN (k : Int) : Prop := k ≤ 2 ∨ k = 9
def micU (v : Vw) (o k x : Int) : Vw := us (us (us v (33 + 9 * o + 2 * opN v o) k) (34 + 9 * o + 2 * opN v o) x) (30 + 9 * o) (opN v o + 1)
def rMic (tp : Int → Int) (e o : Int) : Nat → Int → Vw → BR
  | 0, p, _ => .inl p
  | t + 1, p, v =>
    if kndW tp (skB tp e p) (wdB tp e (skB tp e p)) < 0 then .inr (skB tp e p, v)
    else if opN v o = 3 then .inl (skB tp e p)
    else if hasN (kndW tp (skB tp e p) (wdB tp e (skB tp e p))) then
      match numP tp e (wdB tp e (skB tp e p)) 0 7 with
      | none => .inl (skB tp e (wdB tp e (skB tp e p)))
      | some y => rMic tp e o t y.1 (micU v o (kndW tp (skB tp e p) (wdB tp e (skB tp e p))) y.2)
    else rMic tp e o t (wdB tp e (skB tp e p)) (micU v o (kndW tp (skB tp e p) (wdB tp e (skB tp e p))) 0)
def zopV (v : Vw) (o : Int) : Vw := fun k => if 30 + 9 * o ≤ k ∧ k < 39 + 9 * o then 0 else v k
/-- at p, behind the word 'op' that stands at b -/
def opW (tp : Int → Int) (e o p : Int) (v : Vw) : Int × Vw :=
  if isW tp (skB tp e p) (wdB tp e (skB tp e p)) (txB 7) then (wdB tp e (skB tp e p), us (zopV v o) (31 + 9 * o) 1) else (skB tp e p, us (zopV v o) (31 + 9 * o) 0)
def rOp (tp : Int → Int) (e b p : Int) (v : Vw) : BR :=
  if v 0 = 8 then .inl b
  else if kndW tp (skB tp e (opW tp e (v 0) p v).1) (wdB tp e (skB tp e (opW tp e (v 0) p v).1)) < 0 then .inl (skB tp e (opW tp e (v 0) p v).1)
  else match rMic tp e (v 0) 5 (opW tp e (v 0) p v).1 (opW tp e (v 0) p v).2 with
    | .inl x => .inl x
    | .inr y => .inr (y.1, us y.2 0 (y.2 0 + 1))
def rPrg (tp : Int → Int) (e : Int) : Nat → Int → Int → Vw → BR
  | 0, p, _, _ => .inl p
  | t + 1, p, n, v =>
    if chP tp e 48 57 (skB tp e p) then
      match numP tp e p 0 (v 0 - 1) with
      | none => .inl (skB tp e p)
      | some y => if n < 10 then rPrg tp e t y.1 (n + 1) (us v (12 + n) y.2) else .inl (skB tp e p)
    else .inr (skB tp e p, us v 3 n)
def rCel (tp : Int → Int) (e : Int) : Nat → Int → Int → Vw → BR
  | 0, p, _, _ => .inl p
  | t + 1, p, n, v =>
    match numP tp e p 0 3 with
    | none => .inl (skB tp e p)
    | some y => if n < 8 then (if chP tp e 48 57 (skB tp e y.1) then rCel tp e t (skB tp e y.1) (n + 1) (us v (22 + n) y.2) else .inr (skB tp e y.1, us v (22 + n) y.2)) else .inl (skB tp e p)
/-- a line of a bench; its first word stands from b to q -/
def rLin (tp : Int → Int) (e b q : Int) (v : Vw) : BR :=
  if isW tp b q (txB 0) then rOp tp e b q v
  else if isW tp b q (txB 21) then rPrg tp e 12 q 0 v
  else if isW tp b q (txB 22) then rCel tp e 10 q 0 v
  else if isW tp b q (txB 23) then rN1 tp e 4 9 1 q v
  else if isW tp b q (txB 24) then rN1 tp e 5 3 2 q v
  else if isW tp b q (txB 25) then rN1 tp e 6 7 1 q v
  else if isW tp b q (txB 26) then rN1 tp e 7 100 1 q v
  else if isW tp b q (txB 27) then rN1 tp e 9 999 1 q v
  else .inl b
/-- lines from the n-th on -/
def rBch (tp : Int → Int) (e : Int) : Nat → Int → Int → Vw → BR
  | 0, p, _, _ => .inl p
  | t + 1, p, n, v =>
    if n < 14 then
      match rLin tp e (skB tp e p) (wdB tp e (skB tp e p)) v with
      | .inl x => .inl x
      | .inr y => if skB tp e y.1 = e then .inr (n + 1, y.2) else if tp (skB tp e y.1) = 59 then rBch tp e t (skB tp e y.1 + 1) (n + 1) y.2 else .inl (skB tp e y.1)
    else .inl (skB tp e p)
def rBench (tp : Int → Int) (e : Int) (v : Vw) : BR := if skB tp e 0 = e then .inr (0, v) else rBch tp e 16 0 0 v
/-! a law: where it goes on, how many codes there are, what lies in its row -/
abbrev LgS : Type := Int × Int × Vw
abbrev LgR : Type := Int ⊕ LgS
def em (s : LgS) (k x : Int) : LgS := (s.1, s.2.1 + 1, us (us s.2.2 (417 + 2 * s.2.1) k) (418 + 2 * s.2.1) x)
def rPart (tp : Int → Int) (e : Int) (s : LgS) : LgR :=
  if wdB tp e (skB tp e s.1) = skB tp e s.1 then
    match numP tp e s.1 0 999 with
    | none => .inl (skB tp e s.1)
    | some y => .inr (em (y.1, s.2) 10 y.2)
  else if prtW tp (skB tp e s.1) (wdB tp e (skB tp e s.1)) < 0 then .inl (skB tp e s.1)
  else .inr (em (wdB tp e (skB tp e s.1), s.2) (prtW tp (skB tp e s.1) (wdB tp e (skB tp e s.1))) 0)
def rSumL (tp : Int → Int) (e : Int) : Nat → LgS → LgR
  | 0, s => .inl s.1
  | t + 1, s =>
    if chP tp e 43 43 (skB tp e s.1) then
      match rPart tp e (skB tp e s.1 + 1, s.2) with
      | .inl x => .inl x
      | .inr y => rSumL tp e t (em y 11 0)
    else .inr (skB tp e s.1, s.2)
def rSum (tp : Int → Int) (e : Int) (s : LgS) : LgR := match rPart tp e s with
  | .inl x => .inl x
  | .inr y => rSumL tp e (e.toNat + 1) y
/-- a word that is true or not, or two sums -/
def rCmp (tp : Int → Int) (e : Int) (s : LgS) : LgR :=
  if tagW tp (skB tp e s.1) (wdB tp e (skB tp e s.1)) < 0 then
    match rSum tp e (skB tp e s.1, s.2) with
    | .inl x => .inl x
    | .inr y => if chP tp e 60 60 (skB tp e y.1) ∨ chP tp e 62 62 (skB tp e y.1) then
        match rSum tp e (skB tp e y.1 + 1, y.2) with
        | .inl x => .inl x
        | .inr z => .inr (em z (if chP tp e 60 60 (skB tp e y.1) then 12 else 13) 0)
      else .inl (skB tp e y.1)
  else .inr (em (wdB tp e (skB tp e s.1), s.2) (7 + tagW tp (skB tp e s.1) (wdB tp e (skB tp e s.1))) 0)
def rRow (tp : Int → Int) (e : Int) (f : LgS → LgR) (w : Nat) (c : Int) : Nat → LgS → LgR
  | 0, s => .inl s.1
  | t + 1, s =>
    if isW tp (skB tp e s.1) (wdB tp e (skB tp e s.1)) (txB w) then
      match f (wdB tp e (skB tp e s.1), s.2) with
      | .inl x => .inl x
      | .inr y => rRow tp e f w c t (em y c 0)
    else .inr (skB tp e s.1, s.2)
def rAll (tp : Int → Int) (e : Int) (f : LgS → LgR) (s : LgS) : LgR := match f s with
  | .inl x => .inl x
  | .inr y => rRow tp e f 32 15 (e.toNat + 1) y
def rCnd (tp : Int → Int) (e : Int) (f : LgS → LgR) (s : LgS) : LgR := match rAll tp e f s with
  | .inl x => .inl x
  | .inr y => rRow tp e (rAll tp e f) 33 16 (e.toNat + 1) y
/-- an atom; so much deeper it may go -/
def rAtm (tp : Int → Int) (e : Int) : Nat → LgS → LgR
  | 0, s => if chP tp e 40 40 (skB tp e s.1) ∨ isW tp (skB tp e s.1) (wdB tp e (skB tp e s.1)) (txB 31) then .inl (skB tp e s.1) else rCmp tp e (skB tp e s.1, s.2)
  | t + 1, s =>
    if chP tp e 40 40 (skB tp e s.1) then
      match rCnd tp e (rAtm tp e t) (skB tp e s.1 + 1, s.2) with
      | .inl x => .inl x
      | .inr y => if chP tp e 41 41 (skB tp e y.1) then .inr (skB tp e y.1 + 1, y.2) else .inl (skB tp e y.1)
    else if isW tp (skB tp e s.1) (wdB tp e (skB tp e s.1)) (txB 31) then
      match rAtm tp e t (wdB tp e (skB tp e s.1), s.2) with
      | .inl x => .inl x
      | .inr y => .inr (em y 14 0)
    else rCmp tp e (skB tp e s.1, s.2)
def lawK (tp : Int → Int) (b q : Int) : Int := if isW tp b q (txB 25) then 0 else if isW tp b q (txB 28) then 1 else if isW tp b q (txB 29) then 2 else -1
/-- line n of a law; its first word stands from b to q -/
def rLaw (tp : Int → Int) (e n b q c : Int) (u : Vw) : LgR :=
  if lawK tp b q < 0 then .inl b
  else match numP tp e q 0 40 with
    | none => .inl (skB tp e q)
    | some y =>
      if isW tp (skB tp e y.1) (wdB tp e (skB tp e y.1)) (txB 30) then
        match rCnd tp e (rAtm tp e 6) (wdB tp e (skB tp e y.1), c, us (us (us u (369 + 4 * n) (lawK tp b q)) (370 + 4 * n) y.2) (371 + 4 * n) c) with
        | .inl x => .inl x
        | .inr z => .inr (z.1, z.2.1, us z.2.2 (372 + 4 * n) z.2.1)
      else .inr (skB tp e y.1, c, us (us (us (us u (369 + 4 * n) (lawK tp b q)) (370 + 4 * n) y.2) (371 + 4 * n) c) (372 + 4 * n) c)
def rLwl (tp : Int → Int) (e : Int) : Nat → Int → LgS → LgR
  | 0, _, s => .inl s.1
  | t + 1, n, s =>
    if n < 12 then
      match rLaw tp e n (skB tp e s.1) (wdB tp e (skB tp e s.1)) s.2.1 s.2.2 with
      | .inl x => .inl x
      | .inr y => if skB tp e y.1 = e then .inr (n + 1, y.2) else if tp (skB tp e y.1) = 59 then rLwl tp e t (n + 1) (skB tp e y.1 + 1, y.2) else .inl (skB tp e y.1)
    else .inl (skB tp e s.1)
def rLaws (tp : Int → Int) (e : Int) (u : Vw) : LgR := if skB tp e 0 = e then .inr (0, 0, u) else rLwl tp e 14 0 (0, 0, u)
