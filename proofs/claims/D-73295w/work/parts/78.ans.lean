/-! PURE: what the calls answer -/
noncomputable def opAns (v : Vw) (p w : Int) : Int :=
  if w = 0 then opN v p else if w = 1 then opG v p else if w = 2 then opP v p else if w ≤ 6 then trtV v p (w - 3) else if w = 7 then sensV v p else if w = 8 then emuV v p else if w = 9 then sumV v 1 p
  else if w = 10 then worV v p else if w = 11 then usesV v p else if v 3 = 0 then 0 else 100 * usesV v p / v 3
def microAns (v : Vw) (p k n : Int) : Int := if 0 ≤ k ∧ k ≤ opN v p - 1 then (if n = 0 then opK v p k else opX v p k) else -1
def doneAns (v : Vw) (p st w : Int) : Int :=
  if opG v p = 1 ∧ st / 4 % 2 = 0 then (if w = 0 then 1 else -1)
  else if w = 0 then 0 else if w = 1 then (opD v p (stM st)).1 else if w = 2 then (opD v p (stM st)).2.1 else if w = 3 then (opD v p (stM st)).2.2.1 else if w = 4 then (opD v p (stM st)).2.2.2.2.1 else (opD v p (stM st)).2.2.2.2.2 (w - 5)
def progAns (v : Vw) (k : Int) : Int := if 0 ≤ k ∧ k ≤ v 3 - 1 then v (12 + k) else -1
def guestAns (v : Vw) (h w : Int) : Int := if w = 5 then (if v 3 ≤ v (guA h) then 1 else 0) else if w < 5 then v (guA h + w) else v (guA h + w - 1)
def countAns (v : Vw) (n w : Int) : Int :=
  if w = 2 then (if v 2 = 1 then v 368 else -1) else if w = 5 then v 5 / 2 else if w = 11 then n else if 0 ≤ w ∧ w ≤ 10 then v w else -1
def logAns (v : Vw) (ago w : Int) : Int := if 0 ≤ ago ∧ ago ≤ v 10 - 1 then v (128 + 4 * ago + w) else -2
/-- of the rows from the k-th on (there are t) those of an operation: how many; the first one's tick -/
def ledN (v : Vw) (p : Int) : Nat → Int → Int
  | 0, _ => 0
  | t + 1, k => (if v (128 + 4 * k + 1) = p then 1 else 0) + ledN v p t (k + 1)
def ledT (v : Vw) (p : Int) : Nat → Int → Int
  | 0, _ => -1
  | t + 1, k => if v (128 + 4 * k + 1) = p then v (128 + 4 * k) else ledT v p t (k + 1)
def ledAns (v : Vw) (p tick : Int) : Int := if tick = 0 then ledN v p (v 10).toNat 0 else ledT v p (v 10).toNat 0
/-- both guests at the boot -/
def bootV (v : Vw) : Vw := setG (setG v 0 0 (0, 1, 0, 0, 0, fun k => v (22 + k)) 0) 1 0 (0, 1, 0, 0, 0, fun k => v (22 + k)) 0
/-- what is open, as bits -/
def openP (v : Vw) (t : Int) : Prop := (trtV v t 0 = 1 ∨ trtV v t 1 = 1 ∨ trtV v t 2 = 1) ∧ opG v t = 0
noncomputable def openV (v : Vw) : Int := numR (openP v) (v 0).toNat
noncomputable def leastV (v : Vw) : Int := numR (fun t => openP v t ∧ ¬ opP v t = 1) (v 0).toNat
/-- behind which step from here on views are unlike first -/
noncomputable def leakR : Nat → Int → Vw → Int
  | 0, _, _ => -1
  | t + 1, n, v => @ite Int (likeG (stepV v)) (Classical.propDecidable _) (leakR t (n + 1) (stepV v)) n
noncomputable def leakV (v : Vw) : Int := leakR 60 1 (bootV v)
/-- what so many steps of the hosted guest take -/
noncomputable def depthR (each dp : Int) : Nat → Vw → Int
  | 0, _ => 0
  | t + 1, v => (if hostH v = 6 then 0 else each) + (if hostH v ≤ 1 then (if dp < 0 then 1 else dp * emuV v (opAtV v 1)) else 0) + depthR each dp t (hostV v)
noncomputable def depthV (v : Vw) (n each dp : Int) : Int := depthR each dp n.toNat (bootV v)
/-- so many ticks ahead -/
noncomputable def aheadAns (v : Vw) (n b : Int) : Int := goT v False n.toNat (guA (if b = 0 then 0 else 1))
noncomputable def trialAns (v : Vw) (n b : Int) : Int := if b = 0 then goT v True n.toNat 9 else vP (likeG (goT v True n.toNat))
noncomputable def purseS (v : Vw) (n s : Int) : Int := goT (us v 11 s) True n.toNat 9
noncomputable def spanR (v : Vw) (n b : Int) : Nat → Int
  | 0 => -1
  | t + 1 => if spanR v n b t < 0 then purseS v n ((t + 1 : Nat) : Int) else if b = 0 then (if spanR v n b t ≤ purseS v n ((t + 1 : Nat) : Int) then spanR v n b t else purseS v n ((t + 1 : Nat) : Int)) else (if spanR v n b t ≤ purseS v n ((t + 1 : Nat) : Int) then purseS v n ((t + 1 : Nat) : Int) else spanR v n b t)
noncomputable def spanAns (v : Vw) (n b : Int) : Int := spanR v n b 6
