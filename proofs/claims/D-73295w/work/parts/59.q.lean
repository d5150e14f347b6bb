/-! MORE WRAPPERS: what a method must end with has a name of its own -/
theorem CS.mkQ {G : GW} {d : Nat} {j : MI} {vs : List DV} {M : Mem} {Q : Res → Mem → Prop} (hy : plainName j.1.cls = true) (hn : (argL vs).length ≤ j.2.2.1) (k : ∀ Q' : Res → Mem → Prop, (∀ r M', Q r M' → Q' r M') → WP G d j 0 (entL vs j.2.2.1) [] M Q') : CS G d j vs M Q :=
  CS.mk hy hn (k Q fun _ _ h => h)
/-- nothing is changed, the answer is F -/
abbrev pur (M : Mem) (F : Int) : Res → Mem → Prop := postI fun x M1 => x = F ∧ M1 = M
theorem vP_n0 {p : Prop} : ¬ vP p = 0 ↔ p := by rw [vP_0, Classical.not_not]
theorem vP_n1 {p : Prop} : ¬ vP p = 1 ↔ ¬ p := by rw [vP_1]
theorem vP_nn {p : Prop} : 0 ≤ vP p ∧ vP p ≤ 1 := by rcases vP_r p with h | h <;> omega
/-- a row of ints, as far as it was copied -/
theorem mC_0 {M : Mem} {c sp a dp : Int} : mC M c sp a dp 0 = M := by
  have e : (fun b k => if b = a ∧ dp ≤ k ∧ k < dp + 0 then M.2.1 c (sp + (k - dp)) else M.2.1 b k) = M.2.1 := funext fun b => funext fun k => if_neg (by omega)
  show (M.1, _, M.2.2) = M
  rw [e]
theorem mC_s {M : Mem} {c sp a dp k i x : Int} (hk : 0 ≤ k) (hx : x = mci M c (sp + k)) (hi : i = dp + k) : mI (mC M c sp a dp k) a i x = mC M c sp a dp (k + 1) := by
  subst hi
  refine congrArg (fun f => (M.1, f, M.2.2)) (funext fun b => funext fun n => ?_)
  show (if b = a ∧ n = dp + k then x else if b = a ∧ dp ≤ n ∧ n < dp + k then M.2.1 c (sp + (n - dp)) else M.2.1 b n) = (if b = a ∧ dp ≤ n ∧ n < dp + (k + 1) then M.2.1 c (sp + (n - dp)) else M.2.1 b n)
  by_cases h1 : b = a ∧ n = dp + k
  · rw [if_pos h1, if_pos (by omega), hx, show sp + (n - dp) = sp + k by omega]
  · rw [if_neg h1]
    by_cases h2 : b = a ∧ dp ≤ n ∧ n < dp + k
    · rw [if_pos h2, if_pos (by omega)]
    · rw [if_neg h2, if_neg (by omega)]
theorem mciI {M : Mem} {a i x b : Int} {v : Int → Int} (h : ¬ b = a) (hw : mci M b = v) : mci (mI M a i x) b = v := by
  rw [← hw]
  exact funext fun k => if_neg fun q => h q.1
theorem mciC {M : Mem} {c sp a dp n b : Int} {v : Int → Int} (h : ¬ b = a) (hw : mci M b = v) : mci (mC M c sp a dp n) b = v := by
  rw [← hw]
  exact funext fun k => if_neg fun q => h q.1
theorem mciU {f : Int → Int → Int} {a i x b : Int} {v : Int → Int} (h : ¬ b = a) (hw : f b = v) : up f a i x b = v := by
  rw [← hw]
  exact funext fun k => if_neg fun q => h q.1
/-- a cell of a row written -/
theorem mciIs {M : Mem} {a i x : Int} {v : Vw} (hw : mci M a = v) : mci (mI M a i x) a = us v i x := by
  rw [← hw]
  refine funext fun k => ?_
  unfold us
  by_cases h : k = i
  · exact (if_pos ⟨rfl, h⟩).trans (if_pos h).symm
  · exact (if_neg fun q => h q.2).trans (if_neg h).symm
/-- other ints and longs -/
def wL (M : Mem) (g l : Int → Int → Int) : Mem := (M.1, g, M.2.2.1, l, M.2.2.2.2)
theorem rdLW {M : Mem} {g l : Int → Int → Int} {b k : Int} : mci (wL M g l) b k = g b k := rfl
theorem rdLL {M : Mem} {g l : Int → Int → Int} {b k : Int} : mcl (wL M g l) b k = l b k := rfl
theorem mci_wL (M : Mem) (g l : Int → Int → Int) : mci (wL M g l) = g := rfl
theorem mcl_wL (M : Mem) (g l : Int → Int → Int) : mcl (wL M g l) = l := rfl
theorem wI_wL (M : Mem) (g l h : Int → Int → Int) : wI (wL M g l) h = wL M h l := rfl
theorem wL_wI (M : Mem) (g l h : Int → Int → Int) : wL (wI M g) h l = wL M h l := rfl
theorem wL_wL (M : Mem) (g l h k : Int → Int → Int) : wL (wL M g l) h k = wL M h k := rfl
theorem wI_L (M : Mem) (g : Int → Int → Int) : wI M g = wL M g (mcl M) := rfl
/-- locals of which some are forgotten -/
def subL : LV → LV → Prop
  | [], _ => True
  | none :: L', _ :: L => subL L' L
  | some v :: L', some w :: L => v = w ∧ subL L' L
  | _, _ => False
theorem subL_get : ∀ {L' L : LV}, subL L' L → ∀ (i : Nat) (v : DV), L'[i]? = some (some v) → L[i]? = some (some v) := by
  intro L'
  induction L' with
  | nil => intro L _ i v h; simp at h
  | cons o L' ih =>
    intro L h i v hv
    cases L with
    | nil =>
      cases o with
      | none => exact absurd h (by simp [subL])
      | some w => exact absurd h (by simp [subL])
    | cons o' L =>
      cases o with
      | none =>
        have h' : subL L' L := h
        cases i with
        | zero => simp at hv
        | succ i => simpa using ih h' i v (by simpa using hv)
      | some w =>
        cases o' with
        | none => exact absurd h (by simp [subL])
        | some w' =>
          have h' : w = w' ∧ subL L' L := h
          obtain ⟨rfl, h'⟩ := h'
          cases i with
          | zero => simpa using hv
          | succ i => simpa using ih h' i v (by simpa using hv)
theorem x_fgt {G : GW} {d : Nat} {j : MI} {pc : Nat} {L L' : LV} {S : List DV} {M : Mem} {Q : Res → Mem → Prop} (h : subL L' L) (k : WP G d j pc L' S M Q) : WP G d j pc L S M Q := x_less (subL_get h) k
theorem jlcmp_0 {x y : Int} : jlcmp x y = 0 ↔ x = y := by
  unfold jlcmp
  split
  · omega
  · split <;> omega
theorem CS.mkFQ {G : GW} {d : Nat} {j : MI} {vs : List DV} {M : Mem} {Q : Res → Mem → Prop} (hy : plainFor j.1 = true) (he : j.2.2.2.2 = []) (hn : (argL vs).length ≤ j.2.2.1) (k : ∀ Q' : Res → Mem → Prop, (∀ r M', Q r M' → Q' r M') → WP G d j 0 (entL vs j.2.2.1) [] M Q') : CS G d j vs M Q :=
  CS.mkF hy he hn (k Q fun _ _ h => h)
