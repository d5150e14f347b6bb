/-! THE DE LAYER: abstract values, memory, contracts -/
abbrev DV : Type := Int ⊕ (Option Int ⊕ Int)
abbrev dI (x : Int) : DV := Sum.inl x
abbrev dO (r : Option Int) : DV := Sum.inr (Sum.inl r)
abbrev dR (a : Int) : DV := Sum.inr (Sum.inl (some a))
abbrev dN : DV := Sum.inr (Sum.inl none)
abbrev dL (x : Int) : DV := Sum.inr (Sum.inr x)
/-- shapes, ints, references, longs, number of cells, number of slots -/
abbrev Mem : Type := (Int → Option (Nat × Int)) × (Int → Int → Int) × (Int → Int → Option Int) × (Int → Int → Int) × Nat × Nat
abbrev msh (M : Mem) : Int → Option (Nat × Int) := M.1
abbrev mci (M : Mem) : Int → Int → Int := M.2.1
abbrev mcr (M : Mem) : Int → Int → Option Int := M.2.2.1
abbrev mcl (M : Mem) : Int → Int → Int := M.2.2.2.1
abbrev mnx (M : Mem) : Nat := M.2.2.2.2.1
abbrev mns (M : Mem) : Nat := M.2.2.2.2.2
/-- the world's constants: the launch, the heap at the law's entry, classes, classes of arrays, old references, old shapes, old ints, old references' contents -/
abbrev GW : Type := Launch × Heap × va_G × (Nat → ClassId) × (Int → Value) × (Int → Option (Nat × Int)) × (Int → Int → Int) × (Int → Int → Option Int)
abbrev gl (G : GW) : Launch := G.1
abbrev gH (G : GW) : Heap := G.2.1
abbrev gD (G : GW) : va_G := G.2.2.1
abbrev gA (G : GW) : Nat → ClassId := G.2.2.2.1
abbrev gO (G : GW) : Int → Value := G.2.2.2.2.1
abbrev gsh (G : GW) : Int → Option (Nat × Int) := G.2.2.2.2.2.1
abbrev gci (G : GW) : Int → Int → Int := G.2.2.2.2.2.2.1
abbrev gcr (G : GW) : Int → Int → Option Int := G.2.2.2.2.2.2.2
def gB (G : GW) : Nat := (gH G).size
/-- the real reference of an abstract address -/
def adv (G : GW) (a : Int) : Value := if 0 ≤ a then .ref (gB G + a.toNat) else gO G a
def tv (G : GW) (v : DV) : Value := match v with
  | .inl x => .int (Int32.ofInt x)
  | .inr (.inl none) => .null
  | .inr (.inl (some a)) => adv G a
  | .inr (.inr x) => .long (Int64.ofInt x)
def okV (v : DV) : Prop := match v with
  | .inl x => i32 x
  | .inr (.inl _) => True
  | .inr (.inr x) => i64 x
def okS (S : List DV) : Prop := ∀ v ∈ S, okV v
theorem okS_nil : okS [] := fun v h => nomatch h
theorem okS_cons {v : DV} {S : List DV} (h : okV v) (hS : okS S) : okS (v :: S) := fun w hw => by
  rcases List.mem_cons.mp hw with rfl | hw
  · exact h
  · exact hS w hw
theorem okS_head {v : DV} {S : List DV} (h : okS (v :: S)) : okV v := h v List.mem_cons_self
theorem okS_tail {v : DV} {S : List DV} (h : okS (v :: S)) : okS S := fun w hw => h w (List.mem_cons_of_mem _ hw)
theorem tv_i (G : GW) (x : Int) : tv G (dI x) = .int (Int32.ofInt x) := rfl
theorem tv_l (G : GW) (x : Int) : tv G (dL x) = .long (Int64.ofInt x) := rfl
theorem tv_n (G : GW) : tv G dN = .null := rfl
theorem tv_r (G : GW) {a : Int} (h : 0 ≤ a) : tv G (dR a) = .ref (gB G + a.toNat) := by
  show adv G a = _
  unfold adv
  rw [if_pos h]
/-! locals -/
abbrev LV : Type := List (Option DV)
def isLg (o : Option DV) : Bool := match o with
  | some (.inr (.inr _)) => true
  | _ => false
def lvO (G : GW) : Nat → LV → List (Nat × Value)
  | _, [] => []
  | k, none :: L => lvO G (k + 1) L
  | k, some v :: L => (k, tv G v) :: lvO G (k + 1) L
/-- storing a value of one slot -/
def stL : LV → Nat → DV → LV
  | [], _, _ => []
  | _ :: L, 0, v => some v :: L
  | o :: L, 1, v => (if isLg o then none else o) :: stL L 0 v
  | o :: L, i + 2, v => o :: stL L (i + 1) v
/-- storing a long -/
def stW : LV → Nat → DV → LV
  | [], _, _ => []
  | _ :: [], 0, v => some v :: []
  | _ :: _ :: L, 0, v => some v :: none :: L
  | o :: L, 1, v => (if isLg o then none else o) :: stW L 0 v
  | o :: L, i + 2, v => o :: stW L (i + 1) v
def okL (L : LV) : Prop := ∀ v, some v ∈ L → okV v
def lrep (G : GW) (ls : Array Slot) (nL : Nat) (L : LV) : Prop := lv_has ls nL (lvO G 0 L) ∧ okL L
theorem lvO_mem {G : GW} {q : Nat × Value} : ∀ {L : LV} {k : Nat}, q ∈ lvO G k L ↔ ∃ j v, q = (k + j, tv G v) ∧ L[j]? = some (some v) := by
  intro L
  induction L with
  | nil =>
    intro k
    constructor
    · intro h; cases h
    · rintro ⟨j, v, -, h⟩
      simp at h
  | cons o L ih =>
    intro k
    cases o with
    | none =>
      show q ∈ lvO G (k + 1) L ↔ _
      rw [ih]
      constructor
      · rintro ⟨j, v, rfl, h⟩
        exact ⟨j + 1, v, by rw [Nat.add_assoc, Nat.add_comm 1 j], by simpa using h⟩
      · rintro ⟨j, v, rfl, h⟩
        cases j with
        | zero => simp at h
        | succ j => exact ⟨j, v, by rw [Nat.add_assoc, Nat.add_comm 1 j], by simpa using h⟩
    | some w =>
      show q ∈ (k, tv G w) :: lvO G (k + 1) L ↔ _
      rw [List.mem_cons, ih]
      constructor
      · rintro (rfl | ⟨j, v, rfl, h⟩)
        · exact ⟨0, w, rfl, rfl⟩
        · exact ⟨j + 1, v, by rw [Nat.add_assoc, Nat.add_comm 1 j], by simpa using h⟩
      · rintro ⟨j, v, rfl, h⟩
        cases j with
        | zero =>
          left
          simp at h
          rw [h]
          rfl
        | succ j =>
          right
          exact ⟨j, v, by rw [Nat.add_assoc, Nat.add_comm 1 j], by simpa using h⟩
theorem stL_get : ∀ {L : LV} {i j : Nat} {v w : DV}, (stL L i v)[j]? = some (some w) → (j = i ∧ w = v ∧ i < L.length) ∨ (j ≠ i ∧ L[j]? = some (some w) ∧ ¬ (j + 1 = i ∧ isLg (some w) = true)) := by
  intro L
  induction L with
  | nil => intro i j v w h; simp [stL] at h
  | cons o L ih =>
    intro i j v w h
    match i, h with
    | 0, h =>
      cases j with
      | zero =>
        left
        simp [stL] at h
        exact ⟨rfl, h.symm, by simp⟩
      | succ j =>
        right
        exact ⟨by omega, by simpa [stL] using h, by omega⟩
    | 1, h =>
      cases j with
      | zero =>
        right
        simp only [stL, List.getElem?_cons_zero, Option.some.injEq] at h
        by_cases ho : isLg o = true
        · rw [if_pos ho] at h; cases h
        · rw [if_neg ho] at h
          subst h
          exact ⟨by omega, by simp, fun q => ho q.2⟩
      | succ j =>
        simp only [stL, List.getElem?_cons_succ] at h
        rcases ih h with ⟨rfl, e, hl⟩ | ⟨h1, h2, h3⟩
        · left; exact ⟨rfl, e, by simp; omega⟩
        · right; exact ⟨by omega, by simpa using h2, by omega⟩
    | i + 2, h =>
      cases j with
      | zero =>
        right
        simp only [stL, List.getElem?_cons_zero, Option.some.injEq] at h
        subst h
        exact ⟨by omega, by simp, by omega⟩
      | succ j =>
        simp only [stL, List.getElem?_cons_succ] at h
        rcases ih h with ⟨rfl, e, hl⟩ | ⟨h1, h2, h3⟩
        · left; exact ⟨rfl, e, by simp; omega⟩
        · right
          refine ⟨by omega, by simpa using h2, fun q => h3 ⟨by omega, q.2⟩⟩
theorem stW_get : ∀ {L : LV} {i j : Nat} {v w : DV}, (stW L i v)[j]? = some (some w) → (j = i ∧ w = v ∧ i < L.length) ∨ (j ≠ i ∧ j ≠ i + 1 ∧ L[j]? = some (some w) ∧ ¬ (j + 1 = i ∧ isLg (some w) = true)) := by
  intro L
  induction L with
  | nil => intro i j v w h; simp [stW] at h
  | cons o L ih =>
    intro i j v w h
    match i, h with
    | 0, h =>
      cases L with
      | nil =>
        cases j with
        | zero =>
          left
          simp [stW] at h
          exact ⟨rfl, h.symm, by simp⟩
        | succ j => simp [stW] at h
      | cons o2 L =>
        match j, h with
        | 0, h =>
          left
          simp [stW] at h
          exact ⟨rfl, h.symm, by simp⟩
        | 1, h => simp [stW] at h
        | j + 2, h =>
          right
          exact ⟨by omega, by omega, by simpa [stW] using h, by omega⟩
    | 1, h =>
      cases j with
      | zero =>
        right
        simp only [stW, List.getElem?_cons_zero, Option.some.injEq] at h
        by_cases ho : isLg o = true
        · rw [if_pos ho] at h; cases h
        · rw [if_neg ho] at h
          subst h
          exact ⟨by omega, by omega, by simp, fun q => ho q.2⟩
      | succ j =>
        simp only [stW, List.getElem?_cons_succ] at h
        rcases ih h with ⟨rfl, e, hl⟩ | ⟨h1, h1', h2, h3⟩
        · left; exact ⟨rfl, e, by simp; omega⟩
        · right; exact ⟨by omega, by omega, by simpa using h2, by omega⟩
    | i + 2, h =>
      cases j with
      | zero =>
        right
        simp only [stW, List.getElem?_cons_zero, Option.some.injEq] at h
        subst h
        exact ⟨by omega, by omega, by simp, by omega⟩
      | succ j =>
        simp only [stW, List.getElem?_cons_succ] at h
        rcases ih h with ⟨rfl, e, hl⟩ | ⟨h1, h1', h2, h3⟩
        · left; exact ⟨rfl, e, by simp; omega⟩
        · right
          refine ⟨by omega, by omega, by simpa using h2, fun q => h3 ⟨by omega, q.2⟩⟩
