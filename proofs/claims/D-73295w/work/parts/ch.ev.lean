/-! What the codes of a condition come to (pure) -/
def evI (s y : LgS) (v : Vw) : Prop := ∀ i, s.2.1 ≤ i → i < y.2.1 → v (417 + 2 * i) = y.2.2 (417 + 2 * i) ∧ v (418 + 2 * i) = y.2.2 (418 + 2 * i)
/-- the codes from s to y lay F on the pile -/
def Ev (s y : LgS) (F : (Int → Int) → Int) : Prop := ∀ (v : Vw) (fc : Int → Int) (st : List Int), FcOk fc → evI s y v → runC v fc (y.2.1 - s.2.1).toNat s.2.1 st = F fc :: st
def op2 (c a b : Int) : Int := if c = 11 then a + b else if c = 12 then (if a < b then 1 else 0) else if c = 13 then (if a > b then 1 else 0) else if c = 15 then (if a + b = 2 then 1 else 0) else if a + b > 0 then 1 else 0
theorem runC_app {v : Vw} {fc : Int → Int} : ∀ (a b : Nat) (i : Int) (st : List Int), runC v fc (a + b) i st = runC v fc b (i + a) (runC v fc a i st) := by
  intro a
  induction a with
  | zero =>
    intro b i st
    rw [Nat.zero_add, show i + ((0 : Nat) : Int) = i by omega]
    rfl
  | succ a ih =>
    intro b i st
    rw [show a + 1 + b = (a + b) + 1 by omega, runC_s, ih, runC_s, show i + 1 + (a : Int) = i + ((a + 1 : Nat) : Int) by omega]
theorem Ev.push {p0 p c k x : Int} {u : Vw} (hk : k ≤ 10) : Ev (p0, c, u) (em (p, c, u) k x) (fun fc => if k ≤ 9 then fc k else x) := by
  intro v fc st hf hv
  obtain ⟨h1, h2⟩ := hv c (Int.le_refl _) (by show c < c + 1; omega)
  have e1 : v (417 + 2 * c) = k := h1.trans ((us_n (by omega)).trans (us_e rfl))
  have e2 : v (418 + 2 * c) = x := h2.trans (us_e rfl)
  show runC v fc (c + 1 - c).toNat c st = _
  rw [show (c + 1 - c).toNat = 0 + 1 by omega, runC_s, nxtC_10 (by omega), e1, e2]
  rfl
theorem Ev.bin {s y z : LgS} {q c e a b : Int} {n n1 m m1 : Nat} {F H : (Int → Int) → Int} (h1 : Ev s y F) (h2 : Ev (q, y.2) z H) (g1 : Gp e a n n1 s y) (g2 : Gp e b m m1 (q, y.2) z) (hc : ¬ c ≤ 10) (hc2 : ¬ c = 14) : Ev s (em z c 0) (fun fc => op2 c (F fc) (H fc)) := by
  intro v fc st hf hv
  have ec : (em z c 0).2.1 = z.2.1 + 1 := rfl
  have l1 : s.2.1 ≤ y.2.1 := g1.2.1
  have l2 : y.2.1 ≤ z.2.1 := g2.2.1
  have fr := g2.2.2.2.1
  have fr' : ∀ k, ¬ (417 + 2 * y.2.1 ≤ k ∧ k < 417 + 2 * z.2.1) → z.2.2 k = y.2.2 k := fr
  have fe : ∀ k, k < 417 + 2 * z.2.1 → (em z c 0).2.2 k = z.2.2 k := fun k q => (us_n (by omega)).trans (us_n (by omega))
  have v1 : evI s y v := fun i i0 i1 => ⟨(hv i i0 (by omega)).1.trans ((fe _ (by omega)).trans (fr' _ (by omega))), (hv i i0 (by omega)).2.trans ((fe _ (by omega)).trans (fr' _ (by omega)))⟩
  have v2 : evI (q, y.2) z v := fun i (i0 : y.2.1 ≤ i) i1 => ⟨(hv i (by omega) (by omega)).1.trans (fe _ (by omega)), (hv i (by omega) (by omega)).2.trans (fe _ (by omega))⟩
  have r1 := h1 v fc st hf v1
  have r2 : runC v fc (z.2.1 - y.2.1).toNat y.2.1 (F fc :: st) = H fc :: F fc :: st := h2 v fc (F fc :: st) hf v2
  have e1 : v (417 + 2 * z.2.1) = c := (hv z.2.1 (by omega) (by omega)).1.trans ((us_n (by omega)).trans (us_e rfl))
  rw [ec, show (z.2.1 + 1 - s.2.1).toNat = (y.2.1 - s.2.1).toNat + ((z.2.1 - y.2.1).toNat + 1) by omega, runC_app, r1, show s.2.1 + ((y.2.1 - s.2.1).toNat : Int) = y.2.1 by omega, runC_app, r2, show y.2.1 + ((z.2.1 - y.2.1).toNat : Int) = z.2.1 by omega, show (1 : Nat) = 0 + 1 from rfl, runC_s, nxtC_2 (by omega) (by omega), e1, pop2_e]
  rfl
theorem Ev.not {s z : LgS} {e a : Int} {n n1 : Nat} {F : (Int → Int) → Int} (h1 : Ev s z F) (g1 : Gp e a n n1 s z) : Ev s (em z 14 0) (fun fc => 1 - F fc) := by
  intro v fc st hf hv
  have ec : (em z 14 0).2.1 = z.2.1 + 1 := rfl
  have l1 : s.2.1 ≤ z.2.1 := g1.2.1
  have fe : ∀ k, k < 417 + 2 * z.2.1 → (em z 14 0).2.2 k = z.2.2 k := fun k q => (us_n (by omega)).trans (us_n (by omega))
  have v1 : evI s z v := fun i i0 i1 => ⟨(hv i i0 (by omega)).1.trans (fe _ (by omega)), (hv i i0 (by omega)).2.trans (fe _ (by omega))⟩
  have r1 := h1 v fc st hf v1
  have e1 : v (417 + 2 * z.2.1) = 14 := (hv z.2.1 (by omega) (by omega)).1.trans ((us_n (by omega)).trans (us_e rfl))
  rw [ec, show (z.2.1 + 1 - s.2.1).toNat = (z.2.1 - s.2.1).toNat + 1 by omega, runC_app, r1, show s.2.1 + ((z.2.1 - s.2.1).toNat : Int) = z.2.1 by omega, show (1 : Nat) = 0 + 1 from rfl, runC_s, nxtC_14 e1]
  rfl
theorem Ev.cg {s y : LgS} {F H : (Int → Int) → Int} (h : Ev s y F) (hc : ∀ fc, FcOk fc → F fc = H fc) : Ev s y H := fun v fc st hf hv => by rw [h v fc st hf hv, hc fc hf]
theorem Ev.pr {q : Int} {x y : LgS} {F : (Int → Int) → Int} (h : Ev x y F) : Ev x (q, y.2) F := h
theorem op2_and {P Q : Prop} : op2 15 (vP P) (vP Q) = vP (P ∧ Q) := by
  unfold op2
  rw [if_neg (by omega), if_neg (by omega), if_neg (by omega), if_pos rfl]
  rcases vP_r P with hp | hp <;> rcases vP_r Q with hq | hq <;> rw [hp, hq]
  · rw [if_neg (by omega)]; exact (vP_f fun z => vP_0.mp hp z.1).symm
  · rw [if_neg (by omega)]; exact (vP_f fun z => vP_0.mp hp z.1).symm
  · rw [if_neg (by omega)]; exact (vP_f fun z => vP_0.mp hq z.2).symm
  · rw [if_pos (by omega)]; exact (vP_t ⟨vP_1.mp hp, vP_1.mp hq⟩).symm
theorem op2_or {P Q : Prop} : op2 16 (vP P) (vP Q) = vP (P ∨ Q) := by
  unfold op2
  rw [if_neg (by omega), if_neg (by omega), if_neg (by omega), if_neg (by omega)]
  rcases vP_r P with hp | hp <;> rcases vP_r Q with hq | hq <;> rw [hp, hq]
  · rw [if_neg (by omega)]; exact (vP_f fun z => z.elim (vP_0.mp hp) (vP_0.mp hq)).symm
  · rw [if_pos (by omega)]; exact (vP_t (Or.inr (vP_1.mp hq))).symm
  · rw [if_pos (by omega)]; exact (vP_t (Or.inl (vP_1.mp hp))).symm
  · rw [if_pos (by omega)]; exact (vP_t (Or.inl (vP_1.mp hp))).symm
theorem op2_not {P : Prop} : 1 - vP P = vP (¬ P) := by
  rcases vP_r P with hp | hp <;> rw [hp]
  · exact (vP_t (vP_0.mp hp)).symm
  · exact (vP_f fun z => z (vP_1.mp hp)).symm
theorem op2_lt {a b : Int} : op2 12 a b = vP (a < b) := by
  unfold op2
  rw [if_neg (by omega), if_pos rfl]
  by_cases h : a < b
  · rw [if_pos h, vP_t h]
  · rw [if_neg h, vP_f h]
theorem op2_gt {a b : Int} : op2 13 a b = vP (b < a) := by
  unfold op2
  rw [if_neg (by omega), if_neg (by omega), if_pos rfl]
  by_cases h : b < a
  · rw [if_pos h, vP_t h]
  · rw [if_neg (show ¬ a > b from h), vP_f h]
theorem op2_add {a b : Int} : op2 11 a b = a + b := if_pos rfl
section FQ
variable {tp : Int → Int} {e : Int}
theorem prtW_0 {b : Int} : prtW tp b b = -1 := by
  have nw : ∀ bs : List Int, 0 < bs.length → ¬ isW tp b b bs := fun bs hb z => by
    have := z.1
    omega
  rw [prtX, if_neg (nw _ (by decide)), if_neg (nw _ (by decide)), if_neg (nw _ (by decide)), if_neg (nw _ (by decide)), if_neg (nw _ (by decide)), if_neg (nw _ (by decide)), if_neg (nw _ (by decide))]
end FQ
/-! sums -/
theorem sumP_n {ci ci' : Ci} {a z : Int} {fc : Int → Int} (h1 : ci' a 1 = ci a 1 + z) (h2 : ∀ k, ci' (a + 1) k = ci (a + 1) k) : ∀ n, sumP ci' a fc n = sumP ci a fc n + z := by
  intro n
  induction n with
  | zero => exact h1
  | succ n ih => unfold sumP; rw [ih, h2]; omega
theorem sumP_t {ci ci' : Ci} {a : Int} {j : Nat} {fc : Int → Int} (h1 : ci' a 1 = ci a 1) (hj : ci' (a + 1) j = ci (a + 1) j + 1) (h2 : ∀ k, ¬ k = (j : Int) → ci' (a + 1) k = ci (a + 1) k) : ∀ n, sumP ci' a fc n = sumP ci a fc n + (if j < n then fc j else 0) := by
  intro n
  induction n with
  | zero => rw [if_neg (by omega)]; exact h1.trans (by show ci a 1 = ci a 1 + 0; omega)
  | succ n ih =>
    unfold sumP
    rw [ih]
    by_cases q : n = j
    · subst q
      rw [hj, if_neg (by omega), if_pos (by omega), Int.add_mul, Int.one_mul]
      omega
    · rw [h2 _ (by omega)]
      by_cases q2 : j < n
      · rw [if_pos q2, if_pos (by omega)]; omega
      · rw [if_neg q2, if_neg (by omega)]; omega
/-! conditions in other regions -/
theorem SumD.wid {sh sh' : Sh} {ci ci' : Ci} {cr cr' : Cr} {B B' T T' a : Int} (h : SumD sh ci cr B T a) (hs : Same B T sh ci cr sh' ci' cr') (hB : B' ≤ B) (hT : T ≤ T') : SumD sh' ci' cr' B' T' a ∧ ∀ fc, sumL ci' a fc = sumL ci a fc := by
  obtain ⟨⟨⟨h1, h2⟩, h3⟩, h4⟩ := h.same hs hT
  exact ⟨⟨⟨by omega, h2⟩, h3⟩, h4⟩
theorem ChN.wid {sh : Sh} {ci : Ci} {cr : Cr} {B B' T T' al c o : Int} (h : ChN sh ci cr B T al c o) (hB : B' ≤ B) (hT : T ≤ T') : ChN sh ci cr B' T' al c o := ⟨⟨by have := h.1.1; omega, by have := h.1.2; omega⟩, h.2⟩
theorem CD.lo {sh : Sh} {ci : Ci} {cr : Cr} {B B' T : Int} (hB : B' ≤ B) : ∀ (n : Nat) (c : Int) (P : Pf), CD sh ci cr B T n c P → CD sh ci cr B' T n c P := by
  intro n
  induction n with
  | zero =>
    rintro c P ⟨hb, h⟩
    refine ⟨⟨by omega, hb.2⟩, ?_⟩
    rcases h with h | ⟨h1, a, b, h2, h3, h4, h5, h6⟩
    · exact Or.inl h
    · exact Or.inr ⟨h1, a, b, h2, h3, ⟨⟨by have := h4.1.1; omega, h4.1.2⟩, h4.2⟩, ⟨⟨by have := h5.1.1; omega, h5.1.2⟩, h5.2⟩, h6⟩
  | succ n ih =>
    intro c P h
    rcases h with h | ⟨o, R, hb, h1, h2, h3, h4⟩ | ⟨al, m, ha, h⟩
    · exact Or.inl (ih c P h)
    · exact Or.inr (Or.inl ⟨o, R, ⟨by omega, hb.2⟩, h1, h2, ih _ _ h3, h4⟩)
    · refine Or.inr (Or.inr ⟨al, m, ha, ?_⟩)
      have go : ∀ (m : Nat) (c : Int) (P : Pf), ChD sh ci cr B T (CD sh ci cr B T n) al m c P → ChD sh ci cr B' T (CD sh ci cr B' T n) al m c P := by
        intro m
        induction m with
        | zero =>
          rintro c P ⟨o, h1, h2, h3⟩
          exact ⟨o, h1.wid hB (Int.le_refl _), h2, ih _ _ h3⟩
        | succ m ihm =>
          rintro c P ⟨o, c2, P1, Q1, h1, h2, h3, h4, h5⟩
          exact ⟨o, c2, P1, Q1, h1.wid hB (Int.le_refl _), h2, ih _ _ h3, ihm _ _ h4, h5⟩
      exact go m c P h
theorem CD.wid {sh sh' : Sh} {ci ci' : Ci} {cr cr' : Cr} {B B' T T' c : Int} {n : Nat} {P : Pf} (h : CD sh ci cr B T n c P) (hs : Same B T sh ci cr sh' ci' cr') (hB : B' ≤ B) (hT : T ≤ T') : CD sh' ci' cr' B' T' n c P := CD.lo hB _ _ _ (CD.same hs hT _ _ _ h)
/-- a row that is under way: from c on to its last one -/
def ChL (sh : Sh) (ci : Ci) (cr : Cr) (T al : Int) (lv : Nat) : Nat → Int → Int → Pf → Prop
  | 0 => fun c l P => c = l ∧ ∃ o, ChN sh ci cr c T al c o ∧ cr c 2 = none ∧ CD sh ci cr (c + 1) T lv o P
  | m + 1 => fun c l P => ∃ o c2 P1 Q1, ChN sh ci cr c T al c o ∧ cr c 2 = some c2 ∧ c < c2 ∧ CD sh ci cr (c + 1) c2 lv o P1 ∧ ChL sh ci cr T al lv m c2 l Q1 ∧ P = comb al P1 Q1
theorem ChL.le {sh : Sh} {ci : Ci} {cr : Cr} {T al : Int} {lv : Nat} : ∀ {m : Nat} {c l : Int} {P : Pf}, ChL sh ci cr T al lv m c l P → c ≤ l ∧ l < T ∧ sh l = some (9, 0) := by
  intro m
  induction m with
  | zero =>
    rintro c l P ⟨rfl, o, h1, -⟩
    exact ⟨Int.le_refl _, h1.1.2, h1.2.1⟩
  | succ m ih =>
    rintro c l P ⟨o, c2, P1, Q1, h1, h2, h3, h4, h5, h6⟩
    have := ih h5
    exact ⟨by omega, this.2⟩
theorem ChL.cd {sh : Sh} {ci : Ci} {cr : Cr} {B T al : Int} {lv : Nat} : ∀ {m : Nat} {c l : Int} {P : Pf}, ChL sh ci cr T al lv m c l P → B ≤ c → ChD sh ci cr B T (CD sh ci cr B T lv) al m c P := by
  intro m
  induction m with
  | zero =>
    rintro c l P ⟨rfl, o, h1, h2, h3⟩ hB
    exact ⟨o, h1.wid hB (Int.le_refl _), h2, CD.lo (by omega) _ _ _ h3⟩
  | succ m ih =>
    rintro c l P ⟨o, c2, P1, Q1, h1, h2, h3, h4, h5, h6⟩ hB
    have hl := h5.le
    exact ⟨o, c2, P1, Q1, h1.wid hB (Int.le_refl _), h2, h4.wid (fun _ _ _ => ⟨rfl, fun _ => rfl, fun _ => rfl⟩) (by omega) (by omega), ih h5 (by omega), h6⟩
theorem comb_as {al : Int} (ha : al = 0 ∨ al = 1) {P Q R : Pf} {fc : Int → Int} : comb al P (comb al Q R) fc ↔ comb al (comb al P Q) R fc := by
  unfold comb
  rcases ha with rfl | rfl
  · rw [if_neg (by decide), if_neg (by decide), if_neg (by decide), if_neg (by decide)]
    exact or_assoc.symm
  · rw [if_pos rfl, if_pos rfl, if_pos rfl, if_pos rfl]
    exact and_assoc.symm
theorem comb_r {al : Int} {P Q R : Pf} {fc : Int → Int} (h : Q fc ↔ R fc) : comb al P Q fc ↔ comb al P R fc := by
  unfold comb
  rw [h]
/-- another one at the end of the row -/
theorem ChL.snoc {sh sh' : Sh} {ci ci' : Ci} {cr cr' : Cr} {T T' al l x o : Int} {lv : Nat} {R : Pf} (ha : al = 0 ∨ al = 1) (hx : T ≤ x) (hN : ChN sh' ci' cr' x T' al x o) (hn : cr' x 2 = none) (hR : CD sh' ci' cr' (x + 1) T' lv o R) (hl : cr' l 2 = some x) (hT : T ≤ T')
    : ∀ {m : Nat} {c : Int} {P : Pf}, ChL sh ci cr T al lv m c l P → (∀ a, c ≤ a → a < T → sh' a = sh a ∧ (∀ k, ci' a k = ci a k) ∧ ∀ k, ¬ (a = l ∧ k = 2) → cr' a k = cr a k) → ∃ P', ChL sh' ci' cr' T' al lv (m + 1) c x P' ∧ ∀ fc, P' fc ↔ comb al P R fc := by
  intro m
  induction m with
  | zero =>
    rintro c P ⟨rfl, o0, h1, h2, h3⟩ hs
    have hc := hs c (Int.le_refl _) h1.1.2
    refine ⟨comb al P R, ⟨o0, x, P, R, ⟨⟨Int.le_refl _, by have := h1.1.2; omega⟩, hc.1.trans h1.2.1, (hc.2.1 1).trans h1.2.2.1, (hc.2.2 0 (by omega)).trans h1.2.2.2⟩, hl, by have := h1.1.2; omega, h3.wid (fun a a0 a1 => ⟨(hs a (by omega) a1).1, (hs a (by omega) a1).2.1, fun k => (hs a (by omega) a1).2.2 k (by omega)⟩) (Int.le_refl _) hx, ⟨rfl, o, hN, hn, hR⟩, rfl⟩, fun fc => Iff.rfl⟩
  | succ m ih =>
    rintro c P ⟨o0, c2, P1, Q1, h1, h2, h3, h4, h5, h6⟩ hs
    have hle := h5.le
    obtain ⟨Q', q1, q2⟩ := ih h5 fun a a0 a1 => hs a (by omega) a1
    have hc := hs c (Int.le_refl _) h1.1.2
    refine ⟨comb al P1 Q', ⟨o0, c2, P1, Q', ⟨⟨Int.le_refl _, by have := h1.1.2; omega⟩, hc.1.trans h1.2.1, (hc.2.1 1).trans h1.2.2.1, (hc.2.2 0 (by omega)).trans h1.2.2.2⟩, (hc.2.2 2 (by omega)).trans h2, h3, h4.wid (fun a a0 a1 => ⟨(hs a (by omega) (by omega)).1, (hs a (by omega) (by omega)).2.1, fun k => (hs a (by omega) (by omega)).2.2 k (by omega)⟩) (Int.le_refl _) (Int.le_refl _), q1, rfl⟩, fun fc => ?_⟩
    rw [h6]
    exact (comb_r (q2 fc)).trans (comb_as ha)
/-! what a reader of a law may make: bounds in whole numbers -/
def Dz (M M1 : Mem) (x y : Int) : Prop := ∃ c s : Nat, Dr M M1 c s ∧ (c : Int) ≤ x ∧ (s : Int) ≤ y
theorem Dr.z {M M1 : Mem} {c s : Nat} {x y : Int} (h : Dr M M1 c s) (hx : (c : Int) ≤ x) (hy : (s : Int) ≤ y) : Dz M M1 x y := ⟨c, s, h, hx, hy⟩
theorem Dz.trans {M M1 M2 : Mem} {x y x' y' : Int} (h : Dz M M1 x y) (h' : Dz M1 M2 x' y') : Dz M M2 (x + x') (y + y') := by
  obtain ⟨c, s, h1, h2, h3⟩ := h
  obtain ⟨c', s', g1, g2, g3⟩ := h'
  exact ⟨c + c', s + s', h1.trans g1, by omega, by omega⟩
theorem Dz.le {M M1 : Mem} {x y x' y' : Int} (h : Dz M M1 x y) (hx : x ≤ x') (hy : y ≤ y') : Dz M M1 x' y' := by
  obtain ⟨c, s, h1, h2, h3⟩ := h
  exact ⟨c, s, h1, by omega, by omega⟩
theorem Dz.nx {M M1 : Mem} {x y : Int} (h : Dz M M1 x y) : mnx M ≤ mnx M1 := by
  obtain ⟨c, s, h1, -⟩ := h
  exact h1.2.1
theorem Dz.P {M M1 : Mem} {x y p : Int} (h : Dz M M1 x y) : Dz M (mP M1 p) x y := by
  obtain ⟨c, s, h1, h2⟩ := h
  exact ⟨c, s, h1.P, h2⟩
theorem RdX.dz {M M1 : Mem} {tp : Int → Int} {e x y : Int} (h : RdX M tp e) (hd : Dz M M1 x y) (hn : 54 ≤ mnx M) : RdX M1 tp e := by
  obtain ⟨c, s, h1, -⟩ := hd
  exact h.dr h1 hn
/-- cells behind the reader's are as they were -/
theorem Dz.same {M M1 : Mem} {B T x y : Int} (h : Dz M M1 x y) (hB : 54 ≤ B) (hT : T ≤ mnx M) : Same B T (msh M) (mci M) (mcr M) (msh M1) (mci M1) (mcr M1) := by
  obtain ⟨c, s, h1, -⟩ := h
  exact fun a a0 a1 => ⟨(h1.1 a (by omega)).1, fun k => (h1.1 a (by omega)).2.1 k (by omega) (by omega) (by omega), (h1.1 a (by omega)).2.2.1⟩
def FlZ (M : Mem) (f x y : Int) (a : Int) (E : String) (M1 : Mem) : Prop := a = 53 ∧ E = RX7 ∧ Dz M M1 x y ∧ mci M1 53 6 = f
theorem FlX.z {M M' M1 : Mem} {f f' a x y x' y' : Int} {E : String} (h : FlX M' f a E M1) (hd : Dz M M' x y) (hx : x ≤ x') (hy : y ≤ y') (hf : f = f') : FlZ M f' x' y' a E M1 := by
  obtain ⟨c, s, h1, h2, h3⟩ := hd
  obtain ⟨g1, g2, g3, g4⟩ := h.d h1 (Nat.le_refl _) (Nat.le_refl _) hf
  exact ⟨g1, g2, ⟨c, s, g3, by omega, by omega⟩, g4⟩
theorem FlZ.d {M M' M1 : Mem} {f f' a x y x' y' x2 y2 : Int} {E : String} (h : FlZ M' f x2 y2 a E M1) (hd : Dz M M' x y) (hx : x + x2 ≤ x') (hy : y + y2 ≤ y') (hf : f = f') : FlZ M f' x' y' a E M1 := by
  obtain ⟨h1, h2, h3, h4⟩ := h
  exact ⟨h1, h2, (hd.trans h3).le hx hy, h4.trans hf⟩
