/-! READING a law: what the codes are like -/
/-- from s to y: heights of the pile n and n', so much is left -/
def Gp (e δ : Int) (n n' : Nat) (s y : LgS) : Prop := (s.1 ≤ y.1 ∧ y.1 ≤ e) ∧ s.2.1 ≤ y.2.1 ∧ y.2.1 - s.2.1 + δ ≤ y.1 - s.1 ∧
  (∀ k, ¬ (417 + 2 * s.2.1 ≤ k ∧ k < 417 + 2 * y.2.1) → y.2.2 k = s.2.2 k) ∧
  (∀ i, s.2.1 ≤ i → i < y.2.1 → (0 ≤ y.2.2 (417 + 2 * i) ∧ y.2.2 (417 + 2 * i) ≤ 16) ∧ (y.2.2 (417 + 2 * i) = 10 → 0 ≤ y.2.2 (418 + 2 * i) ∧ y.2.2 (418 + 2 * i) ≤ 999)) ∧
  ∀ v : Vw, (∀ i, s.2.1 ≤ i → i < y.2.1 → v (417 + 2 * i) = y.2.2 (417 + 2 * i)) → ∀ t : Nat, wfC v t y.2.1 n' → wfC v (t + (y.2.1 - s.2.1).toNat) s.2.1 n
theorem Gp.trans {e a b : Int} {n n' n'' : Nat} {s y z : LgS} (h : Gp e a n n' s y) (h' : Gp e b n' n'' y z) : Gp e (a + b) n n'' s z := by
  obtain ⟨h1, h2, h3, h4, h5, h6⟩ := h
  obtain ⟨g1, g2, g3, g4, g5, g6⟩ := h'
  refine ⟨by omega, by omega, by omega, fun k q => (g4 k (by omega)).trans (h4 k (by omega)), fun i i0 i1 => ?_, fun v hv t hw => ?_⟩
  · by_cases q : i < y.2.1
    · rw [g4 (417 + 2 * i) (by omega), g4 (418 + 2 * i) (by omega)]
      exact h5 i i0 q
    · exact g5 i (by omega) i1
  · have w1 := g6 v (fun i i0 i1 => hv i (by omega) i1) t hw
    have w2 := h6 v (fun i i0 i1 => (hv i i0 (by omega)).trans (g4 _ (by omega))) _ w1
    rw [show t + (z.2.1 - s.2.1).toNat = t + (z.2.1 - y.2.1).toNat + (y.2.1 - s.2.1).toNat by omega]
    exact w2
theorem Gp.adv {e a : Int} {n : Nat} {s : LgS} {q : Int} (ha : 0 ≤ a) (h : s.1 + a ≤ q) (hq : q ≤ e) : Gp e a n n s (q, s.2) := by
  refine ⟨⟨by show s.1 ≤ q; omega, hq⟩, Int.le_refl _, by show s.2.1 - s.2.1 + a ≤ q - s.1; omega, fun k _ => rfl, fun i i0 i1 => ?_, fun v hv t hw => ?_⟩
  · have : i < s.2.1 := i1
    omega
  · show wfC v (t + (s.2.1 - s.2.1).toNat) s.2.1 n
    rw [show t + (s.2.1 - s.2.1).toNat = t by omega]
    exact hw
theorem Gp.less {e a b : Int} {n n' : Nat} {s y : LgS} (h : Gp e a n n' s y) (hb : b ≤ a) : Gp e b n n' s y := by
  obtain ⟨h1, h2, h3, h4, h5, h6⟩ := h
  exact ⟨h1, h2, by omega, h4, h5, h6⟩
theorem Gp.emi {e k x : Int} {n n' : Nat} {s : LgS} (hs : s.1 ≤ e) (hk : 0 ≤ k ∧ k ≤ 16) (hx : k = 10 → 0 ≤ x ∧ x ≤ 999) (hn : (k ≤ 10 ∧ n' = n + 1) ∨ (k = 14 ∧ 1 ≤ n ∧ n' = n) ∨ (¬ k ≤ 10 ∧ ¬ k = 14 ∧ 2 ≤ n ∧ n' = n - 1)) : Gp e (-1) n n' s (em s k x) := by
  have e1 : (em s k x).2.2 (417 + 2 * s.2.1) = k := (us_n (by omega)).trans (us_e rfl)
  have e2 : (em s k x).2.2 (418 + 2 * s.2.1) = x := us_e rfl
  have ec : (em s k x).2.1 = s.2.1 + 1 := rfl
  refine ⟨⟨Int.le_refl _, hs⟩, by omega, by rw [ec]; show s.2.1 + 1 - s.2.1 + -1 ≤ s.1 - s.1; omega, fun j q => ?_, fun i i0 i1 => ?_, fun v hv t hw => ?_⟩
  · exact (us_n (by omega)).trans (us_n (by omega))
  · rw [show i = s.2.1 by omega, e1, e2]
    exact ⟨hk, hx⟩
  · rw [ec] at hw
    rw [show t + ((em s k x).2.1 - s.2.1).toNat = t + 1 by omega]
    have ev : v (417 + 2 * s.2.1) = k := (hv _ (by omega) (by omega)).trans e1
    show if v (417 + 2 * s.2.1) ≤ 10 then wfC v t (s.2.1 + 1) (n + 1) else if v (417 + 2 * s.2.1) = 14 then 1 ≤ n ∧ wfC v t (s.2.1 + 1) n else 2 ≤ n ∧ wfC v t (s.2.1 + 1) (n - 1)
    rw [ev]
    rcases hn with ⟨a, b⟩ | ⟨a, b, c⟩ | ⟨a, b, c, d⟩
    · rw [if_pos a]; subst b; exact hw
    · rw [if_neg (by omega), if_pos a]; subst c; exact ⟨b, hw⟩
    · rw [if_neg a, if_neg b]; subst d; exact ⟨c, hw⟩
/-- what is read adds one to the pile -/
def Un (e : Int) (f : LgS → LgR) : Prop := ∀ s y, s.1 ≤ e → f s = .inr y → ∀ n, Gp e 0 n (n + 1) s y
section RD
variable {tp : Int → Int} {e : Int}
theorem rPart_g : Un e (rPart tp e) := by
  intro s y hs h n
  have b1 := skB_r (tp := tp) hs
  have b2 := wdB_r (tp := tp) b1.2
  unfold rPart at h
  split at h
  · rcases hn : numP tp e s.1 0 999 with _ | ⟨q, x⟩
    · rw [hn] at h; cases h
    · rw [hn] at h
      cases h
      have r := numP_r hs hn
      exact Gp.trans (Gp.adv (a := 1) (q := q) (n := n) (by omega) (by omega) (by omega)) (Gp.emi (s := (q, s.2)) r.2.1 (by omega) (fun _ => r.2.2) (Or.inl ⟨by omega, rfl⟩))
  · rename_i hw
    split at h
    · cases h
    · rename_i hk
      cases h
      have kr : prtW tp (skB tp e s.1) (wdB tp e (skB tp e s.1)) = -1 ∨ ((0 : Nat) : Int) ≤ prtW tp (skB tp e s.1) (wdB tp e (skB tp e s.1)) ∧ prtW tp (skB tp e s.1) (wdB tp e (skB tp e s.1)) < ((0 + 7 : Nat) : Int) := wrF_r 7 0
      exact Gp.trans (Gp.adv (a := 1) (q := wdB tp e (skB tp e s.1)) (n := n) (by omega) (by omega) (by omega)) (Gp.emi (s := (wdB tp e (skB tp e s.1), s.2)) b2.2 (by omega) (fun q => by omega) (Or.inl ⟨by omega, rfl⟩))
theorem rSumL_g : ∀ (t : Nat) (s y : LgS), s.1 ≤ e → rSumL tp e t s = .inr y → ∀ n, Gp e 0 (n + 1) (n + 1) s y := by
  intro t
  induction t with
  | zero => intro s y hs h; cases h
  | succ t ih =>
    intro s y hs h n
    have b1 := skB_r (tp := tp) hs
    have h' : (if chP tp e 43 43 (skB tp e s.1) then (match rPart tp e (skB tp e s.1 + 1, s.2) with
      | .inl x => .inl x
      | .inr y => rSumL tp e t (em y 11 0)) else .inr (skB tp e s.1, s.2)) = (.inr y : LgR) := h
    split at h'
    · rename_i hc
      have hc1 := hc.1
      rcases hp : rPart tp e (skB tp e s.1 + 1, s.2) with f | z
      · rw [hp] at h'; cases h'
      · rw [hp] at h'
        have g1 : Gp e 1 (n + 1) (n + 1) s (skB tp e s.1 + 1, s.2) := Gp.adv (by omega) (by omega) (by omega)
        have g2 := rPart_g _ _ (by show skB tp e s.1 + 1 ≤ e; omega) hp (n + 1)
        have g3 : Gp e (-1) (n + 1 + 1) (n + 1) z (em z 11 0) := Gp.emi g2.1.2 (by omega) (fun q => by omega) (Or.inr (Or.inr ⟨by omega, by omega, by omega, by omega⟩))
        exact Gp.trans (a := 0) (b := 0) (((g1.trans g2).trans g3).less (by omega)) (ih _ _ g3.1.2 h' n)
    · cases h'
      exact Gp.adv (by omega) (by omega) b1.2
theorem rSum_g : Un e (rSum tp e) := by
  intro s y hs h n
  unfold rSum at h
  rcases hp : rPart tp e s with f | z
  · rw [hp] at h; cases h
  · rw [hp] at h
    have g1 := rPart_g _ _ hs hp n
    exact Gp.trans (a := 0) (b := 0) g1 (rSumL_g _ _ _ g1.1.2 h n)
theorem rCmp_g : Un e (rCmp tp e) := by
  intro s y hs h n
  have b1 := skB_r (tp := tp) hs
  have b2 := wdB_r (tp := tp) b1.2
  have kr : tagW tp (skB tp e s.1) (wdB tp e (skB tp e s.1)) = -1 ∨ ((0 : Nat) : Int) ≤ tagW tp (skB tp e s.1) (wdB tp e (skB tp e s.1)) ∧ tagW tp (skB tp e s.1) (wdB tp e (skB tp e s.1)) < ((0 + 3 : Nat) : Int) := wrF_r 3 0
  unfold rCmp at h
  split at h
  · rcases hp : rSum tp e (skB tp e s.1, s.2) with f | z
    · rw [hp] at h; cases h
    · rw [hp] at h
      have g0 : Gp e 0 n n s (skB tp e s.1, s.2) := Gp.adv (by omega) (by omega) b1.2
      have g1 := rSum_g _ _ b1.2 hp n
      have b3 := skB_r (tp := tp) g1.1.2
      have h' : (if chP tp e 60 60 (skB tp e z.1) ∨ chP tp e 62 62 (skB tp e z.1) then
        (match rSum tp e (skB tp e z.1 + 1, z.2) with
        | .inl x => .inl x
        | .inr z' => .inr (em z' (if chP tp e 60 60 (skB tp e z.1) then 12 else 13) 0))
        else .inl (skB tp e z.1)) = (.inr y : LgR) := h
      split at h'
      · rename_i hc
        have hc1 : skB tp e z.1 < e := by rcases hc with q | q <;> exact q.1
        rcases hq : rSum tp e (skB tp e z.1 + 1, z.2) with f | z2
        · rw [hq] at h'; cases h'
        · rw [hq] at h'
          have g2 : Gp e 1 (n + 1) (n + 1) z (skB tp e z.1 + 1, z.2) := Gp.adv (by omega) (by omega) (by omega)
          have g3 := rSum_g _ _ (by show skB tp e z.1 + 1 ≤ e; omega) hq (n + 1)
          cases h'
          have g4 : Gp e (-1) (n + 1 + 1) (n + 1) z2 (em z2 (if chP tp e 60 60 (skB tp e z.1) then 12 else 13) 0) := Gp.emi g3.1.2 (by split <;> omega) (fun q => by split at q <;> omega) (Or.inr (Or.inr ⟨by split <;> omega, by split <;> omega, by omega, by omega⟩))
          exact ((((g0.trans g1).trans g2).trans g3).trans g4).less (by omega)
      · cases h'
  · rename_i hk
    cases h
    have hlen : skB tp e s.1 < wdB tp e (skB tp e s.1) := by
      rcases Int.lt_or_le (skB tp e s.1) (wdB tp e (skB tp e s.1)) with q | q
      · exact q
      · exfalso
        have eq : wdB tp e (skB tp e s.1) = skB tp e s.1 := by omega
        have nw : ∀ bs : List Int, 0 < bs.length → ¬ isW tp (skB tp e s.1) (wdB tp e (skB tp e s.1)) bs := fun bs hb z => by
          have := z.1
          omega
        refine hk ?_
        have e0 : tagW tp (skB tp e s.1) (wdB tp e (skB tp e s.1)) = -1 := (if_neg (nw _ (by decide))).trans ((if_neg (nw _ (by decide))).trans ((if_neg (nw _ (by decide))).trans rfl))
        omega
    exact Gp.trans (Gp.adv (a := 1) (q := wdB tp e (skB tp e s.1)) (n := n) (by omega) (by omega) (by omega)) (Gp.emi (s := (wdB tp e (skB tp e s.1), s.2)) b2.2 (by omega) (fun q => by omega) (Or.inl ⟨by omega, rfl⟩))
theorem rRow_g {f : LgS → LgR} {w : Nat} {c : Int} (hf : Un e f) (hw : 0 < (txB w).length) (hc : c = 15 ∨ c = 16) : ∀ (t : Nat) (s y : LgS), s.1 ≤ e → rRow tp e f w c t s = .inr y → ∀ n, Gp e 0 (n + 1) (n + 1) s y := by
  intro t
  induction t with
  | zero => intro s y hs h; cases h
  | succ t ih =>
    intro s y hs h n
    have b1 := skB_r (tp := tp) hs
    have b2 := wdB_r (tp := tp) b1.2
    have h' : (if isW tp (skB tp e s.1) (wdB tp e (skB tp e s.1)) (txB w) then (match f (wdB tp e (skB tp e s.1), s.2) with
      | .inl x => .inl x
      | .inr y => rRow tp e f w c t (em y c 0)) else .inr (skB tp e s.1, s.2)) = (.inr y : LgR) := h
    split at h'
    · rename_i hcw
      have hl := hcw.1
      rcases hp : f (wdB tp e (skB tp e s.1), s.2) with x | z
      · rw [hp] at h'; cases h'
      · rw [hp] at h'
        have g1 : Gp e 1 (n + 1) (n + 1) s (wdB tp e (skB tp e s.1), s.2) := Gp.adv (by omega) (by omega) (by omega)
        have g2 := hf _ _ b2.2 hp (n + 1)
        have g3 : Gp e (-1) (n + 1 + 1) (n + 1) z (em z c 0) := Gp.emi g2.1.2 (by omega) (fun q => by omega) (Or.inr (Or.inr ⟨by omega, by omega, by omega, by omega⟩))
        exact Gp.trans (a := 0) (b := 0) (((g1.trans g2).trans g3).less (by omega)) (ih _ _ g3.1.2 h' n)
    · cases h'
      exact Gp.adv (by omega) (by omega) b1.2
theorem rAll_g {f : LgS → LgR} (hf : Un e f) : Un e (rAll tp e f) := by
  intro s y hs h n
  unfold rAll at h
  rcases hp : f s with x | z
  · rw [hp] at h; cases h
  · rw [hp] at h
    have g1 := hf _ _ hs hp n
    exact Gp.trans (a := 0) (b := 0) g1 (rRow_g hf (by decide) (Or.inl rfl) _ _ _ g1.1.2 h n)
theorem rCnd_g {f : LgS → LgR} (hf : Un e f) : Un e (rCnd tp e f) := by
  intro s y hs h n
  unfold rCnd at h
  rcases hp : rAll tp e f s with x | z
  · rw [hp] at h; cases h
  · rw [hp] at h
    have g1 := rAll_g hf _ _ hs hp n
    exact Gp.trans (a := 0) (b := 0) g1 (rRow_g (rAll_g hf) (by decide) (Or.inr rfl) _ _ _ g1.1.2 h n)
theorem rAtm_s {t : Nat} {s : LgS} : rAtm tp e (t + 1) s = (if chP tp e 40 40 (skB tp e s.1) then
      match rCnd tp e (rAtm tp e t) (skB tp e s.1 + 1, s.2) with
      | .inl x => .inl x
      | .inr y => if chP tp e 41 41 (skB tp e y.1) then .inr (skB tp e y.1 + 1, y.2) else .inl (skB tp e y.1)
    else if isW tp (skB tp e s.1) (wdB tp e (skB tp e s.1)) (txB 31) then
      match rAtm tp e t (wdB tp e (skB tp e s.1), s.2) with
      | .inl x => .inl x
      | .inr y => .inr (em y 14 0)
    else rCmp tp e (skB tp e s.1, s.2)) := rfl
theorem rAtm_g : ∀ t : Nat, Un e (rAtm tp e t) := by
  intro t
  induction t with
  | zero =>
    intro s y hs h n
    have b1 := skB_r (tp := tp) hs
    have h' : (if chP tp e 40 40 (skB tp e s.1) ∨ isW tp (skB tp e s.1) (wdB tp e (skB tp e s.1)) (txB 31) then .inl (skB tp e s.1) else rCmp tp e (skB tp e s.1, s.2)) = (.inr y : LgR) := h
    split at h'
    · cases h'
    · exact Gp.trans (a := 0) (b := 0) (Gp.adv (by omega) (by omega) b1.2) (rCmp_g _ _ b1.2 h' n)
  | succ t ih =>
    intro s y hs h n
    have b1 := skB_r (tp := tp) hs
    have b2 := wdB_r (tp := tp) b1.2
    rw [rAtm_s] at h
    split at h
    · rename_i hc
      have hc1 := hc.1
      rcases hp : rCnd tp e (rAtm tp e t) (skB tp e s.1 + 1, s.2) with x | z
      · rw [hp] at h; cases h
      · rw [hp] at h
        have g1 : Gp e 1 n n s (skB tp e s.1 + 1, s.2) := Gp.adv (by omega) (by omega) (by omega)
        have g2 := rCnd_g ih _ _ (by show skB tp e s.1 + 1 ≤ e; omega) hp n
        have b3 := skB_r (tp := tp) g2.1.2
        have h' : (if chP tp e 41 41 (skB tp e z.1) then .inr (skB tp e z.1 + 1, z.2) else .inl (skB tp e z.1)) = (.inr y : LgR) := h
        split at h'
        · rename_i hd
          have hd1 := hd.1
          cases h'
          exact ((g1.trans g2).trans (Gp.adv (a := 1) (q := skB tp e z.1 + 1) (by omega) (by omega) (by omega))).less (by omega)
        · cases h'
    · split at h
      · rename_i hw
        have hl := hw.1
        have hl2 : (0 : Int) < ((txB 31).length : Int) := by decide
        rcases hp : rAtm tp e t (wdB tp e (skB tp e s.1), s.2) with x | z
        · rw [hp] at h; cases h
        · rw [hp] at h
          cases h
          have g1 : Gp e 1 n n s (wdB tp e (skB tp e s.1), s.2) := Gp.adv (by omega) (by omega) (by omega)
          have g2 := ih _ _ b2.2 hp n
          exact ((g1.trans g2).trans (Gp.emi (n' := n + 1) g2.1.2 (by omega) (fun q => by omega) (Or.inr (Or.inl ⟨rfl, by omega, rfl⟩)))).less (by omega)
      · exact Gp.trans (a := 0) (b := 0) (Gp.adv (by omega) (by omega) b1.2) (rCmp_g _ _ b1.2 h n)
end RD
