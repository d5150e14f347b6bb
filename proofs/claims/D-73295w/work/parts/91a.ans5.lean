/-! pairs: pure -/
def clrI (s k : Int) : Int := s - bitI s k * pw k
/-- a pair's (or a single one's) gain with what is left -/
noncomputable def cdP (v : Vw) (T : Int → Int) (s o : Int) : Int :=
  if o = -1 then T (clrI s (lo0 s)) else @ite Int (bitI (clrI s (lo0 s)) o = 1 ∧ ¬ clashV v (lo0 s) o) (Classical.propDecidable _) (opN v (lo0 s) + opN v o + T (clrI (clrI s (lo0 s)) o)) (-1)
noncomputable def mxP (v : Vw) (T : Int → Int) (s : Int) : Nat → Int
  | 0 => 0
  | t + 1 => if mxP v T s t ≤ cdP v T s ((t : Int) - 1) then cdP v T s ((t : Int) - 1) else mxP v T s t
noncomputable def prT (v : Vw) : Nat → Int → Int
  | 0 => fun _ => 0
  | t + 1 => fun k => if k = ((t + 1 : Nat) : Int) then mxP v (prT v t) k ((v 0).toNat + 1) else prT v t k
noncomputable def tT (v : Vw) (k : Int) : Int := prT v k.toNat k
theorem prT_s {v : Vw} {t : Nat} {k : Int} : prT v (t + 1) k = if k = ((t + 1 : Nat) : Int) then mxP v (prT v t) k ((v 0).toNat + 1) else prT v t k := rfl
theorem mxP_s {v : Vw} {T : Int → Int} {s : Int} {t : Nat} : mxP v T s (t + 1) = if mxP v T s t ≤ cdP v T s ((t : Int) - 1) then cdP v T s ((t : Int) - 1) else mxP v T s t := rfl
theorem prT_tT {v : Vw} : ∀ {t : Nat} {k : Int}, 0 ≤ k → k ≤ t → prT v t k = tT v k := by
  intro t
  induction t with
  | zero => intro k h0 h1; unfold tT; rw [show k.toNat = 0 by omega]
  | succ t ih =>
    intro k h0 h1
    by_cases e : k = ((t + 1 : Nat) : Int)
    · unfold tT; rw [show k.toNat = t + 1 by omega]
    · rw [prT_s, if_neg e]
      exact ih h0 (by omega)
theorem lo0_b0 : ∀ x : Fin 256, x.val = 0 ∨ (bitI (x.val : Int) (lo0 (x.val : Int)) = 1) := by decide +kernel
theorem clr_b0 : ∀ x : Fin 256, ∀ k : Fin 8, bitI (x.val : Int) (k.val : Int) = 0 ∨ (0 ≤ clrI (x.val : Int) (k.val : Int) ∧ clrI (x.val : Int) (k.val : Int) < (x.val : Int)) := by decide +kernel
theorem clr_b1 : ∀ k : Fin 8, ∀ j : Fin 8, ∀ x : Fin 256, bitI (clrI (x.val : Int) (k.val : Int)) (j.val : Int) = if j.val = k.val then 0 else bitI (x.val : Int) (j.val : Int) := by decide +kernel
theorem fin8 {x : Int} (h : 0 ≤ x ∧ x < 8) : ∃ k : Fin 8, x = (k.val : Int) := ⟨⟨x.toNat, by omega⟩, by show x = ((x.toNat : Nat) : Int); omega⟩
theorem fin256 {x : Int} (h : 0 ≤ x ∧ x < 256) : ∃ k : Fin 256, x = (k.val : Int) := ⟨⟨x.toNat, by omega⟩, by show x = ((x.toNat : Nat) : Int); omega⟩
theorem lo0_b {s : Int} (h : 0 < s ∧ s < 256) : bitI s (lo0 s) = 1 := by
  obtain ⟨x, e⟩ := fin256 (x := s) ⟨by omega, h.2⟩
  subst e
  rcases lo0_b0 x with q | q
  · omega
  · exact q
theorem clr_r {s k : Int} (h : 0 ≤ s ∧ s < 256) (hk : 0 ≤ k ∧ k < 8) (hb : bitI s k = 1) : 0 ≤ clrI s k ∧ clrI s k < s := by
  obtain ⟨x, e⟩ := fin256 h
  obtain ⟨j, e2⟩ := fin8 hk
  subst e; subst e2
  rcases clr_b0 x j with q | q
  · rw [hb] at q; omega
  · exact q
theorem clr_b {s k j : Int} (h : 0 ≤ s ∧ s < 256) (hk : 0 ≤ k ∧ k < 8) (hj : 0 ≤ j ∧ j < 8) : bitI (clrI s k) j = if j = k then 0 else bitI s j := by
  obtain ⟨x, e⟩ := fin256 h
  obtain ⟨k', e2⟩ := fin8 hk
  obtain ⟨j', e3⟩ := fin8 hj
  subst e; subst e2; subst e3
  rw [clr_b1 k' j' x]
  by_cases q : j'.val = k'.val
  · rw [if_pos q, if_pos (by omega)]
  · rw [if_neg q, if_neg (by omega)]
/-- a set's highest is not above the ops -/
theorem lo_lt0 : ∀ n : Fin 9, ∀ x : Fin 256, x.val = 0 ∨ 2 ^ n.val ≤ x.val ∨ lo0 (x.val : Int) < (n.val : Int) := by decide +kernel
theorem lo_lt {n s : Int} (hn : 0 ≤ n ∧ n ≤ 8) (hs : 0 < s ∧ s < 256) (h : s < pw n) : lo0 s < n := by
  obtain ⟨x, e⟩ := fin256 (x := s) (by omega)
  subst e
  have q := lo_lt0 ⟨n.toNat, by omega⟩ x
  simp only [] at q
  unfold pw at h
  rw [show ((n.toNat : Nat) : Int) = n by omega] at q
  rcases q with q | q | q
  · omega
  · exfalso
    have : ((x.val : Nat) : Int) < ((2 ^ n.toNat : Nat) : Int) := h
    omega
  · exact q
theorem cdP_eq {v : Vw} {T T' : Int → Int} {s o : Int} (hs : 0 < s ∧ s < 256) (ho : -1 ≤ o ∧ o < 8) (h : ∀ j, 0 ≤ j → j < s → T j = T' j) : cdP v T s o = cdP v T' s o := by
  have hl := lo0_r (x := s) (by omega) (by omega)
  have r1 := clr_r (s := s) (by omega) hl (lo0_b hs)
  unfold cdP
  by_cases e : o = -1
  · rw [if_pos e, if_pos e, h _ r1.1 r1.2]
  · rw [if_neg e, if_neg e]
    by_cases q : bitI (clrI s (lo0 s)) o = 1 ∧ ¬ clashV v (lo0 s) o
    · have r2 := clr_r (s := clrI s (lo0 s)) (by omega) (k := o) (by omega) q.1
      rw [if_pos q, if_pos q, h _ r2.1 (by omega)]
    · rw [if_neg q, if_neg q]
theorem mxP_eq {v : Vw} {T T' : Int → Int} {s : Int} (hs : 0 < s ∧ s < 256) (h : ∀ j, 0 ≤ j → j < s → T j = T' j) : ∀ {t : Nat}, t ≤ 9 → mxP v T s t = mxP v T' s t := by
  intro t
  induction t with
  | zero => intro _; rfl
  | succ t ih =>
    intro ht
    rw [mxP_s, mxP_s, ih (by omega), cdP_eq hs (by omega) h]
theorem tT_0 {v : Vw} : tT v 0 = 0 := rfl
theorem tT_e {v : Vw} {s : Int} (h0 : v 0 ≤ 8) (hs : 0 < s ∧ s < 256) : tT v s = mxP v (tT v) s ((v 0).toNat + 1) := by
  unfold tT
  rw [show s.toNat = (s.toNat - 1) + 1 by omega, prT_s, if_pos (by omega)]
  exact mxP_eq hs (fun j j0 j1 => prT_tT j0 (by omega)) (by omega)
theorem mxP_ge {v : Vw} {T : Int → Int} {s : Int} : ∀ {t : Nat}, 0 ≤ mxP v T s t ∧ (mxP v T s t = 0 ∨ ∃ o : Nat, o < t ∧ cdP v T s ((o : Int) - 1) = mxP v T s t) ∧ ∀ o : Nat, o < t → cdP v T s ((o : Int) - 1) ≤ mxP v T s t := by
  intro t
  induction t with
  | zero => exact ⟨Int.le_refl 0, Or.inl rfl, fun o h => by omega⟩
  | succ t ih =>
    rw [mxP_s]
    by_cases q : mxP v T s t ≤ cdP v T s ((t : Int) - 1)
    · rw [if_pos q]
      refine ⟨by omega, Or.inr ⟨t, by omega, rfl⟩, fun o h => ?_⟩
      by_cases e : o = t
      · subst e; omega
      · have := ih.2.2 o (by omega)
        omega
    · rw [if_neg q]
      refine ⟨ih.1, ?_, fun o h => ?_⟩
      · rcases ih.2.1 with a | ⟨o, a, b⟩
        · exact Or.inl a
        · exact Or.inr ⟨o, by omega, b⟩
      · by_cases e : o = t
        · subst e; omega
        · exact ih.2.2 o (by omega)
theorem tT_r {v : Vw} (hv : okB v) : ∀ {n : Nat} {s : Int}, s < n → 0 ≤ s → s < 256 → s < pw (v 0) → 0 ≤ tT v s ∧ tT v s ≤ 6 * s := by
  intro n
  induction n with
  | zero => intro s h1 h2; omega
  | succ n ih =>
    intro s h1 h2 h3 h4
    by_cases e : s = 0
    · subst e; rw [tT_0]; omega
    have hl := lo0_r (x := s) (by omega) (by omega)
    have hb := lo0_b (s := s) (by omega)
    have r1 := clr_r (s := s) (by omega) hl hb
    have hv0 := hv.1
    have i1 := ih (s := clrI s (lo0 s)) (by omega) (by omega) (by omega) (by omega)
    rw [tT_e (by omega) (by omega)]
    have g := mxP_ge (v := v) (T := tT v) (s := s) (t := (v 0).toNat + 1)
    refine ⟨g.1, ?_⟩
    rcases g.2.1 with a | ⟨o, a, b⟩
    · omega
    rw [← b]
    unfold cdP
    by_cases e : (o : Int) - 1 = -1
    · rw [if_pos e]; omega
    rw [if_neg e]
    by_cases q : bitI (clrI s (lo0 s)) ((o : Int) - 1) = 1 ∧ ¬ clashV v (lo0 s) ((o : Int) - 1)
    · rw [if_pos q]
      have r2 := clr_r (s := clrI s (lo0 s)) (by omega) (k := (o : Int) - 1) (by omega) q.1
      have i2 := ih (s := clrI (clrI s (lo0 s)) ((o : Int) - 1)) (by omega) (by omega) (by omega) (by omega)
      have n1 := (hv.op (lo0 s) hl.1 (lo_lt hv0 (by omega) h4)).1
      have n2 := (hv.op ((o : Int) - 1) (by omega) (by omega)).1
      omega
    · rw [if_neg q]; omega
/-- the first that the best has -/
noncomputable def srP (v : Vw) (s : Int) : Nat → Int → Int
  | 0, o => o
  | t + 1, o => if cdP v (tT v) s o = tT v s then o else srP v s t (o + 1)
noncomputable def paO (v : Vw) (s : Int) : Int := srP v s 9 (-1)
theorem srP_e {v : Vw} {s o : Int} (h : cdP v (tT v) s o = tT v s) : ∀ (t : Nat) (o0 : Int), o0 ≤ o → o < o0 + t → (∀ o', o0 ≤ o' → o' < o → ¬ cdP v (tT v) s o' = tT v s) → srP v s t o0 = o := by
  intro t
  induction t with
  | zero => intro o0 a b; omega
  | succ t ih =>
    intro o0 a b hn
    show (if cdP v (tT v) s o0 = tT v s then o0 else srP v s t (o0 + 1)) = o
    by_cases e : o0 = o
    · subst e; rw [if_pos h]
    · rw [if_neg (hn o0 (by omega) (by omega))]
      exact ih (o0 + 1) (by omega) (by omega) fun o' c d => hn o' (by omega) d
theorem paO_e {v : Vw} {s o : Int} (h : cdP v (tT v) s o = tT v s) (ho : -1 ≤ o ∧ o < 8) (hn : ∀ o', -1 ≤ o' → o' < o → ¬ cdP v (tT v) s o' = tT v s) : paO v s = o := srP_e h 9 (-1) ho.1 (by omega) hn
theorem paO_x {v : Vw} (hv : okB v) {s : Int} (hs : 0 < s ∧ s < 256) (h4 : s < pw (v 0)) : ∃ o, (-1 ≤ o ∧ o < v 0) ∧ cdP v (tT v) s o = tT v s := by
  have hv0 := hv.1
  have g := mxP_ge (v := v) (T := tT v) (s := s) (t := (v 0).toNat + 1)
  rw [tT_e (by omega) hs]
  rcases g.2.1 with a | ⟨o, a, b⟩
  · refine ⟨-1, by omega, ?_⟩
    have q := g.2.2 0 (by omega)
    have hl := lo0_r (x := s) (by omega) (by omega)
    have r1 := clr_r (s := s) (by omega) hl (lo0_b hs)
    have i1 := tT_r hv (n := 256) (s := clrI s (lo0 s)) (by omega) (by omega) (by omega) (by omega)
    have e : cdP v (tT v) s (-1) = tT v (clrI s (lo0 s)) := if_pos rfl
    rw [show (((0 : Nat) : Int) - 1) = -1 by omega] at q
    omega
  · exact ⟨(o : Int) - 1, by omega, b⟩
noncomputable def nxP (s o : Int) : Int := if o = -1 then clrI s (lo0 s) else clrI (clrI s (lo0 s)) o
noncomputable def pwP (v : Vw) (p : Int) : Nat → Int → Int
  | 0, _ => -1
  | t + 1, s => if lo0 s = p then paO v s else if paO v s = p then lo0 s else pwP v p t (nxP s (paO v s))
noncomputable def pairsAns (v : Vw) (p : Int) : Int := if p = -1 then tT v (pw (v 0) - 1) else pwP v p 256 (pw (v 0) - 1)
theorem pwP_s {v : Vw} {p s : Int} {t : Nat} : pwP v p (t + 1) s = if lo0 s = p then paO v s else if paO v s = p then lo0 s else pwP v p t (nxP s (paO v s)) := rfl
theorem pm1_0 : ∀ n : Fin 9, ∀ k : Fin 8, (n.val : Nat) ≤ k.val ∨ bitI (pw (n.val : Int) - 1) (k.val : Int) = 1 := by decide +kernel
theorem pm1 {n k : Int} (hn : 0 ≤ n ∧ n ≤ 8) (hk : 0 ≤ k ∧ k < n) : bitI (pw n - 1) k = 1 := by
  have h := pm1_0 ⟨n.toNat, by omega⟩ ⟨k.toNat, by omega⟩
  simp only [] at h
  rw [show ((n.toNat : Nat) : Int) = n by omega, show ((k.toNat : Nat) : Int) = k by omega] at h
  rcases h with h | h
  · omega
  · exact h
