/-! READING: what is read is a bench, a law (pure) -/
/-- one cell of a bench is another one of its range -/
theorem okB_us {v : Vw} {i x : Int} (h : okB v) (hi : (i = 1 ∧ 0 ≤ x ∧ x ≤ 12) ∨ (i = 4 ∧ 0 ≤ x ∧ x ≤ 9) ∨ (i = 5 ∧ (x = 0 ∨ x = 2 ∨ x = 4 ∨ x = 6)) ∨ (i = 6 ∧ 0 ≤ x ∧ x ≤ 7) ∨ (i = 7 ∧ 0 ≤ x ∧ x ≤ 100) ∨ (i = 9 ∧ 0 ≤ x ∧ x ≤ 9999) ∨ i = 11 ∨ ((12 ≤ i ∧ i < 22) ∧ 0 ≤ x ∧ x < v 0) ∨ ((22 ≤ i ∧ i < 30) ∧ 0 ≤ x ∧ x < 4) ∨ 102 ≤ i) : okB (us v i x) := by
  have hv8 := h.n8
  have hv0 := h.1.1
  have e : ∀ k, us v i x k = if k = i then x else v k := fun k => rfl
  obtain ⟨h1, h2, h3, h4, h5, h6, h7, h8, h9, h10, h11, h12, h13, h14⟩ := h
  refine ⟨by rw [e, if_neg (by omega)]; exact h1, by rw [e]; split <;> omega, by rw [e, if_neg (by omega)]; exact h3, by rw [e, if_neg (by omega)]; exact h4, by rw [e]; split <;> omega, by rw [e]; split <;> omega, by rw [e]; split <;> omega, by rw [e]; split <;> omega, by rw [e, if_neg (by omega)]; exact h9, by rw [e]; split <;> omega, by rw [e, if_neg (by omega)]; exact h11, fun k a b => ?_, fun k a b => ?_, fun p a b => ?_⟩
  · rw [e, if_neg (by omega)] at b
    have := h12 k a b
    rw [e (12 + k), e 0, if_neg (c := (0 : Int) = i) (by omega)]
    split <;> omega
  · have := h13 k a b
    rw [e]; split <;> omega
  · rw [e, if_neg (by omega)] at b
    obtain ⟨k1, k2, k3, k4⟩ := h14 p a b
    have eN : opN (us v i x) p = opN v p := us_n (by omega)
    refine ⟨by rw [eN]; exact k1, by rw [show opG (us v i x) p = opG v p from us_n (by omega)]; exact k2, by rw [show opP (us v i x) p = opP v p from us_n (by omega)]; exact k3, fun j c1 c2 => ?_⟩
    rw [eN] at c2
    rw [show opK (us v i x) p j = opK v p j from us_n (by omega), show opX (us v i x) p j = opX v p j from us_n (by omega)]
    exact k4 j c1 c2
theorem okB_uf {v : Vw} {i x q : Int} (h : okB v) (hq : 0 ≤ q ∧ q < v 0) (hi : i = 31 + 9 * q ∨ i = 32 + 9 * q) (hx : x = 0 ∨ x = 1) : okB (us v i x) := by
  have hv8 := h.n8
  have e : ∀ k, us v i x k = if k = i then x else v k := fun k => rfl
  obtain ⟨h1, h2, h3, h4, h5, h6, h7, h8, h9, h10, h11, h12, h13, h14⟩ := h
  refine ⟨by rw [e, if_neg (by omega)]; exact h1, by rw [e, if_neg (by omega)]; exact h2, by rw [e, if_neg (by omega)]; exact h3, by rw [e, if_neg (by omega)]; exact h4, by rw [e, if_neg (by omega)]; exact h5, by rw [e, if_neg (by omega)]; exact h6, by rw [e, if_neg (by omega)]; exact h7, by rw [e, if_neg (by omega)]; exact h8, by rw [e, if_neg (by omega)]; exact h9, by rw [e, if_neg (by omega)]; exact h10, by rw [e, if_neg (by omega)]; exact h11, fun k a b => ?_, fun k a b => ?_, fun p a b => ?_⟩
  · rw [e, if_neg (by omega)] at b
    rw [e (12 + k), if_neg (by omega), e 0, if_neg (by omega)]
    exact h12 k a b
  · rw [e, if_neg (by omega)]; exact h13 k a b
  · rw [e, if_neg (by omega)] at b
    obtain ⟨k1, k2, k3, k4⟩ := h14 p a b
    have eN : opN (us v i x) p = opN v p := us_n (by omega)
    refine ⟨by rw [eN]; exact k1, ?_, ?_, fun j c1 c2 => ?_⟩
    · show us v i x (31 + 9 * p) = 0 ∨ us v i x (31 + 9 * p) = 1
      rw [e]
      split
      · exact hx
      · exact k2
    · show us v i x (32 + 9 * p) = 0 ∨ us v i x (32 + 9 * p) = 1
      rw [e]
      split
      · exact hx
      · exact k3
    · rw [eN] at c2
      rw [show opK (us v i x) p j = opK v p j from us_n (by omega), show opX (us v i x) p j = opX v p j from us_n (by omega)]
      exact k4 j c1 c2
theorem okB.uf {v : Vw} {i x q : Int} (h : okB v) (hq : 0 ≤ q ∧ q < v 0) (hi : i = 31 + 9 * q ∨ i = 32 + 9 * q) (hx : x = 0 ∨ x = 1) : okB (us v i x) := okB_uf h hq hi hx
theorem okB.us {v : Vw} {i x : Int} (h : okB v) (hi : (i = 1 ∧ 0 ≤ x ∧ x ≤ 12) ∨ (i = 4 ∧ 0 ≤ x ∧ x ≤ 9) ∨ (i = 5 ∧ (x = 0 ∨ x = 2 ∨ x = 4 ∨ x = 6)) ∨ (i = 6 ∧ 0 ≤ x ∧ x ≤ 7) ∨ (i = 7 ∧ 0 ≤ x ∧ x ≤ 100) ∨ (i = 9 ∧ 0 ≤ x ∧ x ≤ 9999) ∨ i = 11 ∨ ((12 ≤ i ∧ i < 22) ∧ 0 ≤ x ∧ x < v 0) ∨ ((22 ≤ i ∧ i < 30) ∧ 0 ≤ x ∧ x < 4) ∨ 102 ≤ i) : okB (us v i x) := okB_us h hi
theorem kndW_r {tp : Int → Int} {b q : Int} : kndW tp b q = -1 ∨ 0 ≤ kndW tp b q ∧ kndW tp b q ≤ 10 := by
  have h := wrF_r (tp := tp) (b := b) (q := q) (i := 10) 11 0
  show wrF tp b q 10 11 0 = -1 ∨ 0 ≤ wrF tp b q 10 11 0 ∧ wrF tp b q 10 11 0 ≤ 10
  omega
/-- cells behind the last operation don't matter -/
theorem okB.hi {v v' : Vw} (h : okB v) (he : ∀ k, 0 ≤ k → k < 30 + 9 * v 0 → v' k = v k) : okB v' := by
  have hv8 := h.n8
  have hv0 := h.1.1
  obtain ⟨h1, h2, h3, h4, h5, h6, h7, h8, h9, h10, h11, h12, h13, h14⟩ := h
  refine ⟨by rw [he 0 (by omega) (by omega)]; exact h1, by rw [he 1 (by omega) (by omega)]; exact h2, by rw [he 2 (by omega) (by omega)]; exact h3, by rw [he 3 (by omega) (by omega)]; exact h4, by rw [he 4 (by omega) (by omega)]; exact h5, by rw [he 5 (by omega) (by omega)]; exact h6, by rw [he 6 (by omega) (by omega)]; exact h7, by rw [he 7 (by omega) (by omega)]; exact h8, by rw [he 8 (by omega) (by omega)]; exact h9, by rw [he 9 (by omega) (by omega)]; exact h10, by rw [he 10 (by omega) (by omega)]; exact h11, fun k a b => ?_, fun k a b => ?_, fun k a b => ?_⟩
  · rw [he 3 (by omega) (by omega)] at b; rw [he _ (by omega) (by omega), he 0 (by omega) (by omega)]; exact h12 k a b
  · rw [he _ (by omega) (by omega)]; exact h13 k a b
  · rw [he 0 (by omega) (by omega)] at b
    obtain ⟨k1, k2, k3, k4⟩ := h14 k a b
    have eN : opN v' k = opN v k := he _ (by omega) (by omega)
    refine ⟨by rw [eN]; exact k1, by rw [show opG v' k = opG v k from he _ (by omega) (by omega)]; exact k2, by rw [show opP v' k = opP v k from he _ (by omega) (by omega)]; exact k3, fun i c1 c2 => ?_⟩
    rw [eN] at c2
    rw [show opK v' k i = opK v k i from he _ (by omega) (by omega), show opX v' k i = opX v k i from he _ (by omega) (by omega)]
    exact k4 i c1 c2
theorem micU_ok {v : Vw} {o k x : Int} (h : okOp v o) (hn : ¬ opN v o = 3) (hk : 0 ≤ k ∧ k ≤ 10) (hx : 0 ≤ x ∧ x < 8) : okOp (micU v o k x) o := by
  obtain ⟨h1, h2, h3, h4⟩ := h
  have eN : opN (micU v o k x) o = opN v o + 1 := us_e rfl
  refine ⟨by rw [eN]; omega, ?_, ?_, fun i a b => ?_⟩
  · rw [show opG (micU v o k x) o = opG v o from (us_n (by omega)).trans ((us_n (by omega)).trans (us_n (by omega)))]; exact h2
  · rw [show opP (micU v o k x) o = opP v o from (us_n (by omega)).trans ((us_n (by omega)).trans (us_n (by omega)))]; exact h3
  · rw [eN] at b
    by_cases q : i = opN v o
    · rw [show opK (micU v o k x) o i = k from (us_n (by omega)).trans ((us_n (by omega)).trans (us_e (by omega))), show opX (micU v o k x) o i = x from (us_n (by omega)).trans (us_e (by omega))]
      exact ⟨hk, hx⟩
    · rw [show opK (micU v o k x) o i = opK v o i from (us_n (by omega)).trans ((us_n (by omega)).trans (us_n (by omega))), show opX (micU v o k x) o i = opX v o i from (us_n (by omega)).trans ((us_n (by omega)).trans (us_n (by omega)))]
      exact h4 i a (by omega)
theorem micU_o {v : Vw} {o k x j : Int} (hn : 0 ≤ opN v o ∧ opN v o < 3) (hj : ¬ (30 + 9 * o ≤ j ∧ j < 39 + 9 * o)) : micU v o k x j = v j := (us_n (by omega)).trans ((us_n (by omega)).trans (us_n (by omega)))
section RK
variable {tp : Int → Int} {e : Int}
theorem rMic_ok {o : Int} : ∀ (t : Nat) (p : Int) (v : Vw) (y : Int × Vw), p ≤ e → rMic tp e o t p v = .inr y → okOp v o → okOp y.2 o ∧ ∀ j, ¬ (30 + 9 * o ≤ j ∧ j < 39 + 9 * o) → y.2 j = v j := by
  intro t
  induction t with
  | zero => intro p v y hp h; cases h
  | succ t ih =>
    intro p v y hp h ho
    rw [rMic_s] at h
    have b1 := skB_r (tp := tp) hp
    have b2 := wdB_r (tp := tp) b1.2
    have hk := kndW_r (tp := tp) (b := skB tp e p) (q := wdB tp e (skB tp e p))
    split at h
    · cases h
      exact ⟨ho, fun j _ => rfl⟩
    · rename_i k0
      split at h
      · cases h
      · rename_i n3
        have ho1 := ho.1
        split at h
        · rcases hn : numP tp e (wdB tp e (skB tp e p)) 0 7 with _ | ⟨y1, z⟩
          · rw [hn] at h; cases h
          · rw [hn] at h
            have hr := numP_r b2.2 hn
            obtain ⟨a, b⟩ := ih _ _ _ hr.2.1 h (micU_ok ho n3 (by omega) (by show 0 ≤ z ∧ z < 8; omega))
            exact ⟨a, fun j q => (b j q).trans (micU_o (by omega) q)⟩
        · obtain ⟨a, b⟩ := ih _ _ _ b2.2 h (micU_ok ho n3 (by omega) (by omega))
          exact ⟨a, fun j q => (b j q).trans (micU_o (by omega) q)⟩
/-- what reading of a line of a bench keeps -/
def keepV (v v' : Vw) : Prop := ∀ k, k = 1 ∨ k = 2 ∨ k = 8 ∨ k = 10 ∨ k = 11 ∨ 102 ≤ k → v' k = v k
theorem keepV.rfl {v : Vw} : keepV v v := fun _ _ => _root_.rfl
theorem keepV.trans {a b c : Vw} (h : keepV a b) (h' : keepV b c) : keepV a c := fun k q => (h' k q).trans (h k q)
theorem keepV.us {v v' : Vw} {i x : Int} (h : keepV v v') (hi : ¬ (i = 1 ∨ i = 2 ∨ i = 8 ∨ i = 10 ∨ i = 11 ∨ 102 ≤ i)) : keepV v (us v' i x) := fun k q => (us_n (by omega)).trans (h k q)
theorem rOp_ok {b p : Int} {v : Vw} {y : Int × Vw} (hp : p ≤ e) (h : rOp tp e b p v = .inr y) (hv : okB v) : okB y.2 ∧ keepV v y.2 := by
  have hv8 := hv.n8
  have hv0 := hv.1.1
  unfold rOp at h
  split at h
  · cases h
  · rename_i n8
    split at h
    · cases h
    · have b1 := skB_r (tp := tp) hp
      have b2 := wdB_r (tp := tp) b1.2
      rcases hm : rMic tp e (v 0) 5 (opW tp e (v 0) p v).1 (opW tp e (v 0) p v).2 with x | z
      · rw [hm] at h; cases h
      · rw [hm] at h
        cases h
        have hw : (opW tp e (v 0) p v).1 ≤ e ∧ ∃ g, (g = 0 ∨ g = 1) ∧ (opW tp e (v 0) p v).2 = us (zopV v (v 0)) (31 + 9 * v 0) g := by
          unfold opW
          split
          · exact ⟨b2.2, 1, Or.inr rfl, rfl⟩
          · exact ⟨b1.2, 0, Or.inl rfl, rfl⟩
        obtain ⟨hw1, g, hg, hw2⟩ := hw
        have z0 : ∀ k, 30 + 9 * v 0 ≤ k → k < 39 + 9 * v 0 → zopV v (v 0) k = 0 := fun k a c => if_pos ⟨a, c⟩
        have ok0 : okOp (us (zopV v (v 0)) (31 + 9 * v 0) g) (v 0) := by
          have eN : opN (us (zopV v (v 0)) (31 + 9 * v 0) g) (v 0) = 0 := (us_n (by omega)).trans (z0 _ (by omega) (by omega))
          refine ⟨by rw [eN]; omega, ?_, ?_, fun i a c => ?_⟩
          · rw [show opG (us (zopV v (v 0)) (31 + 9 * v 0) g) (v 0) = g from us_e rfl]; exact hg
          · rw [show opP (us (zopV v (v 0)) (31 + 9 * v 0) g) (v 0) = 0 from (us_n (by omega)).trans (z0 _ (by omega) (by omega))]; exact Or.inl rfl
          · rw [eN] at c; omega
        rw [hw2] at hm
        obtain ⟨r1, r2⟩ := rMic_ok 5 _ _ _ hw1 hm ok0
        have e0 : ∀ j, ¬ (30 + 9 * v 0 ≤ j ∧ j < 39 + 9 * v 0) → z.2 j = v j := fun j q => (r2 j q).trans ((us_n (by omega)).trans (if_neg q))
        have hz : okB z.2 := hv.hi fun k a q => e0 k (by omega)
        have ez : z.2 0 = v 0 := e0 0 (by omega)
        dsimp only
        refine ⟨?_, fun k q => (us_n (by omega)).trans (e0 k (by omega))⟩
        have eu : ∀ k, ¬ k = 0 → us z.2 0 (z.2 0 + 1) k = z.2 k := fun k q => us_n q
        have eu0 : us z.2 0 (z.2 0 + 1) 0 = z.2 0 + 1 := us_e rfl
        obtain ⟨h1, h2, h3, h4, h5, h6, h7, h8, h9, h10, h11, h12, h13, h14⟩ := hz
        refine ⟨?_, by rw [eu _ (by omega)]; exact h2, by rw [eu _ (by omega)]; exact h3, by rw [eu _ (by omega)]; exact h4, by rw [eu _ (by omega)]; exact h5, by rw [eu _ (by omega)]; exact h6, by rw [eu _ (by omega)]; exact h7, by rw [eu _ (by omega)]; exact h8, by rw [eu _ (by omega)]; exact h9, by rw [eu _ (by omega)]; exact h10, by rw [eu _ (by omega)]; exact h11, fun k a c => ?_, fun k a c => ?_, fun k a c => ?_⟩
        · rw [eu0]; omega
        · rw [eu _ (by omega)] at c
          have := h12 k a c
          rw [eu0, eu _ (by omega)]; omega
        · rw [eu _ (by omega)]; exact h13 k a c
        · rw [eu0, ez] at c
          have hk : okOp z.2 k := by
            by_cases q : k = v 0
            · rw [q]; exact r1
            · exact h14 k a (by omega)
          obtain ⟨k1, k2, k3, k4⟩ := hk
          have eN : opN (us z.2 0 (z.2 0 + 1)) k = opN z.2 k := us_n (by omega)
          refine ⟨by rw [eN]; exact k1, by rw [show opG (us z.2 0 (z.2 0 + 1)) k = opG z.2 k from us_n (by omega)]; exact k2, by rw [show opP (us z.2 0 (z.2 0 + 1)) k = opP z.2 k from us_n (by omega)]; exact k3, fun i c1 c2 => ?_⟩
          rw [eN] at c2
          rw [show opK (us z.2 0 (z.2 0 + 1)) k i = opK z.2 k i from us_n (by omega), show opX (us z.2 0 (z.2 0 + 1)) k i = opX z.2 k i from us_n (by omega)]
          exact k4 i c1 c2
theorem rPrg_ok : ∀ (t : Nat) (p n : Int) (v : Vw) (y : Int × Vw), p ≤ e → rPrg tp e t p n v = .inr y → okB v → 0 ≤ n ∧ n ≤ 10 → (∀ k, 0 ≤ k → k < n → 0 ≤ v (12 + k) ∧ v (12 + k) < v 0) → okB y.2 ∧ keepV v y.2 := by
  intro t
  induction t with
  | zero => intro p n v y hp h; cases h
  | succ t ih =>
    intro p n v y hp h hv hn hk
    rw [rPrg_s] at h
    have b1 := skB_r (tp := tp) hp
    split at h
    · rcases hq : numP tp e p 0 (v 0 - 1) with _ | ⟨y1, z⟩
      · rw [hq] at h; cases h
      · rw [hq] at h
        have hr := numP_r hp hq
        dsimp only at h
        split at h
        · rename_i n10
          have e0 : us v (12 + n) z 0 = v 0 := us_n (by omega)
          obtain ⟨a, b⟩ := ih _ _ _ _ hr.2.1 h (hv.us (by omega)) (by omega) fun k a b => by
            rw [e0]
            by_cases q : k = n
            · rw [us_e (by omega)]; omega
            · rw [us_n (by omega)]; exact hk k a (by omega)
          exact ⟨a, keepV.trans (keepV.rfl.us (by omega)) b⟩
        · cases h
    · cases h
      dsimp only
      refine ⟨?_, keepV.rfl.us (by omega)⟩
      have hv8 := hv.n8
      have eu : ∀ k, ¬ k = 3 → us v 3 n k = v k := fun k q => us_n q
      have eu3 : us v 3 n 3 = n := us_e rfl
      obtain ⟨h1, h2, h3, h4, h5, h6, h7, h8, h9, h10, h11, h12, h13, h14⟩ := hv
      refine ⟨by rw [eu _ (by omega)]; exact h1, by rw [eu _ (by omega)]; exact h2, by rw [eu _ (by omega)]; exact h3, by rw [eu3]; omega, by rw [eu _ (by omega)]; exact h5, by rw [eu _ (by omega)]; exact h6, by rw [eu _ (by omega)]; exact h7, by rw [eu _ (by omega)]; exact h8, by rw [eu _ (by omega)]; exact h9, by rw [eu _ (by omega)]; exact h10, by rw [eu _ (by omega)]; exact h11, fun k a c => ?_, fun k a c => ?_, fun k a c => ?_⟩
      · rw [eu3] at c
        rw [eu (12 + k) (by omega), eu 0 (by omega)]
        exact hk k a c
      · rw [eu _ (by omega)]; exact h13 k a c
      · rw [eu _ (by omega)] at c
        obtain ⟨k1, k2, k3, k4⟩ := h14 k a c
        have eN : opN (us v 3 n) k = opN v k := us_n (by omega)
        refine ⟨by rw [eN]; exact k1, by rw [show opG (us v 3 n) k = opG v k from us_n (by omega)]; exact k2, by rw [show opP (us v 3 n) k = opP v k from us_n (by omega)]; exact k3, fun i c1 c2 => ?_⟩
        rw [eN] at c2
        rw [show opK (us v 3 n) k i = opK v k i from us_n (by omega), show opX (us v 3 n) k i = opX v k i from us_n (by omega)]
        exact k4 i c1 c2
theorem rCel_ok : ∀ (t : Nat) (p n : Int) (v : Vw) (y : Int × Vw), p ≤ e → rCel tp e t p n v = .inr y → okB v → 0 ≤ n → okB y.2 ∧ keepV v y.2 := by
  intro t
  induction t with
  | zero => intro p n v y hp h; cases h
  | succ t ih =>
    intro p n v y hp h hv hn
    rw [rCel_s] at h
    rcases hq : numP tp e p 0 3 with _ | ⟨y1, z⟩
    · rw [hq] at h; cases h
    · rw [hq] at h
      have hr := numP_r hp hq
      have b1 := skB_r (tp := tp) hr.2.1
      dsimp only at h
      split at h
      · split at h
        · obtain ⟨a, b⟩ := ih _ _ _ _ b1.2 h (hv.us (by omega)) (by omega)
          exact ⟨a, keepV.trans (keepV.rfl.us (by omega)) b⟩
        · cases h
          exact ⟨hv.us (by omega), keepV.rfl.us (by omega)⟩
      · cases h
theorem rN1_ok {a hi f p : Int} {v : Vw} {y : Int × Vw} (hp : p ≤ e) (h : rN1 tp e a hi f p v = .inr y) : ∃ z, (0 ≤ z ∧ z ≤ hi) ∧ y.2 = us v a (f * z) := by
  unfold rN1 at h
  rcases hq : numP tp e p 0 hi with _ | ⟨y1, z⟩
  · rw [hq] at h; cases h
  · rw [hq] at h
    cases h
    exact ⟨z, (numP_r hp hq).2.2, rfl⟩
theorem rLin_ok {b q : Int} {v : Vw} {y : Int × Vw} (hq : q ≤ e) (h : rLin tp e b q v = .inr y) (hv : okB v) : okB y.2 ∧ keepV v y.2 := by
  unfold rLin at h
  split at h
  · exact rOp_ok hq h hv
  split at h
  · exact rPrg_ok _ _ _ _ _ hq h hv (by omega) (fun k a c => by omega)
  split at h
  · exact rCel_ok _ _ _ _ _ hq h hv (by omega)
  split at h
  · obtain ⟨z, hz, ez⟩ := rN1_ok hq h
    rw [ez]
    exact ⟨hv.us (by omega), keepV.rfl.us (by omega)⟩
  split at h
  · obtain ⟨z, hz, ez⟩ := rN1_ok hq h
    rw [ez]
    exact ⟨hv.us (by omega), keepV.rfl.us (by omega)⟩
  split at h
  · obtain ⟨z, hz, ez⟩ := rN1_ok hq h
    rw [ez]
    exact ⟨hv.us (by omega), keepV.rfl.us (by omega)⟩
  split at h
  · obtain ⟨z, hz, ez⟩ := rN1_ok hq h
    rw [ez]
    exact ⟨hv.us (by omega), keepV.rfl.us (by omega)⟩
  split at h
  · obtain ⟨z, hz, ez⟩ := rN1_ok hq h
    rw [ez]
    exact ⟨hv.us (by omega), keepV.rfl.us (by omega)⟩
  · cases h
/-- where what is read ends -/
theorem rMic_e {o : Int} : ∀ (t : Nat) (p : Int) (v : Vw) (y : Int × Vw), p ≤ e → rMic tp e o t p v = .inr y → p ≤ y.1 ∧ y.1 ≤ e := by
  intro t
  induction t with
  | zero => intro p v y hp h; cases h
  | succ t ih =>
    intro p v y hp h
    rw [rMic_s] at h
    have b1 := skB_r (tp := tp) hp
    have b2 := wdB_r (tp := tp) b1.2
    split at h
    · cases h
      exact b1
    · split at h
      · cases h
      · split at h
        · rcases hn : numP tp e (wdB tp e (skB tp e p)) 0 7 with _ | ⟨y1, z⟩
          · rw [hn] at h; cases h
          · rw [hn] at h
            have hr := numP_r b2.2 hn
            have := ih _ _ _ hr.2.1 h
            try dsimp only at this
            omega
        · have := ih _ _ _ b2.2 h
          omega
theorem rPrg_e : ∀ (t : Nat) (p n : Int) (v : Vw) (y : Int × Vw), p ≤ e → rPrg tp e t p n v = .inr y → p ≤ y.1 ∧ y.1 ≤ e := by
  intro t
  induction t with
  | zero => intro p n v y hp h; cases h
  | succ t ih =>
    intro p n v y hp h
    rw [rPrg_s] at h
    have b1 := skB_r (tp := tp) hp
    split at h
    · rcases hq : numP tp e p 0 (v 0 - 1) with _ | ⟨y1, z⟩
      · rw [hq] at h; cases h
      · rw [hq] at h
        have hr := numP_r hp hq
        dsimp only at h
        split at h
        · have := ih _ _ _ _ hr.2.1 h
          omega
        · cases h
    · cases h
      exact b1
theorem rCel_e : ∀ (t : Nat) (p n : Int) (v : Vw) (y : Int × Vw), p ≤ e → rCel tp e t p n v = .inr y → p ≤ y.1 ∧ y.1 ≤ e := by
  intro t
  induction t with
  | zero => intro p n v y hp h; cases h
  | succ t ih =>
    intro p n v y hp h
    rw [rCel_s] at h
    rcases hq : numP tp e p 0 3 with _ | ⟨y1, z⟩
    · rw [hq] at h; cases h
    · rw [hq] at h
      have hr := numP_r hp hq
      have b1 := skB_r (tp := tp) hr.2.1
      dsimp only at h
      split at h
      · split at h
        · have := ih _ _ _ _ b1.2 h
          omega
        · cases h
          dsimp only
          omega
      · cases h
theorem rN1_e {a hi f p : Int} {v : Vw} {y : Int × Vw} (hp : p ≤ e) (h : rN1 tp e a hi f p v = .inr y) : p ≤ y.1 ∧ y.1 ≤ e := by
  unfold rN1 at h
  rcases hq : numP tp e p 0 hi with _ | ⟨y1, z⟩
  · rw [hq] at h; cases h
  · rw [hq] at h
    cases h
    have := numP_r hp hq
    dsimp only
    omega
theorem rLin_e {b q : Int} {v : Vw} {y : Int × Vw} (hq : q ≤ e) (h : rLin tp e b q v = .inr y) : q ≤ y.1 ∧ y.1 ≤ e := by
  unfold rLin at h
  split at h
  · unfold rOp at h
    split at h
    · cases h
    split at h
    · cases h
    have b1 := skB_r (tp := tp) hq
    have b2 := wdB_r (tp := tp) b1.2
    have hw : q ≤ (opW tp e (v 0) q v).1 ∧ (opW tp e (v 0) q v).1 ≤ e := by
      unfold opW
      split
      · exact ⟨Int.le_trans b1.1 b2.1, b2.2⟩
      · exact b1
    rcases hm : rMic tp e (v 0) 5 (opW tp e (v 0) q v).1 (opW tp e (v 0) q v).2 with x | z
    · rw [hm] at h; cases h
    · rw [hm] at h
      cases h
      have := rMic_e _ _ _ _ hw.2 hm
      dsimp only
      omega
  split at h
  · exact rPrg_e _ _ _ _ _ hq h
  split at h
  · exact rCel_e _ _ _ _ _ hq h
  split at h
  · exact rN1_e hq h
  split at h
  · exact rN1_e hq h
  split at h
  · exact rN1_e hq h
  split at h
  · exact rN1_e hq h
  split at h
  · exact rN1_e hq h
  · cases h
theorem rBch_ok : ∀ (t : Nat) (p n : Int) (v : Vw) (y : Int × Vw), p ≤ e → 0 ≤ n → rBch tp e t p n v = .inr y → okB v → (okB y.2 ∧ keepV v y.2) ∧ 0 ≤ y.1 ∧ y.1 ≤ 14 := by
  intro t
  induction t with
  | zero => intro p n v y hp hn h; cases h
  | succ t ih =>
    intro p n v y hp hn h hv
    rw [rBch_s] at h
    have b1 := skB_r (tp := tp) hp
    have b2 := wdB_r (tp := tp) b1.2
    split at h
    · rename_i n14
      rcases hm : rLin tp e (skB tp e p) (wdB tp e (skB tp e p)) v with x | z
      · rw [hm] at h; cases h
      · rw [hm] at h
        have g1 := rLin_ok b2.2 hm hv
        have g2 := rLin_e b2.2 hm
        have b3 := skB_r (tp := tp) g2.2
        dsimp only at h
        split at h
        · cases h
          dsimp only
          exact ⟨g1, by omega, by omega⟩
        · split at h
          · have hlt : skB tp e z.1 < e := by omega
            obtain ⟨⟨r1, r2⟩, r3⟩ := ih _ _ _ _ (by omega) (by omega) h g1.1
            exact ⟨⟨r1, g1.2.trans r2⟩, r3⟩
          · cases h
    · cases h
theorem rBench_ok {v : Vw} {y : Int × Vw} (he : 0 ≤ e ∧ e ≤ 400) (h : rBench tp e v = .inr y) (hv : okB v) : okB y.2 ∧ keepV v y.2 := by
  unfold rBench at h
  split at h
  · cases h
    exact ⟨hv, keepV.rfl⟩
  · exact (rBch_ok _ _ _ _ _ he.1 (by omega) h hv).1
/-! a law -/
theorem wfC_lo {v v' : Vw} : ∀ (t : Nat) (i : Int) (n : Nat), (∀ j, i ≤ j → j < i + t → v' (417 + 2 * j) = v (417 + 2 * j)) → wfC v t i n → wfC v' t i n := by
  intro t
  induction t with
  | zero => intro i n h _; exact trivial
  | succ t ih =>
    intro i n h hw
    have h' : ∀ j, i + 1 ≤ j → j < i + 1 + t → v' (417 + 2 * j) = v (417 + 2 * j) := fun j a b => h j (by omega) (by omega)
    have hw' : if v (417 + 2 * i) ≤ 10 then wfC v t (i + 1) (n + 1) else if v (417 + 2 * i) = 14 then 1 ≤ n ∧ wfC v t (i + 1) n else 2 ≤ n ∧ wfC v t (i + 1) (n - 1) := hw
    show if v' (417 + 2 * i) ≤ 10 then wfC v' t (i + 1) (n + 1) else if v' (417 + 2 * i) = 14 then 1 ≤ n ∧ wfC v' t (i + 1) n else 2 ≤ n ∧ wfC v' t (i + 1) (n - 1)
    rw [h i (by omega) (by omega)]
    split at hw'
    · rename_i q; rw [if_pos q]; exact ih _ _ h' hw'
    · rename_i q
      rw [if_neg q]
      split at hw'
      · rename_i q2; rw [if_pos q2]; exact ⟨hw'.1, ih _ _ h' hw'.2⟩
      · rename_i q2; rw [if_neg q2]; exact ⟨hw'.1, ih _ _ h' hw'.2⟩
theorem lineOK.eq {v v' : Vw} {n : Int} (h : lineOK v n) (h1 : ∀ k, 369 + 4 * n ≤ k → k ≤ 372 + 4 * n → v' k = v k) (h2 : ∀ k, 417 ≤ k → k < 417 + 2 * v (372 + 4 * n) → v' k = v k) : lineOK v' n := by
  obtain ⟨a, b, c, f, g⟩ := h
  unfold lineOK
  rw [h1 (369 + 4 * n) (by omega) (by omega), h1 (370 + 4 * n) (by omega) (by omega), h1 (371 + 4 * n) (by omega) (by omega), h1 (372 + 4 * n) (by omega) (by omega)]
  refine ⟨a, b, c, fun i i0 i1 => ?_, wfC_lo _ _ _ (fun j j0 j1 => h2 _ (by omega) (by omega)) g⟩
  rw [h2 (417 + 2 * i) (by omega) (by omega), h2 (418 + 2 * i) (by omega) (by omega)]
  exact f i i0 i1
theorem lawK_r {b q : Int} : lawK tp b q = -1 ∨ 0 ≤ lawK tp b q ∧ lawK tp b q ≤ 2 := by
  unfold lawK
  split
  · exact Or.inr (by omega)
  · split
    · exact Or.inr (by omega)
    · split
      · exact Or.inr (by omega)
      · exact Or.inl rfl
/-- what a line of a law leaves -/
theorem rLaw_ok {n b q c : Int} {u : Vw} {y : LgS} (hq : q ≤ e) (hc : 0 ≤ c ∧ c ≤ q) (he : e ≤ 400) (hn : 0 ≤ n ∧ n < 12) (h : rLaw tp e n b q c u = .inr y) : (q ≤ y.1 ∧ y.1 ≤ e) ∧ (c ≤ y.2.1 ∧ y.2.1 ≤ y.1) ∧ y.2.2 (372 + 4 * n) = y.2.1 ∧ (∀ k, ¬ (369 + 4 * n ≤ k ∧ k ≤ 372 + 4 * n) → ¬ (417 + 2 * c ≤ k ∧ k < 417 + 2 * y.2.1) → y.2.2 k = u k) ∧ lineOK y.2.2 n := by
  unfold rLaw at h
  have hK := lawK_r (tp := tp) (b := b) (q := q)
  split at h
  · cases h
  · rename_i k0
    rcases hnu : numP tp e q 0 40 with _ | ⟨y1, z⟩
    · rw [hnu] at h; cases h
    · rw [hnu] at h
      have hr := numP_r hq hnu
      have b1 := skB_r (tp := tp) hr.2.1
      have b2 := wdB_r (tp := tp) b1.2
      dsimp only at h
      split at h
      · rcases hm : rCnd tp e (rAtm tp e 6) (wdB tp e (skB tp e y1), c, us (us (us u (369 + 4 * n) (lawK tp b q)) (370 + 4 * n) z) (371 + 4 * n) c) with x | s
        · rw [hm] at h; cases h
        · rw [hm] at h
          cases h
          obtain ⟨g1, g2, g3, g4, g5, g6⟩ := rCnd_g (rAtm_g 6) _ _ b2.2 hm 0
          dsimp only at g1 g2 g3 g4 g5 g6
          have e1 : us s.2.2 (372 + 4 * n) s.2.1 (369 + 4 * n) = lawK tp b q := (us_n (by omega)).trans ((g4 _ (by omega)).trans ((us_n (by omega)).trans ((us_n (by omega)).trans (us_e rfl))))
          have e2 : us s.2.2 (372 + 4 * n) s.2.1 (370 + 4 * n) = z := (us_n (by omega)).trans ((g4 _ (by omega)).trans ((us_n (by omega)).trans (us_e rfl)))
          have e3 : us s.2.2 (372 + 4 * n) s.2.1 (371 + 4 * n) = c := (us_n (by omega)).trans ((g4 _ (by omega)).trans (us_e rfl))
          have e4 : us s.2.2 (372 + 4 * n) s.2.1 (372 + 4 * n) = s.2.1 := us_e rfl
          refine ⟨by dsimp only; omega, by dsimp only; omega, e4, fun k q1 q2 => (us_n (by omega)).trans ((g4 k q2).trans ((us_n (by omega)).trans ((us_n (by omega)).trans (us_n (by omega))))), ?_⟩
          dsimp only
          unfold lineOK
          rw [e1, e2, e3, e4]
          refine ⟨by omega, by omega, by omega, fun i i0 i1 => ?_, ?_⟩
          · rw [us_n (by omega), us_n (by omega)]
            exact g5 i i0 i1
          · have := g6 (us s.2.2 (372 + 4 * n) s.2.1) (fun i i0 i1 => us_n (by omega)) 0 trivial
            rw [Nat.zero_add] at this
            exact this
      · cases h
        dsimp only
        have e1 : us (us (us (us u (369 + 4 * n) (lawK tp b q)) (370 + 4 * n) z) (371 + 4 * n) c) (372 + 4 * n) c (369 + 4 * n) = lawK tp b q := (us_n (by omega)).trans ((us_n (by omega)).trans ((us_n (by omega)).trans (us_e rfl)))
        have e2 : us (us (us (us u (369 + 4 * n) (lawK tp b q)) (370 + 4 * n) z) (371 + 4 * n) c) (372 + 4 * n) c (370 + 4 * n) = z := (us_n (by omega)).trans ((us_n (by omega)).trans (us_e rfl))
        have e3 : us (us (us (us u (369 + 4 * n) (lawK tp b q)) (370 + 4 * n) z) (371 + 4 * n) c) (372 + 4 * n) c (371 + 4 * n) = c := (us_n (by omega)).trans (us_e rfl)
        have e4 : us (us (us (us u (369 + 4 * n) (lawK tp b q)) (370 + 4 * n) z) (371 + 4 * n) c) (372 + 4 * n) c (372 + 4 * n) = c := us_e rfl
        refine ⟨by omega, by omega, e4, fun k q1 q2 => (us_n (by omega)).trans ((us_n (by omega)).trans ((us_n (by omega)).trans (us_n (by omega)))), ?_⟩
        unfold lineOK
        rw [e1, e2, e3, e4]
        refine ⟨by omega, by omega, by omega, fun i i0 i1 => by omega, ?_⟩
        rw [show (c - c).toNat = 0 by omega]
        exact trivial
theorem rLwl_ok : ∀ (t : Nat) (n : Int) (s y : LgS), (he : e ≤ 400) → s.1 ≤ e → 0 ≤ s.2.1 ∧ s.2.1 ≤ s.1 → 0 ≤ n → (∀ i, 0 ≤ i → i < n → lineOK s.2.2 i ∧ s.2.2 (372 + 4 * i) ≤ s.2.1) → rLwl tp e t n s = .inr y → (0 ≤ y.1 ∧ y.1 ≤ 12) ∧ ∀ i, 0 ≤ i → i < y.1 → lineOK y.2.2 i := by
  intro t
  induction t with
  | zero => intro n s y he hs hc hn hl h; cases h
  | succ t ih =>
    intro n s y he hs hc hn hl h
    obtain ⟨p, c, u⟩ := s
    dsimp only at hs hc hl
    rw [rLwl_s] at h
    have b1 := skB_r (tp := tp) hs
    have b2 := wdB_r (tp := tp) b1.2
    split at h
    · rename_i n12
      rcases hm : rLaw tp e n (skB tp e p) (wdB tp e (skB tp e p)) c u with x | z
      · rw [hm] at h; cases h
      · rw [hm] at h
        obtain ⟨g1, g2, g3, g4, g5⟩ := rLaw_ok b2.2 ⟨hc.1, by omega⟩ he ⟨hn, n12⟩ hm
        have b3 := skB_r (tp := tp) g1.2
        have hl' : ∀ i, 0 ≤ i → i < n + 1 → lineOK z.2.2 i ∧ z.2.2 (372 + 4 * i) ≤ z.2.1 := fun i i0 i1 => by
          by_cases q : i = n
          · subst q
            exact ⟨g5, by omega⟩
          · have hi := hl i i0 (by omega)
            exact ⟨hi.1.eq (fun k k0 k1 => g4 k (by omega) (by omega)) (fun k k0 k1 => g4 k (by omega) (by omega)), by rw [g4 _ (by omega) (by omega)]; omega⟩
        dsimp only at h
        split at h
        · cases h
          dsimp only
          exact ⟨by omega, fun i i0 i1 => (hl' i i0 i1).1⟩
        · split at h
          · rename_i ne h59
            have hlt : skB tp e z.1 < e := by omega
            exact ih (n + 1) (skB tp e z.1 + 1, z.2) y he (by dsimp only; omega) (by dsimp only; omega) (by omega) hl' h
          · cases h
    · cases h
theorem rLaws_ok {u : Vw} {y : LgS} (he : 0 ≤ e ∧ e ≤ 400) (h : rLaws tp e u = .inr y) : (0 ≤ y.1 ∧ y.1 ≤ 12) ∧ ∀ i, 0 ≤ i → i < y.1 → lineOK y.2.2 i := by
  unfold rLaws at h
  split at h
  · cases h
    dsimp only
    exact ⟨by omega, fun i i0 i1 => by omega⟩
  · exact rLwl_ok _ _ _ _ he.2 (by dsimp only; omega) (by dsimp only; omega) (by omega) (fun i i0 i1 => by omega) h
end RK
/-- the bench with a law of so many lines -/
def lawV (v : Vw) (n : Int) (u : Vw) : Vw := us (fun k => if 368 ≤ k ∧ k < 1217 then us u 368 n k else drf v (us u 368 n) k) 2 1
theorem lawV_law {v u : Vw} {n k : Int} (h : 368 ≤ k ∧ k < 1217) : lawV v n u k = us u 368 n k := (us_n (by omega)).trans (if_pos h)
theorem lawV_o {v u : Vw} {n k : Int} (h : k < 368) (h2 : ¬ k = 2) : lawV v n u k = v k := (us_n h2).trans ((if_neg (by omega)).trans (if_neg (by omega)))
theorem lawV_2 {v u : Vw} {n : Int} : lawV v n u 2 = 1 := us_e rfl
theorem lawV_okB {v u : Vw} {n : Int} (h : okB v) : okB (lawV v n u) := by
  have hv8 := h.n8
  have he : ∀ k, k < 368 → ¬ k = 2 → lawV v n u k = v k := fun k a b => lawV_o a b
  obtain ⟨h1, h2, h3, h4, h5, h6, h7, h8, h9, h10, h11, h12, h13, h14⟩ := h
  refine ⟨by rw [he 0 (by omega) (by omega)]; exact h1, by rw [he 1 (by omega) (by omega)]; exact h2, Or.inr lawV_2, by rw [he 3 (by omega) (by omega)]; exact h4, by rw [he 4 (by omega) (by omega)]; exact h5, by rw [he 5 (by omega) (by omega)]; exact h6, by rw [he 6 (by omega) (by omega)]; exact h7, by rw [he 7 (by omega) (by omega)]; exact h8, by rw [he 8 (by omega) (by omega)]; exact h9, by rw [he 9 (by omega) (by omega)]; exact h10, by rw [he 10 (by omega) (by omega)]; exact h11, fun k a b => ?_, fun k a b => ?_, fun k a b => ?_⟩
  · rw [he 3 (by omega) (by omega)] at b; rw [he _ (by omega) (by omega), he 0 (by omega) (by omega)]; exact h12 k a b
  · rw [he _ (by omega) (by omega)]; exact h13 k a b
  · rw [he 0 (by omega) (by omega)] at b
    obtain ⟨k1, k2, k3, k4⟩ := h14 k a b
    have eN : opN (lawV v n u) k = opN v k := he _ (by omega) (by omega)
    refine ⟨by rw [eN]; exact k1, by rw [show opG (lawV v n u) k = opG v k from he _ (by omega) (by omega)]; exact k2, by rw [show opP (lawV v n u) k = opP v k from he _ (by omega) (by omega)]; exact k3, fun i c1 c2 => ?_⟩
    rw [eN] at c2
    rw [show opK (lawV v n u) k i = opK v k i from he _ (by omega) (by omega), show opX (lawV v n u) k i = opX v k i from he _ (by omega) (by omega)]
    exact k4 i c1 c2
theorem lawV_okA {v u : Vw} {n : Int} (h : okA v) : okA (lawV v n u) := ⟨lawV_okB h.1, h.2.1.eqv fun k a b => lawV_o (by unfold guA at b; omega) (by unfold guA at a; omega), h.2.2.eqv fun k a b => lawV_o (by unfold guA at b; omega) (by unfold guA at a; omega)⟩
theorem lawV_lawOK {v u : Vw} {n : Int} (hn : 0 ≤ n ∧ n ≤ 12) (h : ∀ i, 0 ≤ i → i < n → lineOK u i) : lawOK (lawV v n u) := by
  have e : lawV v n u 368 = n := (lawV_law (by omega)).trans (us_e rfl)
  refine ⟨Or.inr lawV_2, fun _ => ⟨by rw [e]; exact hn, fun i i0 i1 => ?_⟩⟩
  rw [e] at i1
  have hl := h i i0 i1
  have h3 := hl.2.2.1
  exact hl.eq (fun k a b => (lawV_law (by omega)).trans (us_n (by omega))) (fun k a b => (lawV_law (by omega)).trans (us_n (by omega)))
theorem okA.lo {v v' : Vw} (h : okA v) (he : ∀ k, 0 ≤ k → k < 128 → v' k = v k) : okA v' := by
  have h8 := h.1.n8
  exact ⟨h.1.hi fun k a b => he k a (by omega), h.2.1.eqv fun k a b => he k (by unfold guA at a; omega) (by unfold guA at b; omega), h.2.2.eqv fun k a b => he k (by unfold guA at a; omega) (by unfold guA at b; omega)⟩
theorem lawOK.lo {v v' : Vw} (h : lawOK v) (e2 : v' 2 = v 2) (he : ∀ k, 368 ≤ k → k < 1217 → v' k = v k) : lawOK v' := by
  unfold lawOK
  rw [e2, he 368 (by omega) (by omega)]
  refine ⟨h.1, fun q => ⟨(h.2 q).1, fun n n0 n1 => ?_⟩⟩
  have hb := (h.2 q).1
  have hl := (h.2 q).2 n n0 n1
  have h3 := hl.2.2.1
  exact hl.eq (fun k a b => he k (by omega) (by omega)) (fun k a b => he k (by omega) (by omega))
