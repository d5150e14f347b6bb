/-! A bench that was read: no operation without a micro operation -/
section FB
variable {tp : Int → Int} {e : Int}
theorem micU_N {v : Vw} {o k x : Int} : opN (micU v o k x) o = opN v o + 1 := us_e rfl
theorem rMic_n {o : Int} : ∀ (t : Nat) (p : Int) (v : Vw) (y : Int × Vw), rMic tp e o t p v = .inr y → opN v o ≤ opN y.2 o := by
  intro t
  induction t with
  | zero => intro p v y h; cases h
  | succ t ih =>
    intro p v y h
    rw [rMic_s] at h
    split at h
    · cases h
      exact Int.le_refl _
    · split at h
      · cases h
      · split at h
        · rcases hn : numP tp e (wdB tp e (skB tp e p)) 0 7 with _ | ⟨y1, z⟩
          · rw [hn] at h; cases h
          · rw [hn] at h
            have a := ih _ _ _ h
            rw [micU_N] at a
            omega
        · have a := ih _ _ _ h
          rw [micU_N] at a
          omega
theorem rMic_1 {o p : Int} {t : Nat} {v : Vw} {y : Int × Vw} (h : rMic tp e o (t + 1) p v = .inr y) (hk : ¬ kndW tp (skB tp e p) (wdB tp e (skB tp e p)) < 0) : opN v o + 1 ≤ opN y.2 o := by
  rw [rMic_s] at h
  rw [if_neg hk] at h
  split at h
  · cases h
  · split at h
    · rcases hn : numP tp e (wdB tp e (skB tp e p)) 0 7 with _ | ⟨y1, z⟩
      · rw [hn] at h; cases h
      · rw [hn] at h
        have a := rMic_n _ _ _ _ h
        rw [micU_N] at a
        exact a
    · have a := rMic_n _ _ _ _ h
      rw [micU_N] at a
      exact a
def FN (v : Vw) : Prop := ∀ p, 0 ≤ p → p < 8 → p < v 0 → 1 ≤ opN v p
theorem FN.set {v : Vw} {i x : Int} (h : FN v) (hi : i < 30) (h0 : ¬ i = 0) : FN (us v i x) := fun p a b c => by
  have e1 : opN (us v i x) p = opN v p := us_n (by omega)
  rw [e1]
  rw [us_n (by omega)] at c
  exact h p a b c
theorem rOp_n {b p : Int} {v : Vw} {y : Int × Vw} (hp : p ≤ e) (h : rOp tp e b p v = .inr y) (hv : okB v) (hF : FN v) : FN y.2 := by
  have hv8 := hv.n8
  have hv0 := hv.1.1
  unfold rOp at h
  split at h
  · cases h
  · rename_i n8
    split at h
    · cases h
    · rename_i hk
      have b1 := skB_r (tp := tp) hp
      have b2 := wdB_r (tp := tp) b1.2
      rcases hm : rMic tp e (v 0) 5 (opW tp e (v 0) p v).1 (opW tp e (v 0) p v).2 with x | z
      · rw [hm] at h; cases h
      · rw [hm] at h
        cases h
        have hw : (opW tp e (v 0) p v).1 ≤ e ∧ ∃ g, (g = 0 ∨ g = 1) ∧ (opW tp e (v 0) p v).2 = us (zopV v (v 0)) (31 + 9 * v 0) g := by
          unfold opW
          split
          · exact ⟨b2.2, 1, Or.inr rfl, rfl⟩
          · exact ⟨b1.2, 0, Or.inl rfl, rfl⟩
        obtain ⟨hw1, g, hg, hw2⟩ := hw
        have z0 : ∀ k, 30 + 9 * v 0 ≤ k → k < 39 + 9 * v 0 → zopV v (v 0) k = 0 := fun k a c => if_pos ⟨a, c⟩
        have eN : opN (us (zopV v (v 0)) (31 + 9 * v 0) g) (v 0) = 0 := (us_n (by omega)).trans (z0 _ (by omega) (by omega))
        have ok0 : okOp (us (zopV v (v 0)) (31 + 9 * v 0) g) (v 0) := by
          refine ⟨by rw [eN]; omega, ?_, ?_, fun i a c => ?_⟩
          · have q : opG (us (zopV v (v 0)) (31 + 9 * v 0) g) (v 0) = g := us_e rfl
            rw [q]
            exact hg
          · have q : opP (us (zopV v (v 0)) (31 + 9 * v 0) g) (v 0) = 0 := (us_n (by omega)).trans (z0 _ (by omega) (by omega))
            exact Or.inl q
          · rw [eN] at c
            omega
        have h1 := rMic_1 (t := 4) hm hk
        rw [hw2] at hm h1
        obtain ⟨-, r2⟩ := rMic_ok _ _ _ _ hw1 hm ok0
        rw [eN] at h1
        have ko : ∀ j, ¬ (30 + 9 * v 0 ≤ j ∧ j < 39 + 9 * v 0) → z.2 j = v j := fun j q => (r2 j q).trans ((us_n (by omega)).trans (if_neg q))
        intro r a b c
        have e0 : us z.2 0 (z.2 0 + 1) 0 = v 0 + 1 := by rw [us_e rfl, ko 0 (by omega)]
        have c' : r < v 0 + 1 := by rw [← e0]; exact c
        have er : opN (us z.2 0 (z.2 0 + 1)) r = opN z.2 r := us_n (by omega)
        show 1 ≤ opN (us z.2 0 (z.2 0 + 1)) r
        rw [er]
        by_cases q : r = v 0
        · rw [q]; omega
        · have e2 : opN z.2 r = opN v r := ko _ (by omega)
          rw [e2]
          exact hF r a b (by omega)
theorem rPrg_n : ∀ (t : Nat) (p n : Int) (v : Vw) (y : Int × Vw), rPrg tp e t p n v = .inr y → 0 ≤ n → FN v → FN y.2 := by
  intro t
  induction t with
  | zero => intro p n v y h; cases h
  | succ t ih =>
    intro p n v y h hn hF
    rw [rPrg_s] at h
    split at h
    · rcases hq : numP tp e p 0 (v 0 - 1) with _ | ⟨y1, z⟩
      · rw [hq] at h; cases h
      · rw [hq] at h
        dsimp only at h
        split at h
        · exact ih _ _ _ _ h (by omega) (hF.set (by omega) (by omega))
        · cases h
    · cases h
      exact hF.set (by omega) (by omega)
theorem rCel_n : ∀ (t : Nat) (p n : Int) (v : Vw) (y : Int × Vw), rCel tp e t p n v = .inr y → 0 ≤ n → FN v → FN y.2 := by
  intro t
  induction t with
  | zero => intro p n v y h; cases h
  | succ t ih =>
    intro p n v y h hn hF
    rw [rCel_s] at h
    rcases hq : numP tp e p 0 3 with _ | ⟨y1, z⟩
    · rw [hq] at h; cases h
    · rw [hq] at h
      dsimp only at h
      split at h
      · split at h
        · exact ih _ _ _ _ h (by omega) (hF.set (by omega) (by omega))
        · cases h
          exact hF.set (by omega) (by omega)
      · cases h
theorem rN1_fn {a hi f p : Int} {v : Vw} {y : Int × Vw} (h : rN1 tp e a hi f p v = .inr y) (ha : a < 30) (h0 : ¬ a = 0) (hF : FN v) : FN y.2 := by
  unfold rN1 at h
  rcases hq : numP tp e p 0 hi with _ | ⟨y1, z⟩
  · rw [hq] at h; cases h
  · rw [hq] at h
    cases h
    exact hF.set ha h0
theorem rLin_n {b q : Int} {v : Vw} {y : Int × Vw} (hq : q ≤ e) (h : rLin tp e b q v = .inr y) (hv : okB v) (hF : FN v) : FN y.2 := by
  unfold rLin at h
  split at h
  · exact rOp_n hq h hv hF
  split at h
  · exact rPrg_n _ _ _ _ _ h (by omega) hF
  split at h
  · exact rCel_n _ _ _ _ _ h (by omega) hF
  split at h
  · exact rN1_fn h (by omega) (by omega) hF
  split at h
  · exact rN1_fn h (by omega) (by omega) hF
  split at h
  · exact rN1_fn h (by omega) (by omega) hF
  split at h
  · exact rN1_fn h (by omega) (by omega) hF
  split at h
  · exact rN1_fn h (by omega) (by omega) hF
  · cases h
theorem rBch_n : ∀ (t : Nat) (p n : Int) (v : Vw) (y : Int × Vw), p ≤ e → rBch tp e t p n v = .inr y → okB v → FN v → FN y.2 := by
  intro t
  induction t with
  | zero => intro p n v y hp h; cases h
  | succ t ih =>
    intro p n v y hp h hv hF
    rw [rBch_s] at h
    have b1 := skB_r (tp := tp) hp
    have b2 := wdB_r (tp := tp) b1.2
    split at h
    · rcases hm : rLin tp e (skB tp e p) (wdB tp e (skB tp e p)) v with x | z
      · rw [hm] at h; cases h
      · rw [hm] at h
        have g1 := rLin_ok b2.2 hm hv
        have g2 := rLin_e b2.2 hm
        have g3 := rLin_n b2.2 hm hv hF
        have b3 := skB_r (tp := tp) g2.2
        dsimp only at h
        split at h
        · cases h
          exact g3
        · split at h
          · exact ih _ _ _ _ (by omega) h g1.1 g3
          · cases h
    · cases h
theorem rBench_n {v : Vw} {y : Int × Vw} (he : 0 ≤ e ∧ e ≤ 400) (h : rBench tp e v = .inr y) (hv : okB v) (hF : FN v) : FN y.2 := by
  unfold rBench at h
  split at h
  · cases h
    exact hF
  · exact rBch_n _ _ _ _ _ (by omega) h hv hF
theorem FV.bench {v : Vw} {y : Int × Vw} {x : Int} (he : 0 ≤ e ∧ e ≤ 400) (h : rBench tp e v = .inr y) (hv : okB v) (hF : FV v) : FV (bootV (us y.2 1 x)) := by
  have hk := (rBench_ok he h hv).2
  have hn := rBench_n he h hv hF.1
  have hy : FV y.2 := ⟨hn, fun k a b c => by
    rw [hk _ (by omega)]
    rw [hk 10 (by omega)] at c
    exact hF.2 k a b c⟩
  exact (hy.set (op := 0) (by omega) (by omega) (by omega) (by omega)).boot
end FB
theorem FV.law {v u : Vw} {n : Int} (h : FV v) : FV (lawV v n u) := by
  refine h.of ?_ ?_ (fun p a b => ?_) fun k a b => ?_
  all_goals try unfold opN
  all_goals unfold lawV
  all_goals rw [us_n (by omega)]
  all_goals rw [if_neg (by omega)]
  all_goals unfold drf
  all_goals exact if_neg (by omega)
theorem jshr_b {x k : Int} : -128 ≤ w8 (jshr x k) ∧ w8 (jshr x k) ≤ 127 := by
  unfold w8
  omega
theorem TpOk.feed {tp : Int → Int} {sz a b c d e n : Int} (h : TpOk tp) : TpOk (feedT tp sz a b c d e n) := fun k => by
  unfold feedT
  split
  · unfold feedB
    exact jshr_b
  · exact h k

