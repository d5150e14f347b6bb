/-! THE COMPONENT: what a state is hangs on the bench's cells alone -/
theorem witV_lo {v v' : Vw} {p w : Int} (h : okOp v p) (he : ∀ j, 30 + 9 * p ≤ j → j < 39 + 9 * p → ¬ j = 32 + 9 * p → v' j = v j) : witV v' p w = witV v p w := by
  have h3 := h.1
  have e1 : opD v' p = opD v p := funext fun m => by
    unfold opD
    rw [show opN v' p = opN v p from he _ (by omega) (by omega) (by omega)]
    exact doM_congr m fun i a b => ⟨he _ (by omega) (by omega) (by omega), he _ (by omega) (by omega) (by omega)⟩
  have e2 : opG v' p = opG v p := he _ (by omega) (by omega) (by omega)
  unfold witV
  have e3 : isSo v' p w = isSo v p w := funext fun s => by
    unfold isSo isCtl isMdl isLoc isTim trapsV
    rw [e1, e2]
  rw [e3]
theorem runC_lo {v v' : Vw} {fc : Int → Int} : ∀ (t : Nat) (i : Int) (st : List Int), (∀ j, i ≤ j → j < i + t → v' (417 + 2 * j) = v (417 + 2 * j) ∧ v' (418 + 2 * j) = v (418 + 2 * j)) → runC v' fc t i st = runC v fc t i st := by
  intro t
  induction t with
  | zero => intro i st _; rfl
  | succ t ih =>
    intro i st h
    unfold runC
    rw [(h i (by omega) (by omega)).1, (h i (by omega) (by omega)).2]
    exact ih _ _ fun j a b => h j (by omega) (by omega)
theorem holdV_lo {v v' : Vw} {fc : Int → Int} {n : Int} (hl : lineOK v n) (hn : 0 ≤ n ∧ n < 12) (he : ∀ k, 368 ≤ k → k < 1217 → v' k = v k) : holdV v' fc n ↔ holdV v fc n := by
  have h3 := hl.2.2.1
  unfold holdV
  rw [he (372 + 4 * n) (by omega) (by omega), he (371 + 4 * n) (by omega) (by omega), runC_lo _ _ _ fun j a b => ⟨he _ (by omega) (by omega), he _ (by omega) (by omega)⟩]
theorem LawR.lo {sh : Sh} {ci : Ci} {cr : Cr} {B T p : Int} {v v' : Vw} (h : LawR sh ci cr B T p v) (hL : lawOK v) (e2 : v' 2 = v 2) (he : ∀ k, 368 ≤ k → k < 1217 → v' k = v k) : LawR sh ci cr B T p v' := by
  unfold LawR
  rw [e2, he 368 (by omega) (by omega)]
  rcases h with h | ⟨a, b, e, f⟩
  · exact Or.inl h
  · refine Or.inr ⟨a, b, e, fun n n0 n1 => ?_⟩
    have hl := (hL.2 a).2 n n0 n1
    obtain ⟨l, l1, l2, l3, l4, l5, l6⟩ := f n n0 n1
    rw [he (369 + 4 * n) (by omega) (by omega)]
    refine ⟨l, l1, l2, l3, l4, ?_, ?_⟩
    · rw [he (370 + 4 * n) (by omega) (by omega), he (371 + 4 * n) (by omega) (by omega)]; exact l5
    · rcases l6 with ⟨a1, a2⟩ | ⟨c, P, a1, a2, a3⟩
      · exact Or.inl ⟨a1, fun fc => (holdV_lo hl ⟨n0, by omega⟩ he).mpr (a2 fc)⟩
      · exact Or.inr ⟨c, P, a1, a2, fun fc hf => (a3 fc hf).trans (holdV_lo hl ⟨n0, by omega⟩ he).symm⟩
theorem RelB.lo {f : Ci} {p N : Int} {v v' : Vw} (h : RelB f p v N) (hv : okB v) (he : ∀ k, 0 ≤ k → k < 102 → v' k = v k) (hl : ∀ k, 128 ≤ k → k < 368 → v' k = v k) : RelB f p v' N := by
  obtain ⟨h1, h2, h3, h4, h5, h6, h7, h8, h9, h10, h11, h12, h13, h14, h15⟩ := h
  have hv8 := hv.n8
  have hv10 := hv.l60
  have e0 : v' 0 = v 0 := he 0 (by omega) (by omega)
  have e10 : v' 10 = v 10 := he 10 (by omega) (by omega)
  rw [← e0] at h1
  refine ⟨h1, by rw [he 3 (by omega) (by omega)]; exact h2, by rw [he 1 (by omega) (by omega)]; exact h3, by rw [he 4 (by omega) (by omega)]; exact h4, by rw [he 5 (by omega) (by omega)]; exact h5, by rw [he 6 (by omega) (by omega)]; exact h6, by rw [he 7 (by omega) (by omega)]; exact h7, by rw [he 8 (by omega) (by omega)]; exact h8, by rw [he 9 (by omega) (by omega)]; exact h9, by rw [he 11 (by omega) (by omega)]; exact h10, by rw [e10]; exact h11, fun k a b => ?_, fun k a b => ?_, fun k a b => ?_, fun ago j a b c d => ?_⟩
  · rw [he _ (by omega) (by omega)]; exact h12 k a b
  · rw [he _ (by omega) (by omega)]; exact h13 k a b
  · rw [e0] at b
    obtain ⟨k1, k2, k3, k4⟩ := h14 k a b
    have eN : opN v' k = opN v k := he _ (by omega) (by omega)
    refine ⟨by rw [eN]; exact k1, k2.trans (he _ (by omega) (by omega)).symm, k3.trans (he _ (by omega) (by omega)).symm, fun i c1 c2 => ?_⟩
    rw [eN] at c2
    have c3 := (hv.op k a b).1
    rw [show opK v' k i = opK v k i from he _ (by omega) (by omega), show opX v' k i = opX v k i from he _ (by omega) (by omega)]
    exact k4 i c1 c2
  · rw [e10] at b; rw [hl _ (by omega) (by omega)]; exact h15 ago j a b c d
theorem RelW.lo {f : Ci} {p : Int} {v v' : Vw} (h : RelW f p v) (hv : okB v) (he : ∀ k, 0 ≤ k → k < 102 → v' k = v k) : RelW f p v' := fun k w a b c e => by
  have h8 := hv.n8
  rw [he 0 (by omega) (by omega)] at b
  rw [witV_lo (hv.op k a b) fun j j0 j1 _ => he j (by omega) (by omega)]
  exact h k w a b c e
theorem RelA.lo {sh : Sh} {f : Ci} {cr : Cr} {B T p N : Int} {v v' : Vw} (h : RelA sh f cr B T p v N) (hv : okB v) (hL : lawOK v) (he : ∀ k, 0 ≤ k → k < 1217 → v' k = v k) : RelA sh f cr B T p v' N := by
  obtain ⟨⟨h1, h2, h3⟩, h4, h5⟩ := h
  refine ⟨⟨h1.lo hv (fun k a b => he k a (by omega)) (fun k a b => he k (by omega) (by omega)), h2.lo hv (fun k a b => he k a (by omega)), h3.lo hL (he 2 (by omega) (by omega)) (fun k a b => he k (by omega) b)⟩, h4.eqv fun k a b => he k (by unfold guA at a; omega) (by unfold guA at b; omega), ?_⟩
  rw [he 5 (by omega) (by omega)]
  exact h5.eqv fun k a b => he k (by unfold guA at a; omega) (by unfold guA at b; omega)
theorem RelA.N {sh : Sh} {f : Ci} {cr : Cr} {B T p N N' : Int} {v : Vw} (h : RelA sh f cr B T p v N) (hN : N ≤ N') : RelA sh f cr B T p v N' := by
  obtain ⟨⟨h1, h2, h3⟩, h4⟩ := h
  exact ⟨⟨⟨h1.1, h1.2.1, h1.2.2.1, h1.2.2.2.1, h1.2.2.2.2.1, h1.2.2.2.2.2.1, h1.2.2.2.2.2.2.1, h1.2.2.2.2.2.2.2.1, h1.2.2.2.2.2.2.2.2.1, h1.2.2.2.2.2.2.2.2.2.1, ⟨h1.2.2.2.2.2.2.2.2.2.2.1.1, by have := h1.2.2.2.2.2.2.2.2.2.2.1.2.1; omega, h1.2.2.2.2.2.2.2.2.2.2.1.2.2⟩, h1.2.2.2.2.2.2.2.2.2.2.2⟩, h2, h3⟩, h4⟩
/-- all cells of a state but the row of facts, and all of the law, as they were -/
theorem RelA.kp {sh sh' : Sh} {f g : Ci} {cr cr' : Cr} {B T T' p N : Int} {v : Vw} (h : RelA sh f cr B T p v N) (hv : okB v) (hs : Same B T sh f cr sh' g cr') (hT : T ≤ T') (hg : ∀ b k, p ≤ b → b ≤ p + 44 → b ≠ p + 3 → g b k = f b k) (hr : ∀ n, cr' (p + 2) n = cr (p + 2) n) : RelA sh' g cr' B T' p v N := by
  obtain ⟨⟨h1, h2, h3⟩, h4, h5⟩ := h
  have h8 := hv.n8
  have fr : ∀ q s i, p + 7 ≤ q → q ≤ p + 10 → RelG f q s v i → RelG g q s v i := by
    intro q s i q0 q1 hG
    obtain ⟨g1, g2, g3, g4, g5, g6, g7, g8⟩ := hG
    exact ⟨by rw [hg _ _ (by omega) (by omega) (by omega)]; exact g1, by rw [hg _ _ (by omega) (by omega) (by omega)]; exact g2, by rw [hg _ _ (by omega) (by omega) (by omega)]; exact g3, by rw [hg _ _ (by omega) (by omega) (by omega)]; exact g4, by rw [hg _ _ (by omega) (by omega) (by omega)]; exact g5, by rw [hg _ _ (by omega) (by omega) (by omega)]; exact g6, by rw [hg _ _ (by omega) (by omega) (by omega)]; exact g7, fun k a b => by rw [hg _ _ (by omega) (by omega) (by omega)]; exact g8 k a b⟩
  refine ⟨⟨h1.at (fun b k a c _ => hg b k a.1 a.2 c) h8, fun k w a b c e => ?_, h3.same hs hT (hg _ _ (by omega) (by omega) (by omega)) hr⟩, fr _ _ _ (by omega) (by omega) h4, fr _ _ _ (by omega) (by omega) h5⟩
  rw [hg _ _ (by omega) (by omega) (by omega)]
  exact h2 k w a b c e
/-- a number of the state, or of its rows, and the bench's number are another one -/
theorem RelB.ch {f : Ci} {p N b c i x y q : Int} {v : Vw} (h : RelB f p v N) (hv : okB v) (hc : (b = p ∧ c = 11 ∧ i = 1 ∧ y = x) ∨ (b = p ∧ c = 9 ∧ i = 3 ∧ y = x) ∨ (b = p ∧ c = 12 ∧ i = 4 ∧ y = x) ∨ (b = p ∧ c = 13 ∧ i = 5 ∧ 2 * y = x) ∨ (b = p ∧ c = 14 ∧ i = 6 ∧ y = x) ∨ (b = p ∧ c = 15 ∧ i = 7 ∧ y = x) ∨ (b = p ∧ c = 17 ∧ i = 9 ∧ y = x) ∨ (b = p ∧ c = 18 ∧ i = 11 ∧ y = x) ∨ (b = p + 5 ∧ (0 ≤ c ∧ c < 10) ∧ i = 12 + c ∧ y = x) ∨ (b = p + 6 ∧ (0 ≤ c ∧ c < 8) ∧ i = 22 + c ∧ y = x) ∨ ((0 ≤ q ∧ q < v 0) ∧ b = p + 13 + 4 * q ∧ (c = 4 ∧ i = 31 + 9 * q ∨ c = 5 ∧ i = 32 + 9 * q) ∧ y = x)) : RelB (up f b c y) p (us v i x) N := by
  have hv8 := hv.n8
  have hv10 := hv.l60
  obtain ⟨h1, h2, h3, h4, h5, h6, h7, h8, h9, h10, h11, h12, h13, h14, h15⟩ := h
  have e : ∀ k, ¬ k = i → us v i x k = v k := fun k q => us_n q
  have ee : us v i x i = x := us_e rfl
  have eu : ∀ b' k, ¬ (b' = b ∧ k = c) → up f b c y b' k = f b' k := fun b k q => rdU_n q
  have eue : up f b c y b c = y := rdU_e ⟨rfl, rfl⟩
  have sc : ∀ k j, f p k = v j → (b = p ∧ c = k ∧ i = j ∧ y = x) ∨ (¬ (p = b ∧ k = c) ∧ ¬ j = i) → up f b c y p k = us v i x j := by
    intro k j hk hd
    rcases hd with ⟨d1, d2, d3, d4⟩ | ⟨d1, d2⟩
    · subst d1; subst d2; subst d3
      rw [eue, ee]; exact d4
    · rw [eu _ _ d1, e _ d2]; exact hk
  have j0 : ¬ (0 : Int) = i := by omega
  have j10 : ¬ (10 : Int) = i := by omega
  have j19 : ¬ (p = b ∧ (19 : Int) = c) := by omega
  refine ⟨sc 8 0 h1 (by omega), sc 9 3 h2 (by omega), sc 11 1 h3 (by omega), sc 12 4 h4 (by omega), ?_, sc 14 6 h6 (by omega), sc 15 7 h7 (by omega), sc 16 8 h8 (by omega), sc 17 9 h9 (by omega), sc 18 11 h10 (by omega), ?_, fun k a b' => ?_, fun k a b' => ?_, fun k a b' => ?_, fun ago j a b' c' d' => ?_⟩
  · by_cases q5 : i = 5
    · have : b = p ∧ c = 13 ∧ 2 * y = x := by omega
      obtain ⟨r1, r2, r3⟩ := this
      subst r1; subst r2; subst q5
      rw [eue, ee]; exact r3
    · rw [eu _ _ (by omega), e _ (by omega)]; exact h5
  · rw [eu p 19 j19, e 10 j10]; exact h11
  · by_cases q5 : i = 12 + k
    · have : b = p + 5 ∧ c = k ∧ y = x := by omega
      obtain ⟨r1, r2, r3⟩ := this
      subst r1; subst r2; subst q5
      rw [eue, ee]; exact r3
    · rw [eu _ _ (by omega), e _ (by omega)]; exact h12 k a b'
  · by_cases q5 : i = 22 + k
    · have : b = p + 6 ∧ c = k ∧ y = x := by omega
      obtain ⟨r1, r2, r3⟩ := this
      subst r1; subst r2; subst q5
      rw [eue, ee]; exact r3
    · rw [eu _ _ (by omega), e _ (by omega)]; exact h13 k a b'
  · rw [e 0 j0] at b'
    obtain ⟨k1, k2, k3, k4⟩ := h14 k a b'
    have c3 := (hv.op k a b').1
    have eN : opN (us v i x) k = opN v k := e _ (by omega)
    refine ⟨?_, ?_, ?_, fun j c1 c2 => ?_⟩
    · rw [eN, eu _ _ (by omega)]; exact k1
    · by_cases q5 : i = 31 + 9 * k
      · have : b = p + 13 + 4 * k ∧ c = 4 ∧ y = x := by omega
        obtain ⟨r1, r2, r3⟩ := this
        subst r1; subst r2; subst q5
        rw [eue, show opG (us v (31 + 9 * k) x) k = x from us_e rfl]; exact r3
      · rw [eu _ _ (by omega), show opG (us v i x) k = opG v k from us_n (by omega)]; exact k2
    · by_cases q5 : i = 32 + 9 * k
      · have : b = p + 13 + 4 * k ∧ c = 5 ∧ y = x := by omega
        obtain ⟨r1, r2, r3⟩ := this
        subst r1; subst r2; subst q5
        rw [eue, show opP (us v (32 + 9 * k) x) k = x from us_e rfl]; exact r3
      · rw [eu _ _ (by omega), show opP (us v i x) k = opP v k from us_n (by omega)]; exact k3
    · rw [eN] at c2
      rw [show opK (us v i x) k j = opK v k j from e _ (by omega), show opX (us v i x) k j = opX v k j from e _ (by omega), eu _ _ (by omega), eu _ _ (by omega)]
      exact k4 j c1 c2
  · rw [e 10 j10] at b'
    rw [e _ (by omega), eu p 19 j19, eu _ _ (by omega)]
    exact h15 ago j a b' c' d'
/-- guests at the boot -/
theorem bootV_g0 {v : Vw} {k : Int} (h : ¬ (115 ≤ k ∧ k < 128)) : bootV v k = setG v 0 0 (0, 1, 0, 0, 0, fun k => v (22 + k)) 0 k := by
  unfold bootV
  exact setG_o (by unfold guA; omega)
theorem setG_0 {v : Vw} {i pc cl : Int} {m : Ms} : setG v i pc m cl (guA i) = pc := if_pos rfl
theorem setG_1 {v : Vw} {i pc cl : Int} {m : Ms} : setG v i pc m cl (guA i + 1) = m.1 := by unfold setG; rw [if_neg (by omega), if_pos rfl]
theorem setG_2 {v : Vw} {i pc cl : Int} {m : Ms} : setG v i pc m cl (guA i + 2) = m.2.1 := by unfold setG; rw [if_neg (by omega), if_neg (by omega), if_pos rfl]
theorem setG_3 {v : Vw} {i pc cl : Int} {m : Ms} : setG v i pc m cl (guA i + 3) = m.2.2.1 := by unfold setG; rw [if_neg (by omega), if_neg (by omega), if_neg (by omega), if_pos rfl]
theorem setG_4 {v : Vw} {i pc cl : Int} {m : Ms} : setG v i pc m cl (guA i + 4) = cl := by unfold setG; rw [if_neg (by omega), if_neg (by omega), if_neg (by omega), if_neg (by omega), if_pos rfl]
theorem setG_5 {v : Vw} {i pc cl k : Int} {m : Ms} (h : 0 ≤ k ∧ k < 8) : setG v i pc m cl (guA i + 5 + k) = m.2.2.2.2.2 k := by
  unfold setG
  rw [if_neg (by omega), if_neg (by omega), if_neg (by omega), if_neg (by omega), if_neg (by omega), if_pos (by omega), show guA i + 5 + k - (guA i + 5) = k by omega]
theorem RelG.boot {f g : Ci} {q s i : Int} {v : Vw} (hi : i = 0 ∨ i = 1) (h : g q 1 = 0 ∧ g q 2 = s ∧ g (q + 1) 6 = f (q + 1) 6 ∧ g (q + 1) 1 = 0 ∧ g (q + 1) 2 = 1 ∧ g (q + 1) 3 = 0 ∧ g (q + 1) 4 = 0 ∧ ∀ k, 0 ≤ k → k < 8 → g (q + 2) ((k + s) % 8) = v (22 + k)) (hs : f (q + 1) 6 = 0 ∨ f (q + 1) 6 = 1) : RelG g q s (bootV v) i := by
  obtain ⟨h1, h2, h3, h4, h5, h6, h7, h8⟩ := h
  have e : ∀ k, guA i ≤ k → k < guA i + 13 → ∃ w, bootV v k = setG w i 0 (0, 1, 0, 0, 0, fun k => v (22 + k)) 0 k := fun k a b => by
    rcases hi with rfl | rfl
    · exact ⟨v, bootV_g0 (by unfold guA at b; omega)⟩
    · exact ⟨_, rfl⟩
  refine ⟨?_, h2, by rw [h3]; exact hs, ?_, ?_, ?_, ?_, fun k a b => ?_⟩
  · obtain ⟨w, ew⟩ := e (guA i) (by omega) (by omega)
    rw [ew, setG_0]; exact h1
  · obtain ⟨w, ew⟩ := e (guA i + 1) (by omega) (by omega)
    rw [ew, setG_1]; exact h4
  · obtain ⟨w, ew⟩ := e (guA i + 2) (by omega) (by omega)
    rw [ew, setG_2]; exact h5
  · obtain ⟨w, ew⟩ := e (guA i + 3) (by omega) (by omega)
    rw [ew, setG_3]; exact h6
  · obtain ⟨w, ew⟩ := e (guA i + 4) (by omega) (by omega)
    rw [ew, setG_4]; exact h7
  · obtain ⟨w, ew⟩ := e (guA i + 5 + k) (by omega) (by omega)
    rw [ew, setG_5 ⟨a, b⟩]; exact h8 k a b
