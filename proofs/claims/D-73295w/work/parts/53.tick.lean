/-! PURE LAYER: a tick -/
noncomputable def iV (p : Prop) (a b : Vw) : Vw := @ite Vw p (Classical.propDecidable p) a b
theorem iV_t {p : Prop} {a b : Vw} (h : p) : iV p a b = a := by unfold iV; exact if_pos h
theorem iV_f {p : Prop} {a b : Vw} (h : ¬ p) : iV p a b = b := by unfold iV; exact if_neg h
def okA (v : Vw) : Prop := okB v ∧ okGu v 0 ∧ okGu v 1
def caughtV (v : Vw) (i : Int) : Vw := us (us v (guA i) (v 4)) (guA i + 2) 1
def tickA (v : Vw) : Vw := caughtV (caughtV (tellV v (-1) 4 (v (guA 1))) 0) 1
def opH (v : Vw) : Int := if v (guA 1) < v 3 then opAtV v 1 else -1
noncomputable def stepV (v : Vw) : Vw := hostV (bareV v 0)
noncomputable def whatV (v : Vw) : Int := hostH (bareV v 0)
noncomputable def tickW (v : Vw) : Vw := if whatV v ≤ 2 then tellV (stepV v) (opH v) (whatV v) (v (guA 1)) else stepV v
noncomputable def tickP (v : Vw) : Vw := if whatV v ≤ 1 then us (tickW v) 9 (if v 9 + worV v (opH v) < 9999 then v 9 + worV v (opH v) else 9999) else tickW v
noncomputable def afterV (v w : Vw) (op : Int) : Vw := us (iV (likeG v ∧ ¬ likeG w) (tellV w op 3 (v (guA 1))) w) 8 (if v 8 + 1 < 9999 then v 8 + 1 else 9999)
/-- whether there is an alarm, of a bench of which the seed was drawn -/
def alarmV (v : Vw) : Prop := drawV (seedV (v 11)) % 100 < v 7
noncomputable def tick0 (v : Vw) (alarm : Prop) : Vw := iV alarm (afterV v (tickA v) (-1)) (afterV v (tickP v) (opH v))
/-- a tick; with draws or calm -/
noncomputable def tickV (v : Vw) (draws : Prop) : Vw := iV draws (tick0 (drawnV v) (alarmV v)) (tick0 v False)
/-- whether the operation of the hosted guest traps -/
def trapsT (v : Vw) (draws : Prop) : Prop := (draws ∧ ¬ alarmV v ∧ whatV (drawnV v) ≤ 1) ∨ (¬ draws ∧ whatV v ≤ 1)
theorem okGu.eqv {v v' : Vw} {i : Int} (h : okGu v i) (he : ∀ k, guA i ≤ k → k < guA i + 13 → v' k = v k) : okGu v' i := by
  unfold okGu guM okM at h ⊢
  dsimp only at h ⊢
  rw [he _ (by omega) (by omega), he _ (by omega) (by omega), he _ (by omega) (by omega), he _ (by omega) (by omega), he _ (by omega) (by omega)]
  refine ⟨h.1, h.2.1, h.2.2.1, h.2.2.2.1, h.2.2.2.2.1, h.2.2.2.2.2.1, fun k => ?_⟩
  rw [he _ (by omega) (by omega)]
  exact h.2.2.2.2.2.2 k
theorem bareV_eqB {v : Vw} {i : Int} (hi : i = 0 ∨ i = 1) : eqB v (bareV v i) := by
  unfold bareV
  split
  · exact fun k _ => rfl
  · split
    · exact eqB_set hi
    · exact eqB_set hi
theorem bareV_o {v : Vw} {i k : Int} (h : ¬ (guA i ≤ k ∧ k < guA i + 13)) : bareV v i k = v k := by
  unfold bareV
  split
  · rfl
  · split
    · exact setG_o h
    · exact setG_o h
theorem bareV_ok {v : Vw} {i : Int} (hv : okB v) (hg : okGu v i) : okGu (bareV v i) i := by
  have h4 := hv.2.2.2.2.1
  unfold bareV
  split
  · exact hg
  · rename_i h3
    have hp := hv.pr (v (guA i)) hg.1.1 (by omega)
    have ho := hv.op (opAtV v i) hp.1 hp.2
    split
    · exact setG_ok (by omega) (mdM_ok (Or.inr rfl) hg.2) (by omega)
    · exact setG_ok (nextPc_r hg.1.1) (opD_ok ho hg.2) (by omega)
theorem hostV_eqB {v : Vw} : eqB v (hostV v) := by
  unfold hostV
  split
  · exact fun k _ => rfl
  · split
    · exact eqB_set (Or.inr rfl)
    · split
      · exact eqB_set (Or.inr rfl)
      · exact eqB_set (Or.inr rfl)
theorem hostV_o {v : Vw} {k : Int} (h : ¬ (guA 1 ≤ k ∧ k < guA 1 + 13)) : hostV v k = v k := by
  unfold hostV
  split
  · rfl
  · split
    · exact setG_o h
    · split
      · exact setG_o h
      · exact setG_o h
theorem hostV_ok {v : Vw} (hv : okB v) (hg : okGu v 1) : okGu (hostV v) 1 := by
  have h4 := hv.2.2.2.2.1
  have h2 : v (guA 1 + 2) = 0 ∨ v (guA 1 + 2) = 1 := hg.2.2.1
  unfold hostV
  split
  · exact hg
  · rename_i h3
    have hp := hv.pr (v (guA 1)) hg.1.1 (by omega)
    have ho := hv.op (opAtV v 1) hp.1 hp.2
    split
    · exact setG_ok (by omega) (mdM_ok (Or.inr rfl) hg.2) (by omega)
    · split
      · exact setG_ok (nextPc_r hg.1.1) (opD_ok ho hg.2) (by omega)
      · exact setG_ok (nextPc_r hg.1.1) (mdM_ok h2 (trM_ok (opD_ok ho (trM_ok (mdM_ok (Or.inl rfl) hg.2))))) (by omega)
theorem us_okB {v : Vw} {i x : Int} (h : okB v) (hi : i = 8 ∧ 0 ≤ x ∧ x ≤ 9999 ∨ i = 9 ∧ 0 ≤ x ∧ x ≤ 9999 ∨ i = 11 ∨ 102 ≤ i) : okB (us v i x) := by
  have hv8 := h.n8
  have hv0 := h.1.1
  have e : ∀ k, ¬ k = i → us v i x k = v k := fun k q => us_n q
  obtain ⟨h1, h2, h3, h4, h5, h6, h7, h8, h9, h10, h11, h12, h13, h14⟩ := h
  have e8 : 0 ≤ us v i x 8 ∧ us v i x 8 ≤ 9999 := by
    by_cases q : (8 : Int) = i
    · rw [us_e q]; omega
    · rw [us_n q]; exact h9
  have e9 : 0 ≤ us v i x 9 ∧ us v i x 9 ≤ 9999 := by
    by_cases q : (9 : Int) = i
    · rw [us_e q]; omega
    · rw [us_n q]; exact h10
  refine ⟨by rw [e 0 (by omega)]; exact h1, by rw [e 1 (by omega)]; exact h2, by rw [e 2 (by omega)]; exact h3, by rw [e 3 (by omega)]; exact h4, by rw [e 4 (by omega)]; exact h5, by rw [e 5 (by omega)]; exact h6, by rw [e 6 (by omega)]; exact h7, by rw [e 7 (by omega)]; exact h8, e8, e9, by rw [e 10 (by omega)]; exact h11, fun k a b => ?_, fun k a b => ?_, fun k a b => ?_⟩
  · rw [e 3 (by omega)] at b; rw [e _ (by omega), e 0 (by omega)]; exact h12 k a b
  · rw [e _ (by omega)]; exact h13 k a b
  · rw [e 0 (by omega)] at b
    obtain ⟨k1, k2, k3, k4⟩ := h14 k a b
    have eN : opN (us v i x) k = opN v k := e _ (by omega)
    refine ⟨by rw [eN]; exact k1, by rw [show opG (us v i x) k = opG v k from e _ (by omega)]; exact k2, by rw [show opP (us v i x) k = opP v k from e _ (by omega)]; exact k3, fun j c1 c2 => ?_⟩
    rw [eN] at c2
    rw [show opK (us v i x) k j = opK v k j from e _ (by omega), show opX (us v i x) k j = opX v k j from e _ (by omega)]
    exact k4 j c1 c2
