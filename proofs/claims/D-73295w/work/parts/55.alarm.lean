/-! GuestView$State: alarms -/
theorem caughtV_p {v : Vw} {i : Int} : caughtV v i (guA i) = v 4 := (us_n (by omega)).trans (us_e rfl)
theorem caughtV_m {v : Vw} {i : Int} : caughtV v i (guA i + 2) = 1 := us_e rfl
theorem caughtV_o {v : Vw} {i k : Int} (h : ¬ k = guA i) (h2 : ¬ k = guA i + 2) : caughtV v i k = v k := (us_n h2).trans (us_n h)
theorem caughtV_eqB {v : Vw} {i : Int} (hi : i = 0 ∨ i = 1) : eqB v (caughtV v i) := fun k hk => caughtV_o (by unfold guA; omega) (by unfold guA; omega)
theorem RelS.eqB {sh : Sh} {f : Ci} {cr : Cr} {B T p N : Int} {v v' : Vw} (h : RelS sh f cr B T p v N) (hv : okB v) (he : eqB v v') : RelS sh f cr B T p v' N :=
  ⟨h.1.eqB hv he, h.2.1.eqM hv he.m, h.2.2.eqM he.m⟩
theorem okGu.caught {v : Vw} {i : Int} (hv : okB v) (h : okGu v i) : okGu (caughtV v i) i := by
  have h4 := hv.2.2.2.2.1
  unfold okGu guM okM at h ⊢
  dsimp only at h ⊢
  rw [caughtV_p, caughtV_m, caughtV_o (by omega) (by omega), caughtV_o (by omega) (by omega), caughtV_o (by omega) (by omega)]
  refine ⟨by omega, h.2.1, Or.inr rfl, h.2.2.2.1, h.2.2.2.2.1, h.2.2.2.2.2.1, fun k => ?_⟩
  rw [caughtV_o (by omega) (by omega)]
  exact h.2.2.2.2.2.2 k
theorem okA.caught0 {v : Vw} (h : okA v) : okA (caughtV v 0) := ⟨h.1.eqB (caughtV_eqB (Or.inl rfl)), h.2.1.caught h.1, h.2.2.eqv fun k a b => caughtV_o (by unfold guA at *; omega) (by unfold guA at *; omega)⟩
theorem okA.caught1 {v : Vw} (h : okA v) : okA (caughtV v 1) := ⟨h.1.eqB (caughtV_eqB (Or.inr rfl)), h.2.1.eqv fun k a b => caughtV_o (by unfold guA at *; omega) (by unfold guA at *; omega), h.2.2.caught h.1⟩
theorem RelG.caught {f : Ci} {q s i : Int} {v : Vw} (h : RelG f q s v i) : RelG (up (up f (q + 1) 2 1) q 1 (v 4)) q s (caughtV v i) i := by
  obtain ⟨h1, h2, h3, h4, h5, h6, h7, h8⟩ := h
  refine ⟨?_, ?_, ?_, ?_, ?_, ?_, ?_, fun k a b => ?_⟩
  · simp (disch := omega) only [rdI_e, rdI_n, rdC_i, rdC_o, rdW, rdR, rdU_e, rdU_n]
    exact caughtV_p.symm
  · simp (disch := omega) only [rdI_e, rdI_n, rdC_i, rdC_o, rdW, rdR, rdU_e, rdU_n]
    exact h2
  · simp (disch := omega) only [rdI_e, rdI_n, rdC_i, rdC_o, rdW, rdR, rdU_e, rdU_n]
    exact h3
  · rw [caughtV_o (by omega) (by omega)]
    simp (disch := omega) only [rdI_e, rdI_n, rdC_i, rdC_o, rdW, rdR, rdU_e, rdU_n]
    exact h4
  · simp (disch := omega) only [rdI_e, rdI_n, rdC_i, rdC_o, rdW, rdR, rdU_e, rdU_n]
    exact caughtV_m.symm
  · rw [caughtV_o (by omega) (by omega)]
    simp (disch := omega) only [rdI_e, rdI_n, rdC_i, rdC_o, rdW, rdR, rdU_e, rdU_n]
    exact h6
  · rw [caughtV_o (by omega) (by omega)]
    simp (disch := omega) only [rdI_e, rdI_n, rdC_i, rdC_o, rdW, rdR, rdU_e, rdU_n]
    exact h7
  · rw [caughtV_o (by omega) (by omega)]
    simp (disch := omega) only [rdI_e, rdI_n, rdC_i, rdC_o, rdW, rdR, rdU_e, rdU_n]
    exact h8 k a b
theorem RelA.caught0 {sh : Sh} {f : Ci} {cr : Cr} {B T p N : Int} {v : Vw} (h : RelA sh f cr B T p v N) (hv : okB v) (hB : p + 44 < B) : RelA sh (up (up f (p + 7 + 1) 2 1) (p + 7) 1 (v 4)) cr B T p (caughtV v 0) N := by
  obtain ⟨h1, h2, h3⟩ := h
  have hf : Fo (p + 7) (p + 9) f (up (up f (p + 7 + 1) 2 1) (p + 7) 1 (v 4)) := fun b k r => by simp (disch := omega) only [rdI_e, rdI_n, rdC_i, rdC_o, rdW, rdR, rdU_e, rdU_n]
  refine ⟨(h1.fr hv (fun b k x1 x2 x3 => hf b k (by omega)) hB).eqB hv (caughtV_eqB (Or.inl rfl)), h2.caught, ?_⟩
  rw [caughtV_o (by unfold guA; omega) (by unfold guA; omega)]
  exact (RelG.eqv h3 fun k a b => caughtV_o (by unfold guA at *; omega) (by unfold guA at *; omega)).fo hf (by omega)
theorem RelA.caught1 {sh : Sh} {f : Ci} {cr : Cr} {B T p N : Int} {v : Vw} (h : RelA sh f cr B T p v N) (hv : okB v) (hB : p + 44 < B) : RelA sh (up (up f (p + 10 + 1) 2 1) (p + 10) 1 (v 4)) cr B T p (caughtV v 1) N := by
  obtain ⟨h1, h2, h3⟩ := h
  have hf : Fo (p + 10) (p + 12) f (up (up f (p + 10 + 1) 2 1) (p + 10) 1 (v 4)) := fun b k r => by simp (disch := omega) only [rdI_e, rdI_n, rdC_i, rdC_o, rdW, rdR, rdU_e, rdU_n]
  refine ⟨(h1.fr hv (fun b k x1 x2 x3 => hf b k (by omega)) hB).eqB hv (caughtV_eqB (Or.inr rfl)), ?_, ?_⟩
  · exact (RelG.eqv h2 fun k a b => caughtV_o (by unfold guA at *; omega) (by unfold guA at *; omega)).fo hf (by omega)
  · rw [caughtV_o (by unfold guA; omega) (by unfold guA; omega)]
    exact h3.caught
section XT
variable {G : GW} {d : Nat} {M : Mem} {B T p N : Int} {v : Vw}
theorem s_X3_alarms (hd : 12 ≤ d) (h : StS (msh M) (mcr M) p) (hR : RelA (msh M) (mci M) (mcr M) B T p v N) (hv : okA v) (hN : N ≤ 1000000000) (hB : p + 44 < B) : CS G d mX3_alarms [dR p] M (postN fun M1 => ∃ g, M1 = wI M g ∧ RelA (msh M) g (mcr M) B T p (tickA v) (N + 1) ∧ okA (tickA v) ∧ Fo p (p + 12) (mci M) g) := by
  have hh := h
  obtain ⟨p0, p1, ⟨c0, c1, c2, c3, c4, c5, c6, c7⟩, ⟨t1, t2, t3, t4, t5, t6⟩, p5, p6, p7⟩ := h
  have hs7 : msh M (p + 7) = some (4, 0) := p5.2.1
  have hs10 : msh M (p + 10) = some (4, 0) := p6.2.1
  have e1 : mci M (p + 10) 1 = v (guA 1) := hR.2.2.1
  refine CS.mk (by decide) (Nat.le_of_ble_eq_true rfl) ?_
  refine x_aload_n dX3_alarms_0 rfl rfl ?_
  refine x_iconst dX3_alarms_1 rfl ?_
  refine x_iconst dX3_alarms_2 rfl ?_
  refine x_aload_n dX3_alarms_3 rfl rfl ?_
  refine g_getR (kI := 7) rfl dX3_alarms_4 fX3_43_3 (by assumption) (by assumption) ?_
  refine g_getI (kI := 1) rfl dX3_alarms_7 fX3_138_4 (by assumption) ?_
  rw [e1]
  refine g_callN (vs := [_, _, _, _]) (d' := d - 1) rfl (s_X3_writes (by omega) hh hR.1.1 hv.1 hN) dX3_alarms_10 kX3_185 (by omega) (by decide) rfl (Nat.le_of_ble_eq_true rfl) (rcv_o (by assumption) rfl) (fun M10 h10 => ?_)
  obtain ⟨g1, hM10, a1, a2, a3⟩ := h10
  subst hM10
  have hR1 := hR.tell hv.1 hB a1 a2 a3
  have hv1 : okA (tellV v (-1) 4 (v (guA 1))) := hv.tell
  have e4 : mci (wI M g1) p 12 = tellV v (-1) 4 (v (guA 1)) 4 := a1.2.2.2.1
  refine x_aload_n dX3_alarms_13 rfl rfl ?_
  refine g_getR (kI := 6) rfl dX3_alarms_14 fX3_39_3 (by assumption) (by assumption) ?_
  refine x_aload_n dX3_alarms_17 rfl rfl ?_
  refine g_getI (kI := 12) rfl dX3_alarms_18 fX3_82_3 (by assumption) ?_
  rw [e4]
  refine g_callN (vs := [_, _]) (d' := d - 1) rfl (s_X4_jumps (M := wI M g1) (by omega) p5) dX3_alarms_21 kX3_155 (by omega) (by decide) rfl (Nat.le_of_ble_eq_true rfl) (rcv_o (by assumption) rfl) (fun M21 h21 => ?_)
  subst h21
  have hR2 := hR1.caught0 hv1.1 hB
  have hv2 := hv1.caught0
  have e5 : mci (wI (wI M g1) (up (up (mci (wI M g1)) (p + 7 + 1) 2 1) (p + 7) 1 (tellV v (-1) 4 (v (guA 1)) 4))) p 12 = caughtV (tellV v (-1) 4 (v (guA 1))) 0 4 := hR2.1.1.2.2.2.1
  refine x_aload_n dX3_alarms_24 rfl rfl ?_
  refine g_getR (kI := 7) rfl dX3_alarms_25 fX3_43_3 (by assumption) (by assumption) ?_
  refine x_aload_n dX3_alarms_28 rfl rfl ?_
  refine g_getI (kI := 12) rfl dX3_alarms_29 fX3_82_3 (by assumption) ?_
  rw [e5]
  refine g_callN (vs := [_, _]) (d' := d - 1) rfl (s_X4_jumps (by omega) p6) dX3_alarms_32 kX3_155 (by omega) (by decide) rfl (Nat.le_of_ble_eq_true rfl) (rcv_o (by assumption) rfl) (fun M32 h32 => ?_)
  subst h32
  refine x_vreturn rfl dX3_alarms_35 ?_
  have hR3 := hR2.caught1 hv2.1 hB
  refine ⟨rfl, _, rfl, hR3, hv2.caught1, fun b k r => ?_⟩
  have := a3 b k (by omega) (by omega)
  simp (disch := omega) only [rdI_e, rdI_n, rdC_i, rdC_o, rdW, rdR, rdU_e, rdU_n]
  exact this
end XT

