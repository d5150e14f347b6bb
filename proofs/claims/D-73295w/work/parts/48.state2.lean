/-! GuestView$State: the log, seeds, boots -/
/-- one more row of the log -/
def tellV (v : Vw) (op what pc : Int) : Vw := fun k =>
  if k = 10 then (if v 10 < 60 then v 10 + 1 else 60) else if k = 128 then v 8 else if k = 129 then op else if k = 130 then what else if k = 131 then pc
  else if 132 ≤ k ∧ k < 368 then v (k - 4) else v k
theorem tellV_o {v : Vw} {op what pc k : Int} (h : ¬ k = 10) (h2 : ¬ (128 ≤ k ∧ k < 368)) : tellV v op what pc k = v k := by
  unfold tellV
  rw [if_neg h, if_neg (by omega), if_neg (by omega), if_neg (by omega), if_neg (by omega), if_neg (by omega)]
theorem tellV_10 {v : Vw} {op what pc : Int} : tellV v op what pc 10 = (if v 10 < 60 then v 10 + 1 else 60) := if_pos rfl
theorem tellV_0 {v : Vw} {op what pc : Int} : tellV v op what pc 128 = v 8 ∧ tellV v op what pc 129 = op ∧ tellV v op what pc 130 = what ∧ tellV v op what pc 131 = pc := by
  refine ⟨?_, ?_, ?_, ?_⟩ <;> rfl
theorem tellV_s {v : Vw} {op what pc k : Int} (h : 132 ≤ k ∧ k < 368) : tellV v op what pc k = v (k - 4) := by
  unfold tellV
  rw [if_neg (by omega), if_neg (by omega), if_neg (by omega), if_neg (by omega), if_neg (by omega), if_pos h]
theorem okB.tell {v : Vw} {op what pc : Int} (h : okB v) : okB (tellV v op what pc) := by
  have hv8 := h.n8
  have hv0 := h.1.1
  obtain ⟨h1, h2, h3, h4, h5, h6, h7, h8, h9, h10, h11, h12, h13, h14⟩ := h
  have e : ∀ k, k < 128 → ¬ k = 10 → tellV v op what pc k = v k := fun k a b => tellV_o b (by omega)
  refine ⟨by rw [e 0 (by omega) (by omega)]; exact h1, by rw [e 1 (by omega) (by omega)]; exact h2, by rw [e 2 (by omega) (by omega)]; exact h3, by rw [e 3 (by omega) (by omega)]; exact h4, by rw [e 4 (by omega) (by omega)]; exact h5, by rw [e 5 (by omega) (by omega)]; exact h6, by rw [e 6 (by omega) (by omega)]; exact h7, by rw [e 7 (by omega) (by omega)]; exact h8, by rw [e 8 (by omega) (by omega)]; exact h9, by rw [e 9 (by omega) (by omega)]; exact h10, by rw [tellV_10]; split <;> omega, fun k a b => ?_, fun k a b => ?_, fun k a b => ?_⟩
  · rw [e 3 (by omega) (by omega)] at b; rw [e _ (by omega) (by omega), e 0 (by omega) (by omega)]; exact h12 k a b
  · rw [e _ (by omega) (by omega)]; exact h13 k a b
  · rw [e 0 (by omega) (by omega)] at b
    obtain ⟨k1, k2, k3, k4⟩ := h14 k a b
    have eN : opN (tellV v op what pc) k = opN v k := e _ (by omega) (by omega)
    refine ⟨by rw [eN]; exact k1, by rw [show opG (tellV v op what pc) k = opG v k from e _ (by omega) (by omega)]; exact k2, by rw [show opP (tellV v op what pc) k = opP v k from e _ (by omega) (by omega)]; exact k3, fun i c1 c2 => ?_⟩
    rw [eN] at c2
    rw [show opK (tellV v op what pc) k i = opK v k i from e _ (by omega) (by omega), show opX (tellV v op what pc) k i = opX v k i from e _ (by omega) (by omega)]
    exact k4 i c1 c2
/-- a seed drawn anew -/
def drawnV (v : Vw) : Vw := us v 11 (seedV (v 11))
section X3
variable {G : GW} {d : Nat} {M : Mem} {p q s N i : Int} {v : Vw}
theorem s_X3_writes {op what pc : Int} (hd : 10 ≤ d) (h : StS (msh M) (mcr M) p) (hB : RelB (mci M) p v N) (hv : okB v) (hN : N ≤ 1000000000) : CS G d mX3_writes [dR p, dI op, dI what, dI pc] M (postN fun M1 => ∃ g, M1 = wI M g ∧ RelB g p (tellV v op what pc) (N + 1) ∧ (∀ k, k ≠ 19 → g p k = mci M p k) ∧ ∀ b k, b ≠ p → b ≠ p + 4 → g b k = mci M b k) := by
  obtain ⟨p0, p1, ⟨c0, c1, c2, c3, c4, c5, c6, c7⟩, ⟨t1, t2, t3, t4, t5, t6⟩, p5, p6, p7⟩ := h
  have hBB := hB
  obtain ⟨h1, h2, h3, h4, h5, h6, h7, h8, h9, h10, h11, h12, h13, h14, h15⟩ := hB
  have hv8 := hv.n8
  have hv10 := hv.l60
  have e8 : mci M p 16 = v 8 := h8
  refine CS.mk (by decide) (Nat.le_of_ble_eq_true rfl) ?_
  refine x_aload_n dX3_writes_0 rfl rfl ?_
  refine g_getI (kI := 19) rfl dX3_writes_1 fX3_94_3 (by assumption) ?_
  refine x_bipush dX3_writes_4 rfl ?_
  first | refine x_iremN dX3_writes_6 (by omega) (by omega) ?_ | refine x_irem dX3_writes_6 (by omega) ?_
  refine x_iconst dX3_writes_7 rfl ?_
  first | refine x_imulN dX3_writes_8 (by unfold i32; omega) ?_ | refine x_imul dX3_writes_8 ?_
  refine x_istore (L' := [some _, some _, some _, some _, some _]) dX3_writes_9 (by decide) rfl ?_
  refine x_aload_n dX3_writes_11 rfl rfl ?_
  refine g_getR (kI := 3) rfl dX3_writes_12 fX3_27_3 (by assumption) (by assumption) ?_
  refine x_iload dX3_writes_15 rfl ?_
  refine x_aload_n dX3_writes_17 rfl rfl ?_
  refine g_getI (kI := 16) rfl dX3_writes_18 fX3_88_3 (by assumption) ?_
  refine x_iast (by omega) dX3_writes_21 (by assumption) (by omega) (by omega) ?_
  refine x_aload_n dX3_writes_22 rfl rfl ?_
  refine g_getR (kI := 3) rfl dX3_writes_23 fX3_27_3 (by assumption) (by assumption) ?_
  refine x_iload dX3_writes_26 rfl ?_
  refine x_iconst dX3_writes_28 rfl ?_
  first | refine x_iaddN dX3_writes_29 (by unfold i32; omega) ?_ | refine x_iadd dX3_writes_29 ?_
  refine x_iload_n dX3_writes_30 rfl rfl ?_
  refine x_iast (by omega) dX3_writes_31 (by assumption) (by omega) (by omega) ?_
  refine x_aload_n dX3_writes_32 rfl rfl ?_
  refine g_getR (kI := 3) rfl dX3_writes_33 fX3_27_3 (by assumption) (by assumption) ?_
  refine x_iload dX3_writes_36 rfl ?_
  refine x_iconst dX3_writes_38 rfl ?_
  first | refine x_iaddN dX3_writes_39 (by unfold i32; omega) ?_ | refine x_iadd dX3_writes_39 ?_
  refine x_iload_n dX3_writes_40 rfl rfl ?_
  refine x_iast (by omega) dX3_writes_41 (by assumption) (by omega) (by omega) ?_
  refine x_aload_n dX3_writes_42 rfl rfl ?_
  refine g_getR (kI := 3) rfl dX3_writes_43 fX3_27_3 (by assumption) (by assumption) ?_
  refine x_iload dX3_writes_46 rfl ?_
  refine x_iconst dX3_writes_48 rfl ?_
  first | refine x_iaddN dX3_writes_49 (by unfold i32; omega) ?_ | refine x_iadd dX3_writes_49 ?_
  refine x_iload_n dX3_writes_50 rfl rfl ?_
  refine x_iast (by omega) dX3_writes_51 (by assumption) (by omega) (by omega) ?_
  refine x_aload_n dX3_writes_52 rfl rfl ?_
  refine x_dup dX3_writes_53 rfl ?_
  refine g_getI (kI := 19) rfl dX3_writes_54 fX3_94_3 (by assumption) ?_
  rw [show ∀ a b c d' i1 i2 i3 i4, mci (mI (mI (mI (mI M (p + 4) i1 a) (p + 4) i2 b) (p + 4) i3 c) (p + 4) i4 d') p 19 = mci M p 19 from fun a b c d' i1 i2 i3 i4 => by simp (disch := omega) only [rdI_e, rdI_n, rdC_i, rdC_o, rdW, rdR, rdU_e, rdU_n]]
  refine x_iconst dX3_writes_57 rfl ?_
  first | refine x_iaddN dX3_writes_58 (by unfold i32; omega) ?_ | refine x_iadd dX3_writes_58 ?_
  refine g_putI (kI := 19) rfl dX3_writes_59 fX3_94_3 (by assumption) ?_
  refine x_vreturn rfl dX3_writes_62 ?_
  refine ⟨rfl, exI rfl ⟨?_, ?_, ?_⟩⟩
  · have ee : ∀ k, k < 128 → ¬ k = 10 → tellV v op what pc k = v k := fun k a b => tellV_o b (by omega)
    refine ⟨?_, ?_, ?_, ?_, ?_, ?_, ?_, ?_, ?_, ?_, ?_, fun k a b => ?_, fun k a b => ?_, fun k a b => ?_, fun ago j a b c e => ?_⟩
    · rw [ee 0 (by omega) (by omega)]; simp (disch := omega) only [rdI_e, rdI_n, rdC_i, rdC_o, rdW, rdR, rdU_e, rdU_n]; exact h1
    · rw [ee 3 (by omega) (by omega)]; simp (disch := omega) only [rdI_e, rdI_n, rdC_i, rdC_o, rdW, rdR, rdU_e, rdU_n]; exact h2
    · rw [ee 1 (by omega) (by omega)]; simp (disch := omega) only [rdI_e, rdI_n, rdC_i, rdC_o, rdW, rdR, rdU_e, rdU_n]; exact h3
    · rw [ee 4 (by omega) (by omega)]; simp (disch := omega) only [rdI_e, rdI_n, rdC_i, rdC_o, rdW, rdR, rdU_e, rdU_n]; exact h4
    · rw [ee 5 (by omega) (by omega)]; simp (disch := omega) only [rdI_e, rdI_n, rdC_i, rdC_o, rdW, rdR, rdU_e, rdU_n]; exact h5
    · rw [ee 6 (by omega) (by omega)]; simp (disch := omega) only [rdI_e, rdI_n, rdC_i, rdC_o, rdW, rdR, rdU_e, rdU_n]; exact h6
    · rw [ee 7 (by omega) (by omega)]; simp (disch := omega) only [rdI_e, rdI_n, rdC_i, rdC_o, rdW, rdR, rdU_e, rdU_n]; exact h7
    · rw [ee 8 (by omega) (by omega)]; simp (disch := omega) only [rdI_e, rdI_n, rdC_i, rdC_o, rdW, rdR, rdU_e, rdU_n]; exact h8
    · rw [ee 9 (by omega) (by omega)]; simp (disch := omega) only [rdI_e, rdI_n, rdC_i, rdC_o, rdW, rdR, rdU_e, rdU_n]; exact h9
    · rw [ee 11 (by omega) (by omega)]; simp (disch := omega) only [rdI_e, rdI_n, rdC_i, rdC_o, rdW, rdR, rdU_e, rdU_n]; exact h10
    · rw [tellV_10]; simp (disch := omega) only [rdI_e, rdI_n, rdC_i, rdC_o, rdW, rdR, rdU_e, rdU_n]; split <;> omega
    · rw [ee _ (by omega) (by omega)]; simp (disch := omega) only [rdI_e, rdI_n, rdC_i, rdC_o, rdW, rdR, rdU_e, rdU_n]; exact h12 k a b
    · rw [ee _ (by omega) (by omega)]; simp (disch := omega) only [rdI_e, rdI_n, rdC_i, rdC_o, rdW, rdR, rdU_e, rdU_n]; exact h13 k a b
    · rw [ee 0 (by omega) (by omega)] at b
      obtain ⟨k1, k2, k3, k4⟩ := h14 k a b
      have c3 := (hv.op k a b).1
      have eN : opN (tellV v op what pc) k = opN v k := ee _ (by omega) (by omega)
      refine ⟨?_, ?_, ?_, fun i c1 c2 => ?_⟩
      · rw [eN]; simp (disch := omega) only [rdI_e, rdI_n, rdC_i, rdC_o, rdW, rdR, rdU_e, rdU_n]; exact k1
      · rw [show opG (tellV v op what pc) k = opG v k from ee _ (by omega) (by omega)]; simp (disch := omega) only [rdI_e, rdI_n, rdC_i, rdC_o, rdW, rdR, rdU_e, rdU_n]; exact k2
      · rw [show opP (tellV v op what pc) k = opP v k from ee _ (by omega) (by omega)]; simp (disch := omega) only [rdI_e, rdI_n, rdC_i, rdC_o, rdW, rdR, rdU_e, rdU_n]; exact k3
      · rw [eN] at c2
        rw [show opK (tellV v op what pc) k i = opK v k i from ee _ (by omega) (by omega), show opX (tellV v op what pc) k i = opX v k i from ee _ (by omega) (by omega)]
        simp (disch := omega) only [rdI_e, rdI_n, rdC_i, rdC_o, rdW, rdR, rdU_e, rdU_n]
        exact k4 i c1 c2
    · rw [tellV_10] at b
      obtain ⟨u0, u1, u2, u3⟩ := @tellV_0 v op what pc
      rw [rdI_e (b := p) (k := 19) ⟨rfl, rfl⟩]
      by_cases ea : ago = 0
      · subst ea
        rw [rdI_n (by omega)]
        rcases (show j = 0 ∨ j = 1 ∨ j = 2 ∨ j = 3 by omega) with rfl | rfl | rfl | rfl
        · simp (disch := omega) only [rdI_e, rdI_n, rdC_i, rdC_o, rdW, rdR, rdU_e, rdU_n]
          show _ = tellV v op what pc 128
          rw [u0, e8]
        · simp (disch := omega) only [rdI_e, rdI_n, rdC_i, rdC_o, rdW, rdR, rdU_e, rdU_n]
          show _ = tellV v op what pc 129
          rw [u1]
        · simp (disch := omega) only [rdI_e, rdI_n, rdC_i, rdC_o, rdW, rdR, rdU_e, rdU_n]
          show _ = tellV v op what pc 130
          rw [u2]
        · simp (disch := omega) only [rdI_e, rdI_n, rdC_i, rdC_o, rdW, rdR, rdU_e, rdU_n]
          show _ = tellV v op what pc 131
          rw [u3]
      · have b2 : ago - 1 < v 10 := by split at b <;> omega
        have b3 : ago < 60 := by split at b <;> omega
        have w := h15 (ago - 1) j (by omega) b2 c e
        rw [tellV_s (by omega), show 128 + 4 * ago + j - 4 = 128 + 4 * (ago - 1) + j by omega, ← w, show mci M p 19 + 1 - 1 - ago = mci M p 19 - 1 - (ago - 1) by omega]
        simp (disch := omega) only [rdI_e, rdI_n, rdC_i, rdC_o, rdW, rdR, rdU_e, rdU_n]
  · intro k hk
    simp (disch := omega) only [rdI_e, rdI_n, rdC_i, rdC_o, rdW, rdR, rdU_e, rdU_n]
  · intro b k hb1 hb2
    simp (disch := omega) only [rdI_e, rdI_n, rdC_i, rdC_o, rdW, rdR, rdU_e, rdU_n]
theorem s_X3_isKept {ago : Int} (hd : 11 ≤ d) (h : StS (msh M) (mcr M) p) (hB : RelB (mci M) p v N) : CS G d mX3_isKept [dR p, dI ago] M (postI fun x M1 => x = vP (0 ≤ ago ∧ ago < v 10) ∧ M1 = M) := by
  obtain ⟨p0, p1, -⟩ := h
  have h11 := hB.2.2.2.2.2.2.2.2.2.2.1
  refine CS.mk (by decide) (Nat.le_of_ble_eq_true rfl) ?_
  refine x_iload_n dX3_isKept_0 rfl rfl ?_
  refine x_if_lt (tgt := 21) dX3_isKept_1 (by decide) (fun h1 => ?_) (fun h1 => ?_)
  · refine x_iconst dX3_isKept_21 rfl ?_
    refine x_zreturn (by first | exact Or.inl rfl | exact Or.inr rfl | exact vB_r _ | assumption | omega) rfl dX3_isKept_22 ?_
    refine ⟨_, rfl, ?_, rfl⟩
    first
    | exact (vP_t (by omega)).symm
    | exact (vP_f (by omega)).symm
  · refine x_iload_n dX3_isKept_4 rfl rfl ?_
    refine x_bipush dX3_isKept_5 rfl ?_
    refine x_aload_n dX3_isKept_7 rfl rfl ?_
    refine g_getI (kI := 19) rfl dX3_isKept_8 fX3_94_3 (by assumption) ?_
    refine g_callI (vs := [_, _]) (d' := d - 1) rfl (s_min (by omega)) dX3_isKept_11 kX3_130 (by omega) (by decide) rfl (Nat.le_of_ble_eq_true rfl) (rcv_n) (fun x11 M11 h11 => ?_)
    obtain ⟨e11, f11⟩ := h11
    have f11' := f11.symm
    subst f11'
    refine x_icmp_ge (tgt := 21) dX3_isKept_14 (by decide) (fun h14 => ?_) (fun h14 => ?_)
    · refine x_iconst dX3_isKept_21 rfl ?_
      refine x_zreturn (by first | exact Or.inl rfl | exact Or.inr rfl | exact vB_r _ | assumption | omega) rfl dX3_isKept_22 ?_
      refine ⟨_, rfl, ?_, rfl⟩
      first
      | exact (vP_t (by omega)).symm
      | exact (vP_f (by omega)).symm
    · refine x_iconst dX3_isKept_17 rfl ?_
      refine x_goto (tgt := 22) dX3_isKept_18 (by decide) ?_
      refine x_zreturn (by first | exact Or.inl rfl | exact Or.inr rfl | exact vB_r _ | assumption | omega) rfl dX3_isKept_22 ?_
      refine ⟨_, rfl, ?_, rfl⟩
      first
      | exact (vP_t (by omega)).symm
      | exact (vP_f (by omega)).symm
theorem s_X3_row {ago what : Int} (hd : 12 ≤ d) (h : StS (msh M) (mcr M) p) (hB : RelB (mci M) p v N) (hN : N ≤ 1000000000) (hw : 0 ≤ what ∧ what < 4) : CS G d mX3_row [dR p, dI ago, dI what] M (postI fun x M1 => x = (if 0 ≤ ago ∧ ago < v 10 then v (128 + 4 * ago + what) else -2) ∧ M1 = M) := by
  have hh := h
  obtain ⟨p0, p1, ⟨c0, c1, c2, c3, c4, c5, c6, c7⟩, ⟨t1, t2, t3, t4, t5, t6⟩, p5, p6, p7⟩ := h
  have h11 := hB.2.2.2.2.2.2.2.2.2.2.1
  by_cases hk : 0 ≤ ago ∧ ago < v 10
  · have h15 := hB.2.2.2.2.2.2.2.2.2.2.2.2.2.2 ago what hk.1 hk.2 hw.1 hw.2
    rw [if_pos hk]
    refine CS.mk (by decide) (Nat.le_of_ble_eq_true rfl) ?_
    refine x_aload_n dX3_row_0 rfl rfl ?_
    refine x_iload_n dX3_row_1 rfl rfl ?_
    refine g_callI (vs := [_, _]) (d' := d - 1) rfl (s_X3_isKept (by omega) hh hB) dX3_row_2 kX3_135 (by omega) (by decide) rfl (Nat.le_of_ble_eq_true rfl) (rcv_o (by assumption) rfl) (fun x2 M2 h2 => ?_)
    obtain ⟨e2, f2⟩ := h2
    have f2' := f2.symm
    subst f2'
    rw [vP_t hk] at e2
    subst e2
    refine x_if_eq (tgt := 31) dX3_row_5 (by decide) (fun h5 => ?_) (fun h5 => ?_)
    · exact absurd h5 (by decide)
    · refine x_aload_n dX3_row_8 rfl rfl ?_
      refine g_getR (kI := 3) rfl dX3_row_9 fX3_27_3 (by assumption) (by assumption) ?_
      refine x_aload_n dX3_row_12 rfl rfl ?_
      refine g_getI (kI := 19) rfl dX3_row_13 fX3_94_3 (by assumption) ?_
      refine x_iconst dX3_row_16 rfl ?_
      first | refine x_isubN dX3_row_17 (by unfold i32; omega) ?_ | refine x_isub dX3_row_17 ?_
      refine x_iload_n dX3_row_18 rfl rfl ?_
      first | refine x_isubN dX3_row_19 (by unfold i32; omega) ?_ | refine x_isub dX3_row_19 ?_
      refine x_bipush dX3_row_20 rfl ?_
      first | refine x_iremN dX3_row_22 (by omega) (by omega) ?_ | refine x_irem dX3_row_22 (by omega) ?_
      refine x_iconst dX3_row_23 rfl ?_
      first | refine x_imulN dX3_row_24 (by unfold i32; omega) ?_ | refine x_imul dX3_row_24 ?_
      refine x_iload_n dX3_row_25 rfl rfl ?_
      first | refine x_iaddN dX3_row_26 (by unfold i32; omega) ?_ | refine x_iadd dX3_row_26 ?_
      refine x_iald dX3_row_27 (by assumption) (by omega) (by omega) ?_
      refine x_goto (tgt := 33) dX3_row_28 (by decide) ?_
      refine x_ireturn rfl dX3_row_33 ?_
      exact ⟨_, rfl, h15, rfl⟩
  · rw [if_neg hk]
    refine CS.mk (by decide) (Nat.le_of_ble_eq_true rfl) ?_
    refine x_aload_n dX3_row_0 rfl rfl ?_
    refine x_iload_n dX3_row_1 rfl rfl ?_
    refine g_callI (vs := [_, _]) (d' := d - 1) rfl (s_X3_isKept (by omega) hh hB) dX3_row_2 kX3_135 (by omega) (by decide) rfl (Nat.le_of_ble_eq_true rfl) (rcv_o (by assumption) rfl) (fun x2 M2 h2 => ?_)
    obtain ⟨e2, f2⟩ := h2
    have f2' := f2.symm
    subst f2'
    rw [vP_f hk] at e2
    subst e2
    refine x_if_eq (tgt := 31) dX3_row_5 (by decide) (fun h5 => ?_) (fun h5 => ?_)
    · refine x_bipush dX3_row_31 rfl ?_
      refine x_ireturn rfl dX3_row_33 ?_
      exact ⟨_, rfl, rfl, rfl⟩
    · exact absurd rfl h5
theorem s_X3_draw {n : Int} (hd : 10 ≤ d) (h : StS (msh M) (mcr M) p) (hB : RelB (mci M) p v N) (hn : 0 < n) : CS G d mX3_draw [dR p, dI n] M (postI fun x M1 => ∃ g, M1 = wI M g ∧ x = drawV (seedV (v 11)) % n ∧ g = up (mci M) p 18 (seedV (v 11))) := by
  obtain ⟨p0, p1, -⟩ := h
  have h10 := hB.2.2.2.2.2.2.2.2.2.1
  have dn : 0 ≤ drawV (seedV (v 11)) := by unfold drawV; omega
  refine CS.mk (by decide) (Nat.le_of_ble_eq_true rfl) ?_
  refine x_aload_n dX3_draw_0 rfl rfl ?_
  refine x_ldc (z := 1103515245) dX3_draw_1 q1420 (by decide) ?_
  refine x_aload_n dX3_draw_3 rfl rfl ?_
  refine g_getI (kI := 18) rfl dX3_draw_4 fX3_56_3 (by assumption) ?_
  refine x_imul dX3_draw_7 ?_
  refine x_sipush dX3_draw_8 rfl ?_
  refine x_iadd dX3_draw_11 ?_
  rw [h10]
  show WP G d _ _ _ (dI (seedV (v 11)) :: _) _ _
  refine g_putI (kI := 18) rfl dX3_draw_12 fX3_56_3 (by assumption) ?_
  refine x_aload_n dX3_draw_15 rfl rfl ?_
  refine g_getI (kI := 18) rfl dX3_draw_16 fX3_56_3 (by assumption) ?_
  rw [show mci (mI M p 18 (seedV (v 11))) p 18 = seedV (v 11) from if_pos ⟨rfl, rfl⟩]
  refine x_bipush dX3_draw_19 rfl ?_
  refine x_iushr dX3_draw_21 ?_
  refine x_sipush dX3_draw_22 rfl ?_
  refine x_iand dX3_draw_25 ?_
  rw [draw_u]
  refine x_iload_n dX3_draw_26 rfl rfl ?_
  first | refine x_iremN dX3_draw_27 (by omega) (by omega) ?_ | refine x_irem dX3_draw_27 (by omega) ?_
  refine x_ireturn rfl dX3_draw_28 ?_
  exact ⟨_, rfl, _, rfl, rfl, rfl⟩
theorem s_X3_boots {r : Int} (hd : 11 ≤ d) (h : StS (msh M) (mcr M) p) (hq : GuS (msh M) (mcr M) q) (hr : GuS (msh M) (mcr M) r) (hB : RelB (mci M) p v N) (hv : okB v) (hp : GP p q) (hp' : GP p r) (hqr : q + 2 < r ∨ r + 2 < q) : CS G d mX3_boots [dR p, dR q, dR r] M (postN fun M1 => ∃ g, M1 = wI M g ∧ (g q 1 = 0 ∧ g q 2 = 0 ∧ g (q + 1) 6 = mci M (q + 1) 6 ∧ g (q + 1) 1 = 0 ∧ g (q + 1) 2 = 1 ∧ g (q + 1) 3 = 0 ∧ g (q + 1) 4 = 0 ∧ ∀ k, 0 ≤ k → k < 8 → g (q + 2) ((k + 0) % 8) = v (22 + k)) ∧ (g r 1 = 0 ∧ g r 2 = v 5 ∧ g (r + 1) 6 = mci M (r + 1) 6 ∧ g (r + 1) 1 = 0 ∧ g (r + 1) 2 = 1 ∧ g (r + 1) 3 = 0 ∧ g (r + 1) 4 = 0 ∧ ∀ k, 0 ≤ k → k < 8 → g (r + 2) ((k + v 5) % 8) = v (22 + k)) ∧ ∀ b k, ¬ (q ≤ b ∧ b ≤ q + 2) → ¬ (r ≤ b ∧ b ≤ r + 2) → g b k = mci M b k) := by
  obtain ⟨p0, p1, ⟨c0, c1, c2, c3, c4, c5, c6, c7⟩, ⟨t1, t2, t3, t4, t5, t6⟩, p5, p6, p7⟩ := h
  obtain ⟨h1, h2, h3, h4, h5, h6, h7, h8, h9, h10, h11, h12, h13, h14, h15⟩ := hB
  have hv5 := hv.2.2.2.2.2.1
  have hq1 : msh M q = some (4, 0) := hq.2.1
  have hr1 : msh M r = some (4, 0) := hr.2.1
  unfold GP at hp hp'
  refine CS.mk (by decide) (Nat.le_of_ble_eq_true rfl) ?_
  refine x_aload_n dX3_boots_0 rfl rfl ?_
  refine x_aload_n dX3_boots_1 rfl rfl ?_
  refine g_getR (kI := 5) rfl dX3_boots_2 fX3_33_3 (by assumption) (by assumption) ?_
  refine x_iconst dX3_boots_5 rfl ?_
  refine g_callN (vs := [_, _, _]) (d' := d - 1) rfl (s_X4_boots (by omega) hq t6 (by omega) (by omega)) dX3_boots_6 kX3_98 (by omega) (by decide) rfl (Nat.le_of_ble_eq_true rfl) (rcv_o (by assumption) rfl) (fun M6 h6 => ?_)
  obtain ⟨g1, hM6, a1, a2⟩ := h6
  subst hM6
  refine x_aload_n dX3_boots_9 rfl rfl ?_
  refine x_aload_n dX3_boots_10 rfl rfl ?_
  refine g_getR (kI := 5) rfl dX3_boots_11 fX3_33_3 (by assumption) (by assumption) ?_
  refine x_iconst dX3_boots_14 rfl ?_
  refine x_aload_n dX3_boots_15 rfl rfl ?_
  refine g_getI (kI := 13) rfl dX3_boots_16 fX3_50_3 (by assumption) ?_
  rw [show mci (wI M g1) p 13 = mci M p 13 from a2 _ _ (by omega)]
  first | refine x_imulN dX3_boots_19 (by unfold i32; omega) ?_ | refine x_imul dX3_boots_19 ?_
  rw [h5]
  refine g_callN (vs := [_, _, _]) (d' := d - 1) rfl (s_X4_boots (by omega) hr t6 (by omega) (by omega)) dX3_boots_20 kX3_98 (by omega) (by decide) rfl (Nat.le_of_ble_eq_true rfl) (rcv_o (by assumption) rfl) (fun M20 h20 => ?_)
  obtain ⟨g2, hM20, b1, b2⟩ := h20
  refine x_vreturn rfl dX3_boots_23 ?_
  subst hM20
  obtain ⟨a3, a4, a5, a6, a7, a8, a9, a10⟩ := a1
  obtain ⟨b3, b4, b5, b6, b7, b8, b9, b10⟩ := b1
  have o : ∀ b k, q ≤ b → b ≤ q + 2 → g2 b k = g1 b k := fun b k e1 e2 => b2 b k (by omega)
  refine ⟨rfl, g2, rfl, ⟨?_, ?_, ?_, ?_, ?_, ?_, ?_, fun k e1 e2 => ?_⟩, ⟨b3, b4, ?_, b6, b7, b8, b9, fun k e1 e2 => ?_⟩, fun b k e1 e2 => (b2 b k e2).trans (a2 b k e1)⟩
  · rw [o _ _ (by omega) (by omega)]; exact a3
  · rw [o _ _ (by omega) (by omega)]; exact a4
  · rw [o _ _ (by omega) (by omega)]; exact a5
  · rw [o _ _ (by omega) (by omega)]; exact a6
  · rw [o _ _ (by omega) (by omega)]; exact a7
  · rw [o _ _ (by omega) (by omega)]; exact a8
  · rw [o _ _ (by omega) (by omega)]; exact a9
  · rw [o _ _ (by omega) (by omega), a10 k e1 e2]; exact h13 k e1 e2
  · exact b5.trans (a2 _ _ (by omega))
  · rw [b10 k e1 e2]
    exact (a2 _ _ (by omega)).trans (h13 k e1 e2)
end X3

