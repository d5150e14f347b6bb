/-! GuestView: what is told of operations, cells, guests -/
section X1
variable {G : GW} {d : Nat} {M : Mem} {a b c e k n x op w st hi sz fa N i : Int} {v vi : Vw} {A : Int → Vw} {tp : Int → Int}
theorem CQ.o {g : Ci} (hI : SkI (mci M)) (h : ∀ b k, ¬ (199 ≤ b ∧ b < 203) → b ≠ 57 → g b k = mci M b k) : CQ M (wI M g) 0 0 :=
  CQ.w (fun b k q1 q2 => h b k (by omega) q2) ⟨by rw [h _ _ (by omega) (by omega)]; exact hI.2.1, by rw [h _ _ (by omega) (by omega)]; exact hI.2.2.1, by rw [h _ _ (by omega) (by omega)]; exact hI.2.2.2.1, by rw [h _ _ (by omega) (by omega)]; exact hI.2.2.2.2⟩
theorem CQ.t {g : Ci} (hI : SkI (mci M)) (h : TrG M g) : CQ M (wI M g) 0 0 :=
  CQ.w (fun b k q1 q2 => h.2 b k (by omega)) ⟨h.1.1, h.1.2, by rw [h.2 _ _ (by omega)]; exact hI.2.2.2.1, by rw [h.2 _ _ (by omega)]; exact hI.2.2.2.2⟩
theorem CO.o {g : Ci} (hC : CI M v n A hi vi tp sz fa N) (h : ∀ b k, ¬ (199 ≤ b ∧ b < 203) → b ≠ 57 → g b k = mci M b k) : CO M v n A hi vi tp sz fa N 0 0 (wI M g) := CO.q hC (CQ.o hC.1.2.2.2.2.1 h)
theorem CO.f57 {g : Ci} (hC : CI M v n A hi vi tp sz fa N) (h : Fo (54 + 3) (54 + 3) (mci M) g) : CO M v n A hi vi tp sz fa N 0 0 (wI M g) := CO.o hC fun b k q1 q2 => h b k (by omega)
theorem CO.t {g : Ci} (hC : CI M v n A hi vi tp sz fa N) (h : TrG M g) : CO M v n A hi vi tp sz fa N 0 0 (wI M g) := CO.q hC (CQ.t hC.1.2.2.2.2.1 h)
/-- what a trial finds of an operation of now -/
theorem trH_of {g : Ci} (hS : SkC (msh M) (mcr M)) (hT : TabS (msh M) g) (hs : Sk2 g) (hR : RelO g (54 + 13 + 4 * k) v k) (hv : okB v) (hk : 0 ≤ k ∧ k < v 0) : TrH (wI M g) (54 + 13 + 4 * k) v k := by
  have h8 := hv.n8
  have h54 := hS.2.2.2.1 54 (by unfold SB; omega)
  exact ⟨⟨hS.1.1, hS.2.1.2.2.2.2.2.1, hS.2.1.2.2.2.2.2.2.1, hS.2.2.2.2.1, hS.2.2.2.2.2.1⟩, hT, hs, ⟨(h54.2.2.2.2.2.2 k hk.1 (by omega)).2, by omega⟩, hR, hv.op k hk.1 hk.2⟩
theorem trt_w (h : mci M b w = witV v k w) : vP (mci M b w ≠ -1) = trtV v k w := by rw [h]; rfl
theorem trt_w1 : trtV v k w = 1 ↔ witV v k w ≠ -1 := vP_1
theorem s_X1_op (hd : 42 ≤ d) (hC : CI M v n A hi vi tp sz fa N) : CS G d mX1_op [dR 0, dI op, dI w] M (orT (postI fun y M1 => ((0 ≤ op ∧ op < v 0) ∧ 0 ≤ w ∧ w ≤ 12) ∧ y = opAns v op w ∧ CO M v n A hi vi tp sz fa N 0 0 M1) (fun a E M1 => CO M v n A hi vi tp sz fa N 1 6 M1 ∧ ((¬ (0 ≤ op ∧ op < v 0) ∧ E = "java/lang/IndexOutOfBoundsException") ∨ ((0 ≤ op ∧ op < v 0) ∧ ¬ (0 ≤ w ∧ w ≤ 12) ∧ E = "java/util/NoSuchElementException")))) := by
  obtain ⟨hC1, hC54, hCA, hCR⟩ := id hC; obtain ⟨hS, hTab, hTx, hLn, hSk, hnx⟩ := id hC1; obtain ⟨hA, hL, hR⟩ := id hC54; obtain ⟨⟨s0, s199, s200, s201, s202, s203⟩, ⟨c0, c1, c2, c3, c4, c5, c6, c7, c8, c9, c10, c11, c12⟩, c203, hSt, m189, m191, g193, g196, ⟨⟨r2, r3, r4, r5, r6, r7, r53⟩, ⟨w0, w1, w2, w3, w4, w5, w6⟩, wx1, wx2, wx3⟩⟩ := id hS; have hv := hA.1; have hv8 := hv.n8; have hv0 := hv.1.1; have hv3 := hv.2.2.2.1; have hs54 := hSt 54 (by unfold SB; omega); obtain ⟨p0, p1, ⟨d0, d1, d2, d3, d4, d5, d6, d7⟩, ⟨t1, t2, t3, t4, t5, t6⟩, p5, p6, p7⟩ := id hs54; have t7 : msh M (54 + 7) = some (4, 0) := p5.2.1; have t10 : msh M (54 + 10) = some (4, 0) := p6.2.1; obtain ⟨hB, hW, hLw⟩ := id hR.1; obtain ⟨b1, b2, b3, b4, b5, b6, b7, b8, b9, b10, b11, b12, b13, b14, b15⟩ := id hB; obtain ⟨hn, hn2, hat, hAc⟩ := id hCA; obtain ⟨⟨hki, hhi⟩, hIm, ⟨htp, hsz, hsz2⟩, hfa⟩ := id hCR
  refine CS.mkQ (by decide) (Nat.le_of_ble_eq_true rfl) fun Q hQ => ?_
  refine x_aload_n dX1_op_0 rfl rfl ?_
  refine x_iload_n dX1_op_1 rfl rfl ?_
  refine g_callRX (vs := [_, _]) (d' := d - 1) rfl (s_X1_opOf (by omega) hC) dX1_op_2 kX1_240 (by omega) (by decide) rfl (Nat.le_of_ble_eq_true rfl) (rcv_o (by first | assumption | first | assumption | (simp (disch := omega) only [shI, shR, shL, shC, shD, shW, sh_V, shN_e, shN_n, crI, crL, crC, crW, crV, crR_e, crR_n, crN_e, crN_n, ciR, ciL, ciD, ciN_e, ciN_n, rdI_e, rdI_n, rdC_i, rdC_o, rdW, rdU_e, rdU_n, rdLW, clI, clR, clC, clD, clW, clV, clN_e, clN_n, clL_e, clL_n]; done) | (simp (disch := omega) only [shI, shR, shL, shC, shD, shW, sh_V, shN_e, shN_n, crI, crL, crC, crW, crV, crR_e, crR_n, crN_e, crN_n, ciR, ciL, ciD, ciN_e, ciN_n, rdI_e, rdI_n, rdC_i, rdC_o, rdW, rdU_e, rdU_n, rdLW, clI, clR, clC, clD, clW, clV, clN_e, clN_n, clL_e, clL_n] <;> first | assumption | rfl | omega)) rfl) (fun x2 M2 h2 => ?_) (fun a2 E2 M2 h2 => ?_)
  · obtain ⟨q2, e2, f2⟩ := h2
    subst e2
    subst f2
    have hO := b14 op q2.1 q2.2
    have hOp := (p7 op (by omega) (by omega)).2
    have hOs := hOp.2.1
    have hoo := hv.op op q2.1 q2.2
    have hG := hoo.2.1
    have hP := hoo.2.2.1
    have hn3 := hO.1
    have hg4 := hO.2.1
    have hp5 := hO.2.2.1
    refine x_astore_n (L' := [some _, some _, some _, some _]) dX1_op_5 rfl (by decide) rfl ?_
    refine x_iload_n dX1_op_6 rfl rfl ?_
    refine x_iconst dX1_op_7 rfl ?_
    refine x_bipush dX1_op_8 rfl ?_
    refine g_callI (vs := [_, _, _]) (d' := d - 1) rfl (s_X1_isIn (by omega)) dX1_op_10 kX1_104 (by omega) (by decide) rfl (Nat.le_of_ble_eq_true rfl) (rcv_n) (fun x10 M10 h10 => ?_)
    obtain ⟨e10, f10⟩ := h10
    have f10' := f10.symm
    subst f10'
    subst e10
    try simp (disch := omega) only [rdI_e, rdI_n, rdC_i, rdC_o, rdW, rdR, rdU_e, rdU_n, rdLW, Int.add_zero, b2, hn3, hg4, hp5]
    refine x_if_eq (tgt := 27) dX1_op_13 (by decide) (fun h13 => ?_) (fun h13 => ?_)
    · try simp only [vP_0, vP_1, vP_n0, vP_n1, Classical.not_not] at h13
      refine x_iload_n dX1_op_27 rfl rfl ?_
      rcases (show w = 0 ∨ w = 1 ∨ w = 2 ∨ w = 3 ∨ w = 4 ∨ w = 5 ∨ w = 6 ∨ w = 7 ∨ w = 8 ∨ w = 9 ∨ w = 10 ∨ w = 11 ∨ w = 12 ∨ (w < 0 ∨ 12 < w) by omega) with hs28 | hs28 | hs28 | hs28 | hs28 | hs28 | hs28 | hs28 | hs28 | hs28 | hs28 | hs28 | hs28 | hs28
      · refine x_tab_in (tgt := 96) (off := 68) dX1_op_28 (by omega) (by omega) (by rw [hs28]; rfl) (by decide) ?_
        refine x_aload_n dX1_op_96 rfl rfl ?_
        refine g_getI (kI := 3) rfl dX1_op_97 fX1_252_6 (by first | assumption | first | assumption | (simp (disch := omega) only [shI, shR, shL, shC, shD, shW, sh_V, shN_e, shN_n, crI, crL, crC, crW, crV, crR_e, crR_n, crN_e, crN_n, ciR, ciL, ciD, ciN_e, ciN_n, rdI_e, rdI_n, rdC_i, rdC_o, rdW, rdU_e, rdU_n, rdLW, clI, clR, clC, clD, clW, clV, clN_e, clN_n, clL_e, clL_n]; done) | (simp (disch := omega) only [shI, shR, shL, shC, shD, shW, sh_V, shN_e, shN_n, crI, crL, crC, crW, crV, crR_e, crR_n, crN_e, crN_n, ciR, ciL, ciD, ciN_e, ciN_n, rdI_e, rdI_n, rdC_i, rdC_o, rdW, rdU_e, rdU_n, rdLW, clI, clR, clC, clD, clW, clV, clN_e, clN_n, clL_e, clL_n] <;> first | assumption | rfl | omega)) ?_
        try simp (disch := omega) only [rdI_e, rdI_n, rdC_i, rdC_o, rdW, rdR, rdU_e, rdU_n, rdLW, Int.add_zero, b2, hn3, hg4, hp5]
        refine x_ireturn rfl dX1_op_100 ?_
        subst hs28
        exact hQ _ _ (Or.inl ⟨_, rfl, ⟨q2, by omega⟩, rfl, CO.r hC⟩)
      · refine x_tab_in (tgt := 101) (off := 73) dX1_op_28 (by omega) (by omega) (by rw [hs28]; rfl) (by decide) ?_
        refine x_aload_n dX1_op_101 rfl rfl ?_
        refine g_getZ (kI := 4) rfl dX1_op_102 fX1_199_6 (by first | assumption | first | assumption | (simp (disch := omega) only [shI, shR, shL, shC, shD, shW, sh_V, shN_e, shN_n, crI, crL, crC, crW, crV, crR_e, crR_n, crN_e, crN_n, ciR, ciL, ciD, ciN_e, ciN_n, rdI_e, rdI_n, rdC_i, rdC_o, rdW, rdU_e, rdU_n, rdLW, clI, clR, clC, clD, clW, clV, clN_e, clN_n, clL_e, clL_n]; done) | (simp (disch := omega) only [shI, shR, shL, shC, shD, shW, sh_V, shN_e, shN_n, crI, crL, crC, crW, crV, crR_e, crR_n, crN_e, crN_n, ciR, ciL, ciD, ciN_e, ciN_n, rdI_e, rdI_n, rdC_i, rdC_o, rdW, rdU_e, rdU_n, rdLW, clI, clR, clC, clD, clW, clV, clN_e, clN_n, clL_e, clL_n] <;> first | assumption | rfl | omega)) ?_
        try simp (disch := omega) only [rdI_e, rdI_n, rdC_i, rdC_o, rdW, rdR, rdU_e, rdU_n, rdLW, Int.add_zero, b2, hn3, hg4, hp5]
        refine g_callI (vs := [_]) (d' := d - 1) rfl (s_X1_flag (by omega) (by first | omega | exact vP_r _)) dX1_op_105 kX1_248 (by omega) (by decide) rfl (Nat.le_of_ble_eq_true rfl) (rcv_n) (fun x105 M105 h105 => ?_)
        obtain ⟨e105, f105⟩ := h105
        have f105' := f105.symm
        subst f105'
        subst e105
        try simp (disch := omega) only [rdI_e, rdI_n, rdC_i, rdC_o, rdW, rdR, rdU_e, rdU_n, rdLW, Int.add_zero, b2, hn3, hg4, hp5]
        refine x_ireturn rfl dX1_op_108 ?_
        subst hs28
        exact hQ _ _ (Or.inl ⟨_, rfl, ⟨q2, by omega⟩, rfl, CO.r hC⟩)
      · refine x_tab_in (tgt := 109) (off := 81) dX1_op_28 (by omega) (by omega) (by rw [hs28]; rfl) (by decide) ?_
        refine x_aload_n dX1_op_109 rfl rfl ?_
        refine g_getZ (kI := 5) rfl dX1_op_110 fX1_253_6 (by first | assumption | first | assumption | (simp (disch := omega) only [shI, shR, shL, shC, shD, shW, sh_V, shN_e, shN_n, crI, crL, crC, crW, crV, crR_e, crR_n, crN_e, crN_n, ciR, ciL, ciD, ciN_e, ciN_n, rdI_e, rdI_n, rdC_i, rdC_o, rdW, rdU_e, rdU_n, rdLW, clI, clR, clC, clD, clW, clV, clN_e, clN_n, clL_e, clL_n]; done) | (simp (disch := omega) only [shI, shR, shL, shC, shD, shW, sh_V, shN_e, shN_n, crI, crL, crC, crW, crV, crR_e, crR_n, crN_e, crN_n, ciR, ciL, ciD, ciN_e, ciN_n, rdI_e, rdI_n, rdC_i, rdC_o, rdW, rdU_e, rdU_n, rdLW, clI, clR, clC, clD, clW, clV, clN_e, clN_n, clL_e, clL_n] <;> first | assumption | rfl | omega)) ?_
        try simp (disch := omega) only [rdI_e, rdI_n, rdC_i, rdC_o, rdW, rdR, rdU_e, rdU_n, rdLW, Int.add_zero, b2, hn3, hg4, hp5]
        refine g_callI (vs := [_]) (d' := d - 1) rfl (s_X1_flag (by omega) (by first | omega | exact vP_r _)) dX1_op_113 kX1_248 (by omega) (by decide) rfl (Nat.le_of_ble_eq_true rfl) (rcv_n) (fun x113 M113 h113 => ?_)
        obtain ⟨e113, f113⟩ := h113
        have f113' := f113.symm
        subst f113'
        subst e113
        try simp (disch := omega) only [rdI_e, rdI_n, rdC_i, rdC_o, rdW, rdR, rdU_e, rdU_n, rdLW, Int.add_zero, b2, hn3, hg4, hp5]
        refine x_ireturn rfl dX1_op_116 ?_
        subst hs28
        exact hQ _ _ (Or.inl ⟨_, rfl, ⟨q2, by omega⟩, rfl, CO.r hC⟩)
      · omega
      · omega
      · omega
      · omega
      · refine x_tab_in (tgt := 117) (off := 89) dX1_op_28 (by omega) (by omega) (by rw [hs28]; rfl) (by decide) ?_
        refine x_aload_n dX1_op_117 rfl rfl ?_
        refine g_callI (vs := [_]) (d' := d - 1) rfl (s_X6_isSensitive (by omega) hOp) dX1_op_118 kX1_256 (by omega) (by decide) rfl (Nat.le_of_ble_eq_true rfl) (rcv_o (by first | assumption | first | assumption | (simp (disch := omega) only [shI, shR, shL, shC, shD, shW, sh_V, shN_e, shN_n, crI, crL, crC, crW, crV, crR_e, crR_n, crN_e, crN_n, ciR, ciL, ciD, ciN_e, ciN_n, rdI_e, rdI_n, rdC_i, rdC_o, rdW, rdU_e, rdU_n, rdLW, clI, clR, clC, clD, clW, clV, clN_e, clN_n, clL_e, clL_n]; done) | (simp (disch := omega) only [shI, shR, shL, shC, shD, shW, sh_V, shN_e, shN_n, crI, crL, crC, crW, crV, crR_e, crR_n, crN_e, crN_n, ciR, ciL, ciD, ciN_e, ciN_n, rdI_e, rdI_n, rdC_i, rdC_o, rdW, rdU_e, rdU_n, rdLW, clI, clR, clC, clD, clW, clV, clN_e, clN_n, clL_e, clL_n] <;> first | assumption | rfl | omega)) rfl) (fun x118 M118 h118 => ?_)
        obtain ⟨e118, f118⟩ := h118
        have f118' := f118.symm
        subst f118'
        subst e118
        try simp (disch := omega) only [rdI_e, rdI_n, rdC_i, rdC_o, rdW, rdR, rdU_e, rdU_n, rdLW, Int.add_zero, b2, hn3, hg4, hp5]
        refine g_callI (vs := [_]) (d' := d - 1) rfl (s_X1_flag (by omega) (by first | omega | exact vP_r _)) dX1_op_121 kX1_248 (by omega) (by decide) rfl (Nat.le_of_ble_eq_true rfl) (rcv_n) (fun x121 M121 h121 => ?_)
        obtain ⟨e121, f121⟩ := h121
        have f121' := f121.symm
        subst f121'
        subst e121
        try simp (disch := omega) only [rdI_e, rdI_n, rdC_i, rdC_o, rdW, rdR, rdU_e, rdU_n, rdLW, Int.add_zero, b2, hn3, hg4, hp5]
        refine x_ireturn rfl dX1_op_124 ?_
        subst hs28
        refine hQ _ _ (Or.inl ⟨_, rfl, ⟨q2, by omega⟩, ?_, CO.r hC⟩)
        show _ = sensV v op
        unfold sensV
        rw [hW op 0 q2.1 q2.2 (by omega) (by omega), hW op 1 q2.1 q2.2 (by omega) (by omega), hW op 2 q2.1 q2.2 (by omega) (by omega)]
        exact vP_c (by rw [trt_w1, trt_w1, trt_w1])
      · refine x_tab_in (tgt := 125) (off := 97) dX1_op_28 (by omega) (by omega) (by rw [hs28]; rfl) (by decide) ?_
        refine x_aload_n dX1_op_125 rfl rfl ?_
        refine g_getR (kI := 1) rfl dX1_op_126 fX1_22_1 (by first | assumption | first | assumption | (simp (disch := omega) only [shI, shR, shL, shC, shD, shW, sh_V, shN_e, shN_n, crI, crL, crC, crW, crV, crR_e, crR_n, crN_e, crN_n, ciR, ciL, ciD, ciN_e, ciN_n, rdI_e, rdI_n, rdC_i, rdC_o, rdW, rdU_e, rdU_n, rdLW, clI, clR, clC, clD, clW, clV, clN_e, clN_n, clL_e, clL_n]; done) | (simp (disch := omega) only [shI, shR, shL, shC, shD, shW, sh_V, shN_e, shN_n, crI, crL, crC, crW, crV, crR_e, crR_n, crN_e, crN_n, ciR, ciL, ciD, ciN_e, ciN_n, rdI_e, rdI_n, rdC_i, rdC_o, rdW, rdU_e, rdU_n, rdLW, clI, clR, clC, clD, clW, clV, clN_e, clN_n, clL_e, clL_n] <;> first | assumption | rfl | omega)) (by first | assumption | first | assumption | (simp (disch := omega) only [shI, shR, shL, shC, shD, shW, sh_V, shN_e, shN_n, crI, crL, crC, crW, crV, crR_e, crR_n, crN_e, crN_n, ciR, ciL, ciD, ciN_e, ciN_n, rdI_e, rdI_n, rdC_i, rdC_o, rdW, rdU_e, rdU_n, rdLW, clI, clR, clC, clD, clW, clV, clN_e, clN_n, clL_e, clL_n]; done) | (simp (disch := omega) only [shI, shR, shL, shC, shD, shW, sh_V, shN_e, shN_n, crI, crL, crC, crW, crV, crR_e, crR_n, crN_e, crN_n, ciR, ciL, ciD, ciN_e, ciN_n, rdI_e, rdI_n, rdC_i, rdC_o, rdW, rdU_e, rdU_n, rdLW, clI, clR, clC, clD, clW, clV, clN_e, clN_n, clL_e, clL_n] <;> first | assumption | rfl | omega)) ?_
        refine x_iload_n dX1_op_129 rfl rfl ?_
        refine g_callI (vs := [_, _]) (d' := d - 1) rfl (s_X3_emulation (by omega) hs54 hB hv hW hLw (by omega) q2) dX1_op_130 kX1_260 (by omega) (by decide) rfl (Nat.le_of_ble_eq_true rfl) (rcv_o (by first | assumption | first | assumption | (simp (disch := omega) only [shI, shR, shL, shC, shD, shW, sh_V, shN_e, shN_n, crI, crL, crC, crW, crV, crR_e, crR_n, crN_e, crN_n, ciR, ciL, ciD, ciN_e, ciN_n, rdI_e, rdI_n, rdC_i, rdC_o, rdW, rdU_e, rdU_n, rdLW, clI, clR, clC, clD, clW, clV, clN_e, clN_n, clL_e, clL_n]; done) | (simp (disch := omega) only [shI, shR, shL, shC, shD, shW, sh_V, shN_e, shN_n, crI, crL, crC, crW, crV, crR_e, crR_n, crN_e, crN_n, ciR, ciL, ciD, ciN_e, ciN_n, rdI_e, rdI_n, rdC_i, rdC_o, rdW, rdU_e, rdU_n, rdLW, clI, clR, clC, clD, clW, clV, clN_e, clN_n, clL_e, clL_n] <;> first | assumption | rfl | omega)) rfl) (fun x130 M130 h130 => ?_)
        obtain ⟨g130, hM130, e130, f130⟩ := h130
        refine x_ireturn rfl dX1_op_133 ?_
        subst hs28
        exact hQ _ _ (Or.inl ⟨_, rfl, ⟨q2, by omega⟩, e130.1, hM130 ▸ CO.f57 hC f130⟩)
      · refine x_tab_in (tgt := 134) (off := 106) dX1_op_28 (by omega) (by omega) (by rw [hs28]; rfl) (by decide) ?_
        refine x_aload_n dX1_op_134 rfl rfl ?_
        refine g_getR (kI := 1) rfl dX1_op_135 fX1_22_1 (by first | assumption | first | assumption | (simp (disch := omega) only [shI, shR, shL, shC, shD, shW, sh_V, shN_e, shN_n, crI, crL, crC, crW, crV, crR_e, crR_n, crN_e, crN_n, ciR, ciL, ciD, ciN_e, ciN_n, rdI_e, rdI_n, rdC_i, rdC_o, rdW, rdU_e, rdU_n, rdLW, clI, clR, clC, clD, clW, clV, clN_e, clN_n, clL_e, clL_n]; done) | (simp (disch := omega) only [shI, shR, shL, shC, shD, shW, sh_V, shN_e, shN_n, crI, crL, crC, crW, crV, crR_e, crR_n, crN_e, crN_n, ciR, ciL, ciD, ciN_e, ciN_n, rdI_e, rdI_n, rdC_i, rdC_o, rdW, rdU_e, rdU_n, rdLW, clI, clR, clC, clD, clW, clV, clN_e, clN_n, clL_e, clL_n] <;> first | assumption | rfl | omega)) (by first | assumption | first | assumption | (simp (disch := omega) only [shI, shR, shL, shC, shD, shW, sh_V, shN_e, shN_n, crI, crL, crC, crW, crV, crR_e, crR_n, crN_e, crN_n, ciR, ciL, ciD, ciN_e, ciN_n, rdI_e, rdI_n, rdC_i, rdC_o, rdW, rdU_e, rdU_n, rdLW, clI, clR, clC, clD, clW, clV, clN_e, clN_n, clL_e, clL_n]; done) | (simp (disch := omega) only [shI, shR, shL, shC, shD, shW, sh_V, shN_e, shN_n, crI, crL, crC, crW, crV, crR_e, crR_n, crN_e, crN_n, ciR, ciL, ciD, ciN_e, ciN_n, rdI_e, rdI_n, rdC_i, rdC_o, rdW, rdU_e, rdU_n, rdLW, clI, clR, clC, clD, clW, clV, clN_e, clN_n, clL_e, clL_n] <;> first | assumption | rfl | omega)) ?_
        refine x_iload_n dX1_op_138 rfl rfl ?_
        refine g_callI (vs := [_, _]) (d' := d - 1) rfl (s_X3_blame (by omega) hs54 hB hv hW hLw (by omega) q2) dX1_op_139 kX1_263 (by omega) (by decide) rfl (Nat.le_of_ble_eq_true rfl) (rcv_o (by first | assumption | first | assumption | (simp (disch := omega) only [shI, shR, shL, shC, shD, shW, sh_V, shN_e, shN_n, crI, crL, crC, crW, crV, crR_e, crR_n, crN_e, crN_n, ciR, ciL, ciD, ciN_e, ciN_n, rdI_e, rdI_n, rdC_i, rdC_o, rdW, rdU_e, rdU_n, rdLW, clI, clR, clC, clD, clW, clV, clN_e, clN_n, clL_e, clL_n]; done) | (simp (disch := omega) only [shI, shR, shL, shC, shD, shW, sh_V, shN_e, shN_n, crI, crL, crC, crW, crV, crR_e, crR_n, crN_e, crN_n, ciR, ciL, ciD, ciN_e, ciN_n, rdI_e, rdI_n, rdC_i, rdC_o, rdW, rdU_e, rdU_n, rdLW, clI, clR, clC, clD, clW, clV, clN_e, clN_n, clL_e, clL_n] <;> first | assumption | rfl | omega)) rfl) (fun x139 M139 h139 => ?_)
        obtain ⟨g139, hM139, e139, f139⟩ := h139
        refine x_ireturn rfl dX1_op_142 ?_
        subst hs28
        exact hQ _ _ (Or.inl ⟨_, rfl, ⟨q2, by omega⟩, e139.1, hM139 ▸ CO.f57 hC f139⟩)
      · refine x_tab_in (tgt := 143) (off := 115) dX1_op_28 (by omega) (by omega) (by rw [hs28]; rfl) (by decide) ?_
        refine x_aload_n dX1_op_143 rfl rfl ?_
        refine g_getR (kI := 1) rfl dX1_op_144 fX1_22_1 (by first | assumption | first | assumption | (simp (disch := omega) only [shI, shR, shL, shC, shD, shW, sh_V, shN_e, shN_n, crI, crL, crC, crW, crV, crR_e, crR_n, crN_e, crN_n, ciR, ciL, ciD, ciN_e, ciN_n, rdI_e, rdI_n, rdC_i, rdC_o, rdW, rdU_e, rdU_n, rdLW, clI, clR, clC, clD, clW, clV, clN_e, clN_n, clL_e, clL_n]; done) | (simp (disch := omega) only [shI, shR, shL, shC, shD, shW, sh_V, shN_e, shN_n, crI, crL, crC, crW, crV, crR_e, crR_n, crN_e, crN_n, ciR, ciL, ciD, ciN_e, ciN_n, rdI_e, rdI_n, rdC_i, rdC_o, rdW, rdU_e, rdU_n, rdLW, clI, clR, clC, clD, clW, clV, clN_e, clN_n, clL_e, clL_n] <;> first | assumption | rfl | omega)) (by first | assumption | first | assumption | (simp (disch := omega) only [shI, shR, shL, shC, shD, shW, sh_V, shN_e, shN_n, crI, crL, crC, crW, crV, crR_e, crR_n, crN_e, crN_n, ciR, ciL, ciD, ciN_e, ciN_n, rdI_e, rdI_n, rdC_i, rdC_o, rdW, rdU_e, rdU_n, rdLW, clI, clR, clC, clD, clW, clV, clN_e, clN_n, clL_e, clL_n]; done) | (simp (disch := omega) only [shI, shR, shL, shC, shD, shW, sh_V, shN_e, shN_n, crI, crL, crC, crW, crV, crR_e, crR_n, crN_e, crN_n, ciR, ciL, ciD, ciN_e, ciN_n, rdI_e, rdI_n, rdC_i, rdC_o, rdW, rdU_e, rdU_n, rdLW, clI, clR, clC, clD, clW, clV, clN_e, clN_n, clL_e, clL_n] <;> first | assumption | rfl | omega)) ?_
        refine x_iload_n dX1_op_147 rfl rfl ?_
        refine g_callI (vs := [_, _]) (d' := d - 1) rfl (s_X3_worth (by omega) hs54 hB hv hW hLw (by omega) q2) dX1_op_148 kX1_266 (by omega) (by decide) rfl (Nat.le_of_ble_eq_true rfl) (rcv_o (by first | assumption | first | assumption | (simp (disch := omega) only [shI, shR, shL, shC, shD, shW, sh_V, shN_e, shN_n, crI, crL, crC, crW, crV, crR_e, crR_n, crN_e, crN_n, ciR, ciL, ciD, ciN_e, ciN_n, rdI_e, rdI_n, rdC_i, rdC_o, rdW, rdU_e, rdU_n, rdLW, clI, clR, clC, clD, clW, clV, clN_e, clN_n, clL_e, clL_n]; done) | (simp (disch := omega) only [shI, shR, shL, shC, shD, shW, sh_V, shN_e, shN_n, crI, crL, crC, crW, crV, crR_e, crR_n, crN_e, crN_n, ciR, ciL, ciD, ciN_e, ciN_n, rdI_e, rdI_n, rdC_i, rdC_o, rdW, rdU_e, rdU_n, rdLW, clI, clR, clC, clD, clW, clV, clN_e, clN_n, clL_e, clL_n] <;> first | assumption | rfl | omega)) rfl) (fun x148 M148 h148 => ?_)
        obtain ⟨g148, hM148, e148, f148⟩ := h148
        refine x_ireturn rfl dX1_op_151 ?_
        subst hs28
        exact hQ _ _ (Or.inl ⟨_, rfl, ⟨q2, by omega⟩, e148.1, hM148 ▸ CO.f57 hC f148⟩)
      · refine x_tab_in (tgt := 152) (off := 124) dX1_op_28 (by omega) (by omega) (by rw [hs28]; rfl) (by decide) ?_
        refine x_aload_n dX1_op_152 rfl rfl ?_
        refine g_getR (kI := 1) rfl dX1_op_153 fX1_22_1 (by first | assumption | first | assumption | (simp (disch := omega) only [shI, shR, shL, shC, shD, shW, sh_V, shN_e, shN_n, crI, crL, crC, crW, crV, crR_e, crR_n, crN_e, crN_n, ciR, ciL, ciD, ciN_e, ciN_n, rdI_e, rdI_n, rdC_i, rdC_o, rdW, rdU_e, rdU_n, rdLW, clI, clR, clC, clD, clW, clV, clN_e, clN_n, clL_e, clL_n]; done) | (simp (disch := omega) only [shI, shR, shL, shC, shD, shW, sh_V, shN_e, shN_n, crI, crL, crC, crW, crV, crR_e, crR_n, crN_e, crN_n, ciR, ciL, ciD, ciN_e, ciN_n, rdI_e, rdI_n, rdC_i, rdC_o, rdW, rdU_e, rdU_n, rdLW, clI, clR, clC, clD, clW, clV, clN_e, clN_n, clL_e, clL_n] <;> first | assumption | rfl | omega)) (by first | assumption | first | assumption | (simp (disch := omega) only [shI, shR, shL, shC, shD, shW, sh_V, shN_e, shN_n, crI, crL, crC, crW, crV, crR_e, crR_n, crN_e, crN_n, ciR, ciL, ciD, ciN_e, ciN_n, rdI_e, rdI_n, rdC_i, rdC_o, rdW, rdU_e, rdU_n, rdLW, clI, clR, clC, clD, clW, clV, clN_e, clN_n, clL_e, clL_n]; done) | (simp (disch := omega) only [shI, shR, shL, shC, shD, shW, sh_V, shN_e, shN_n, crI, crL, crC, crW, crV, crR_e, crR_n, crN_e, crN_n, ciR, ciL, ciD, ciN_e, ciN_n, rdI_e, rdI_n, rdC_i, rdC_o, rdW, rdU_e, rdU_n, rdLW, clI, clR, clC, clD, clW, clV, clN_e, clN_n, clL_e, clL_n] <;> first | assumption | rfl | omega)) ?_
        refine x_iload_n dX1_op_156 rfl rfl ?_
        refine g_callI (vs := [_, _]) (d' := d - 1) rfl (s_X3_uses (by omega) hs54 hB hv) dX1_op_157 kX1_269 (by omega) (by decide) rfl (Nat.le_of_ble_eq_true rfl) (rcv_o (by first | assumption | first | assumption | (simp (disch := omega) only [shI, shR, shL, shC, shD, shW, sh_V, shN_e, shN_n, crI, crL, crC, crW, crV, crR_e, crR_n, crN_e, crN_n, ciR, ciL, ciD, ciN_e, ciN_n, rdI_e, rdI_n, rdC_i, rdC_o, rdW, rdU_e, rdU_n, rdLW, clI, clR, clC, clD, clW, clV, clN_e, clN_n, clL_e, clL_n]; done) | (simp (disch := omega) only [shI, shR, shL, shC, shD, shW, sh_V, shN_e, shN_n, crI, crL, crC, crW, crV, crR_e, crR_n, crN_e, crN_n, ciR, ciL, ciD, ciN_e, ciN_n, rdI_e, rdI_n, rdC_i, rdC_o, rdW, rdU_e, rdU_n, rdLW, clI, clR, clC, clD, clW, clV, clN_e, clN_n, clL_e, clL_n] <;> first | assumption | rfl | omega)) rfl) (fun x157 M157 h157 => ?_)
        obtain ⟨e157, f157⟩ := h157
        have f157' := f157.symm
        subst f157'
        refine x_ireturn rfl dX1_op_160 ?_
        subst hs28
        exact hQ _ _ (Or.inl ⟨_, rfl, ⟨q2, by omega⟩, e157, CO.r hC⟩)
      · refine x_tab_in (tgt := 161) (off := 133) dX1_op_28 (by omega) (by omega) (by rw [hs28]; rfl) (by decide) ?_
        refine x_aload_n dX1_op_161 rfl rfl ?_
        refine g_getR (kI := 1) rfl dX1_op_162 fX1_22_1 (by first | assumption | first | assumption | (simp (disch := omega) only [shI, shR, shL, shC, shD, shW, sh_V, shN_e, shN_n, crI, crL, crC, crW, crV, crR_e, crR_n, crN_e, crN_n, ciR, ciL, ciD, ciN_e, ciN_n, rdI_e, rdI_n, rdC_i, rdC_o, rdW, rdU_e, rdU_n, rdLW, clI, clR, clC, clD, clW, clV, clN_e, clN_n, clL_e, clL_n]; done) | (simp (disch := omega) only [shI, shR, shL, shC, shD, shW, sh_V, shN_e, shN_n, crI, crL, crC, crW, crV, crR_e, crR_n, crN_e, crN_n, ciR, ciL, ciD, ciN_e, ciN_n, rdI_e, rdI_n, rdC_i, rdC_o, rdW, rdU_e, rdU_n, rdLW, clI, clR, clC, clD, clW, clV, clN_e, clN_n, clL_e, clL_n] <;> first | assumption | rfl | omega)) (by first | assumption | first | assumption | (simp (disch := omega) only [shI, shR, shL, shC, shD, shW, sh_V, shN_e, shN_n, crI, crL, crC, crW, crV, crR_e, crR_n, crN_e, crN_n, ciR, ciL, ciD, ciN_e, ciN_n, rdI_e, rdI_n, rdC_i, rdC_o, rdW, rdU_e, rdU_n, rdLW, clI, clR, clC, clD, clW, clV, clN_e, clN_n, clL_e, clL_n]; done) | (simp (disch := omega) only [shI, shR, shL, shC, shD, shW, sh_V, shN_e, shN_n, crI, crL, crC, crW, crV, crR_e, crR_n, crN_e, crN_n, ciR, ciL, ciD, ciN_e, ciN_n, rdI_e, rdI_n, rdC_i, rdC_o, rdW, rdU_e, rdU_n, rdLW, clI, clR, clC, clD, clW, clV, clN_e, clN_n, clL_e, clL_n] <;> first | assumption | rfl | omega)) ?_
        refine g_getI (kI := 9) rfl dX1_op_165 fX1_272_3 (by first | assumption | first | assumption | (simp (disch := omega) only [shI, shR, shL, shC, shD, shW, sh_V, shN_e, shN_n, crI, crL, crC, crW, crV, crR_e, crR_n, crN_e, crN_n, ciR, ciL, ciD, ciN_e, ciN_n, rdI_e, rdI_n, rdC_i, rdC_o, rdW, rdU_e, rdU_n, rdLW, clI, clR, clC, clD, clW, clV, clN_e, clN_n, clL_e, clL_n]; done) | (simp (disch := omega) only [shI, shR, shL, shC, shD, shW, sh_V, shN_e, shN_n, crI, crL, crC, crW, crV, crR_e, crR_n, crN_e, crN_n, ciR, ciL, ciD, ciN_e, ciN_n, rdI_e, rdI_n, rdC_i, rdC_o, rdW, rdU_e, rdU_n, rdLW, clI, clR, clC, clD, clW, clV, clN_e, clN_n, clL_e, clL_n] <;> first | assumption | rfl | omega)) ?_
        try simp (disch := omega) only [rdI_e, rdI_n, rdC_i, rdC_o, rdW, rdR, rdU_e, rdU_n, rdLW, Int.add_zero, b2, hn3, hg4, hp5]
        refine x_if_ne (tgt := 175) dX1_op_168 (by decide) (fun h168 => ?_) (fun h168 => ?_)
        · refine x_bipush dX1_op_175 rfl ?_
          refine x_aload_n dX1_op_177 rfl rfl ?_
          refine g_getR (kI := 1) rfl dX1_op_178 fX1_22_1 (by first | assumption | first | assumption | (simp (disch := omega) only [shI, shR, shL, shC, shD, shW, sh_V, shN_e, shN_n, crI, crL, crC, crW, crV, crR_e, crR_n, crN_e, crN_n, ciR, ciL, ciD, ciN_e, ciN_n, rdI_e, rdI_n, rdC_i, rdC_o, rdW, rdU_e, rdU_n, rdLW, clI, clR, clC, clD, clW, clV, clN_e, clN_n, clL_e, clL_n]; done) | (simp (disch := omega) only [shI, shR, shL, shC, shD, shW, sh_V, shN_e, shN_n, crI, crL, crC, crW, crV, crR_e, crR_n, crN_e, crN_n, ciR, ciL, ciD, ciN_e, ciN_n, rdI_e, rdI_n, rdC_i, rdC_o, rdW, rdU_e, rdU_n, rdLW, clI, clR, clC, clD, clW, clV, clN_e, clN_n, clL_e, clL_n] <;> first | assumption | rfl | omega)) (by first | assumption | first | assumption | (simp (disch := omega) only [shI, shR, shL, shC, shD, shW, sh_V, shN_e, shN_n, crI, crL, crC, crW, crV, crR_e, crR_n, crN_e, crN_n, ciR, ciL, ciD, ciN_e, ciN_n, rdI_e, rdI_n, rdC_i, rdC_o, rdW, rdU_e, rdU_n, rdLW, clI, clR, clC, clD, clW, clV, clN_e, clN_n, clL_e, clL_n]; done) | (simp (disch := omega) only [shI, shR, shL, shC, shD, shW, sh_V, shN_e, shN_n, crI, crL, crC, crW, crV, crR_e, crR_n, crN_e, crN_n, ciR, ciL, ciD, ciN_e, ciN_n, rdI_e, rdI_n, rdC_i, rdC_o, rdW, rdU_e, rdU_n, rdLW, clI, clR, clC, clD, clW, clV, clN_e, clN_n, clL_e, clL_n] <;> first | assumption | rfl | omega)) ?_
          refine x_iload_n dX1_op_181 rfl rfl ?_
          refine g_callI (vs := [_, _]) (d' := d - 1) rfl (s_X3_uses (by omega) hs54 hB hv) dX1_op_182 kX1_269 (by omega) (by decide) rfl (Nat.le_of_ble_eq_true rfl) (rcv_o (by first | assumption | first | assumption | (simp (disch := omega) only [shI, shR, shL, shC, shD, shW, sh_V, shN_e, shN_n, crI, crL, crC, crW, crV, crR_e, crR_n, crN_e, crN_n, ciR, ciL, ciD, ciN_e, ciN_n, rdI_e, rdI_n, rdC_i, rdC_o, rdW, rdU_e, rdU_n, rdLW, clI, clR, clC, clD, clW, clV, clN_e, clN_n, clL_e, clL_n]; done) | (simp (disch := omega) only [shI, shR, shL, shC, shD, shW, sh_V, shN_e, shN_n, crI, crL, crC, crW, crV, crR_e, crR_n, crN_e, crN_n, ciR, ciL, ciD, ciN_e, ciN_n, rdI_e, rdI_n, rdC_i, rdC_o, rdW, rdU_e, rdU_n, rdLW, clI, clR, clC, clD, clW, clV, clN_e, clN_n, clL_e, clL_n] <;> first | assumption | rfl | omega)) rfl) (fun x182 M182 h182 => ?_)
          obtain ⟨e182, f182⟩ := h182
          have f182' := f182.symm
          subst f182'
          have hur := uses_r v op (v 3).toNat
          have hu2 : x182 = usesR v op (v 3).toNat := e182
          first | refine x_imulN dX1_op_185 (by unfold i32; omega) ?_ | refine x_imul dX1_op_185 ?_
          refine x_aload_n dX1_op_186 rfl rfl ?_
          refine g_getR (kI := 1) rfl dX1_op_187 fX1_22_1 (by first | assumption | first | assumption | (simp (disch := omega) only [shI, shR, shL, shC, shD, shW, sh_V, shN_e, shN_n, crI, crL, crC, crW, crV, crR_e, crR_n, crN_e, crN_n, ciR, ciL, ciD, ciN_e, ciN_n, rdI_e, rdI_n, rdC_i, rdC_o, rdW, rdU_e, rdU_n, rdLW, clI, clR, clC, clD, clW, clV, clN_e, clN_n, clL_e, clL_n]; done) | (simp (disch := omega) only [shI, shR, shL, shC, shD, shW, sh_V, shN_e, shN_n, crI, crL, crC, crW, crV, crR_e, crR_n, crN_e, crN_n, ciR, ciL, ciD, ciN_e, ciN_n, rdI_e, rdI_n, rdC_i, rdC_o, rdW, rdU_e, rdU_n, rdLW, clI, clR, clC, clD, clW, clV, clN_e, clN_n, clL_e, clL_n] <;> first | assumption | rfl | omega)) (by first | assumption | first | assumption | (simp (disch := omega) only [shI, shR, shL, shC, shD, shW, sh_V, shN_e, shN_n, crI, crL, crC, crW, crV, crR_e, crR_n, crN_e, crN_n, ciR, ciL, ciD, ciN_e, ciN_n, rdI_e, rdI_n, rdC_i, rdC_o, rdW, rdU_e, rdU_n, rdLW, clI, clR, clC, clD, clW, clV, clN_e, clN_n, clL_e, clL_n]; done) | (simp (disch := omega) only [shI, shR, shL, shC, shD, shW, sh_V, shN_e, shN_n, crI, crL, crC, crW, crV, crR_e, crR_n, crN_e, crN_n, ciR, ciL, ciD, ciN_e, ciN_n, rdI_e, rdI_n, rdC_i, rdC_o, rdW, rdU_e, rdU_n, rdLW, clI, clR, clC, clD, clW, clV, clN_e, clN_n, clL_e, clL_n] <;> first | assumption | rfl | omega)) ?_
          refine g_getI (kI := 9) rfl dX1_op_190 fX1_272_3 (by first | assumption | first | assumption | (simp (disch := omega) only [shI, shR, shL, shC, shD, shW, sh_V, shN_e, shN_n, crI, crL, crC, crW, crV, crR_e, crR_n, crN_e, crN_n, ciR, ciL, ciD, ciN_e, ciN_n, rdI_e, rdI_n, rdC_i, rdC_o, rdW, rdU_e, rdU_n, rdLW, clI, clR, clC, clD, clW, clV, clN_e, clN_n, clL_e, clL_n]; done) | (simp (disch := omega) only [shI, shR, shL, shC, shD, shW, sh_V, shN_e, shN_n, crI, crL, crC, crW, crV, crR_e, crR_n, crN_e, crN_n, ciR, ciL, ciD, ciN_e, ciN_n, rdI_e, rdI_n, rdC_i, rdC_o, rdW, rdU_e, rdU_n, rdLW, clI, clR, clC, clD, clW, clV, clN_e, clN_n, clL_e, clL_n] <;> first | assumption | rfl | omega)) ?_
          try simp (disch := omega) only [rdI_e, rdI_n, rdC_i, rdC_o, rdW, rdR, rdU_e, rdU_n, rdLW, Int.add_zero, b2, hn3, hg4, hp5]
          first | refine x_idivN dX1_op_193 (by omega) (by omega) ?_ | refine x_idiv dX1_op_193 (by omega) ?_
          refine x_ireturn rfl dX1_op_194 ?_
          subst hs28
          refine hQ _ _ (Or.inl ⟨_, rfl, ⟨q2, by omega⟩, ?_, CO.r hC⟩)
          show _ = (if v 3 = 0 then 0 else 100 * usesV v op / v 3)
          first
          | rw [if_pos (by omega)]
          | (rw [if_neg (by omega), e182])
        · refine x_iconst dX1_op_171 rfl ?_
          refine x_goto (tgt := 194) dX1_op_172 (by decide) ?_
          refine x_ireturn rfl dX1_op_194 ?_
          subst hs28
          refine hQ _ _ (Or.inl ⟨_, rfl, ⟨q2, by omega⟩, ?_, CO.r hC⟩)
          show _ = (if v 3 = 0 then 0 else 100 * usesV v op / v 3)
          first
          | rw [if_pos (by omega)]
          | (rw [if_neg (by omega), e182])
      · refine x_tab_out (tgt := 195) dX1_op_28 hs28 (by decide) ?_
        refine x_throw0 thr_NSE (by omega) (Nat.le_of_ble_eq_true rfl) rfl dX1_op_195 dX1_op_198 dX1_op_199 dX1_op_202 ?_
        exact hQ _ _ (Or.inr ⟨_, _, rfl, CO.xx hC, Or.inr ⟨q2, by omega, rfl⟩⟩)
    · try simp only [vP_0, vP_1, vP_n0, vP_n1, Classical.not_not] at h13
      refine x_aload_n dX1_op_16 rfl rfl ?_
      refine x_iload_n dX1_op_17 rfl rfl ?_
      refine x_iconst dX1_op_18 rfl ?_
      first | refine x_isubN dX1_op_19 (by unfold i32; omega) ?_ | refine x_isub dX1_op_19 ?_
      refine g_callI (vs := [_, _]) (d' := d - 1) rfl (s_X6_is (by omega) hOp (by omega) (by omega)) dX1_op_20 kX1_244 (by omega) (by decide) rfl (Nat.le_of_ble_eq_true rfl) (rcv_o (by first | assumption | first | assumption | (simp (disch := omega) only [shI, shR, shL, shC, shD, shW, sh_V, shN_e, shN_n, crI, crL, crC, crW, crV, crR_e, crR_n, crN_e, crN_n, ciR, ciL, ciD, ciN_e, ciN_n, rdI_e, rdI_n, rdC_i, rdC_o, rdW, rdU_e, rdU_n, rdLW, clI, clR, clC, clD, clW, clV, clN_e, clN_n, clL_e, clL_n]; done) | (simp (disch := omega) only [shI, shR, shL, shC, shD, shW, sh_V, shN_e, shN_n, crI, crL, crC, crW, crV, crR_e, crR_n, crN_e, crN_n, ciR, ciL, ciD, ciN_e, ciN_n, rdI_e, rdI_n, rdC_i, rdC_o, rdW, rdU_e, rdU_n, rdLW, clI, clR, clC, clD, clW, clV, clN_e, clN_n, clL_e, clL_n] <;> first | assumption | rfl | omega)) rfl) (fun x20 M20 h20 => ?_)
      obtain ⟨e20, f20⟩ := h20
      have f20' := f20.symm
      subst f20'
      subst e20
      try simp (disch := omega) only [rdI_e, rdI_n, rdC_i, rdC_o, rdW, rdR, rdU_e, rdU_n, rdLW, Int.add_zero, b2, hn3, hg4, hp5]
      refine g_callI (vs := [_]) (d' := d - 1) rfl (s_X1_flag (by omega) (by first | omega | exact vP_r _)) dX1_op_23 kX1_248 (by omega) (by decide) rfl (Nat.le_of_ble_eq_true rfl) (rcv_n) (fun x23 M23 h23 => ?_)
      obtain ⟨e23, f23⟩ := h23
      have f23' := f23.symm
      subst f23'
      subst e23
      try simp (disch := omega) only [rdI_e, rdI_n, rdC_i, rdC_o, rdW, rdR, rdU_e, rdU_n, rdLW, Int.add_zero, b2, hn3, hg4, hp5]
      refine x_ireturn rfl dX1_op_26 ?_
      refine hQ _ _ (Or.inl ⟨_, rfl, ⟨q2, by omega⟩, ?_, CO.r hC⟩)
      unfold opAns
      rw [if_neg (by omega), if_neg (by omega), if_neg (by omega), if_pos (by omega)]
      exact trt_w (hW op (w - 3) q2.1 q2.2 (by omega) (by omega))
  · obtain ⟨q2, eE2, eM2⟩ := h2
    subst eE2
    subst eM2
    exact th_nil rfl (hQ _ _ (Or.inr ⟨_, _, rfl, CO.xx hC, Or.inl ⟨q2, rfl⟩⟩))
theorem s_X1_micro (hd : 14 ≤ d) (hC : CI M v n A hi vi tp sz fa N) : CS G d mX1_micro [dR 0, dI op, dI k, dI b] M (orT (postI fun y M1 => (0 ≤ op ∧ op < v 0) ∧ y = microAns v op k b ∧ CO M v n A hi vi tp sz fa N 0 0 M1) (fun a E M1 => CO M v n A hi vi tp sz fa N 1 6 M1 ∧ ¬ (0 ≤ op ∧ op < v 0) ∧ E = "java/lang/IndexOutOfBoundsException")) := by
  obtain ⟨hC1, hC54, hCA, hCR⟩ := id hC; obtain ⟨hS, hTab, hTx, hLn, hSk, hnx⟩ := id hC1; obtain ⟨hA, hL, hR⟩ := id hC54; obtain ⟨⟨s0, s199, s200, s201, s202, s203⟩, ⟨c0, c1, c2, c3, c4, c5, c6, c7, c8, c9, c10, c11, c12⟩, c203, hSt, m189, m191, g193, g196, ⟨⟨r2, r3, r4, r5, r6, r7, r53⟩, ⟨w0, w1, w2, w3, w4, w5, w6⟩, wx1, wx2, wx3⟩⟩ := id hS; have hv := hA.1; have hv8 := hv.n8; have hv0 := hv.1.1; have hv3 := hv.2.2.2.1; have hs54 := hSt 54 (by unfold SB; omega); obtain ⟨p0, p1, ⟨d0, d1, d2, d3, d4, d5, d6, d7⟩, ⟨t1, t2, t3, t4, t5, t6⟩, p5, p6, p7⟩ := id hs54; have t7 : msh M (54 + 7) = some (4, 0) := p5.2.1; have t10 : msh M (54 + 10) = some (4, 0) := p6.2.1; obtain ⟨hB, hW, hLw⟩ := id hR.1; obtain ⟨b1, b2, b3, b4, b5, b6, b7, b8, b9, b10, b11, b12, b13, b14, b15⟩ := id hB; obtain ⟨hn, hn2, hat, hAc⟩ := id hCA; obtain ⟨⟨hki, hhi⟩, hIm, ⟨htp, hsz, hsz2⟩, hfa⟩ := id hCR
  refine CS.mkQ (by decide) (Nat.le_of_ble_eq_true rfl) fun Q hQ => ?_
  refine x_aload_n dX1_micro_0 rfl rfl ?_
  refine x_iload_n dX1_micro_1 rfl rfl ?_
  refine g_callRX (vs := [_, _]) (d' := d - 1) rfl (s_X1_opOf (by omega) hC) dX1_micro_2 kX1_240 (by omega) (by decide) rfl (Nat.le_of_ble_eq_true rfl) (rcv_o (by first | assumption | first | assumption | (simp (disch := omega) only [shI, shR, shL, shC, shD, shW, sh_V, shN_e, shN_n, crI, crL, crC, crW, crV, crR_e, crR_n, crN_e, crN_n, ciR, ciL, ciD, ciN_e, ciN_n, rdI_e, rdI_n, rdC_i, rdC_o, rdW, rdU_e, rdU_n, rdLW, clI, clR, clC, clD, clW, clV, clN_e, clN_n, clL_e, clL_n]; done) | (simp (disch := omega) only [shI, shR, shL, shC, shD, shW, sh_V, shN_e, shN_n, crI, crL, crC, crW, crV, crR_e, crR_n, crN_e, crN_n, ciR, ciL, ciD, ciN_e, ciN_n, rdI_e, rdI_n, rdC_i, rdC_o, rdW, rdU_e, rdU_n, rdLW, clI, clR, clC, clD, clW, clV, clN_e, clN_n, clL_e, clL_n] <;> first | assumption | rfl | omega)) rfl) (fun x2 M2 h2 => ?_) (fun a2 E2 M2 h2 => ?_)
  · obtain ⟨q2, e2, f2⟩ := h2
    subst e2
    subst f2
    have hO := b14 op q2.1 q2.2
    obtain ⟨o0, o1, o2, o3, o4, o5, o6, o7⟩ := (p7 op (by omega) (by omega)).2
    have hn3 := hO.1
    have hoo := (hv.op op q2.1 q2.2).1
    refine x_astore (L' := [some _, some _, some _, some _, some _]) dX1_micro_5 (by decide) rfl ?_
    refine x_iload_n dX1_micro_7 rfl rfl ?_
    refine x_iconst dX1_micro_8 rfl ?_
    refine x_aload dX1_micro_9 rfl ?_
    refine g_getI (kI := 3) rfl dX1_micro_11 fX1_252_6 (by first | assumption | first | assumption | (simp (disch := omega) only [shI, shR, shL, shC, shD, shW, sh_V, shN_e, shN_n, crI, crL, crC, crW, crV, crR_e, crR_n, crN_e, crN_n, ciR, ciL, ciD, ciN_e, ciN_n, rdI_e, rdI_n, rdC_i, rdC_o, rdW, rdU_e, rdU_n, rdLW, clI, clR, clC, clD, clW, clV, clN_e, clN_n, clL_e, clL_n]; done) | (simp (disch := omega) only [shI, shR, shL, shC, shD, shW, sh_V, shN_e, shN_n, crI, crL, crC, crW, crV, crR_e, crR_n, crN_e, crN_n, ciR, ciL, ciD, ciN_e, ciN_n, rdI_e, rdI_n, rdC_i, rdC_o, rdW, rdU_e, rdU_n, rdLW, clI, clR, clC, clD, clW, clV, clN_e, clN_n, clL_e, clL_n] <;> first | assumption | rfl | omega)) ?_
    try simp (disch := omega) only [rdI_e, rdI_n, rdC_i, rdC_o, rdW, rdR, rdU_e, rdU_n, rdLW, Int.add_zero, hn3]
    refine x_iconst dX1_micro_14 rfl ?_
    first | refine x_isubN dX1_micro_15 (by unfold i32; omega) ?_ | refine x_isub dX1_micro_15 ?_
    refine g_callI (vs := [_, _, _]) (d' := d - 1) rfl (s_X1_isIn (by omega)) dX1_micro_16 kX1_104 (by omega) (by decide) rfl (Nat.le_of_ble_eq_true rfl) (rcv_n) (fun x16 M16 h16 => ?_)
    obtain ⟨e16, f16⟩ := h16
    have f16' := f16.symm
    subst f16'
    subst e16
    try simp (disch := omega) only [rdI_e, rdI_n, rdC_i, rdC_o, rdW, rdR, rdU_e, rdU_n, rdLW, Int.add_zero, hn3]
    refine x_if_ne (tgt := 26) dX1_micro_19 (by decide) (fun h19 => ?_) (fun h19 => ?_)
    · try simp only [vP_0, vP_1, vP_n0, vP_n1, Classical.not_not] at h19
      refine x_iload_n dX1_micro_26 rfl rfl ?_
      refine x_if_eq (tgt := 40) dX1_micro_27 (by decide) (fun h27 => ?_) (fun h27 => ?_)
      · refine x_aload dX1_micro_40 rfl ?_
        refine g_getR (kI := 0) rfl dX1_micro_42 fX1_278_6 (by first | assumption | first | assumption | (simp (disch := omega) only [shI, shR, shL, shC, shD, shW, sh_V, shN_e, shN_n, crI, crL, crC, crW, crV, crR_e, crR_n, crN_e, crN_n, ciR, ciL, ciD, ciN_e, ciN_n, rdI_e, rdI_n, rdC_i, rdC_o, rdW, rdU_e, rdU_n, rdLW, clI, clR, clC, clD, clW, clV, clN_e, clN_n, clL_e, clL_n]; done) | (simp (disch := omega) only [shI, shR, shL, shC, shD, shW, sh_V, shN_e, shN_n, crI, crL, crC, crW, crV, crR_e, crR_n, crN_e, crN_n, ciR, ciL, ciD, ciN_e, ciN_n, rdI_e, rdI_n, rdC_i, rdC_o, rdW, rdU_e, rdU_n, rdLW, clI, clR, clC, clD, clW, clV, clN_e, clN_n, clL_e, clL_n] <;> first | assumption | rfl | omega)) (by first | assumption | first | assumption | (simp (disch := omega) only [shI, shR, shL, shC, shD, shW, sh_V, shN_e, shN_n, crI, crL, crC, crW, crV, crR_e, crR_n, crN_e, crN_n, ciR, ciL, ciD, ciN_e, ciN_n, rdI_e, rdI_n, rdC_i, rdC_o, rdW, rdU_e, rdU_n, rdLW, clI, clR, clC, clD, clW, clV, clN_e, clN_n, clL_e, clL_n]; done) | (simp (disch := omega) only [shI, shR, shL, shC, shD, shW, sh_V, shN_e, shN_n, crI, crL, crC, crW, crV, crR_e, crR_n, crN_e, crN_n, ciR, ciL, ciD, ciN_e, ciN_n, rdI_e, rdI_n, rdC_i, rdC_o, rdW, rdU_e, rdU_n, rdLW, clI, clR, clC, clD, clW, clV, clN_e, clN_n, clL_e, clL_n] <;> first | assumption | rfl | omega)) ?_
        refine x_iload_n dX1_micro_45 rfl rfl ?_
        refine x_iald dX1_micro_46 (by first | assumption | first | assumption | (simp (disch := omega) only [shI, shR, shL, shC, shD, shW, sh_V, shN_e, shN_n, crI, crL, crC, crW, crV, crR_e, crR_n, crN_e, crN_n, ciR, ciL, ciD, ciN_e, ciN_n, rdI_e, rdI_n, rdC_i, rdC_o, rdW, rdU_e, rdU_n, rdLW, clI, clR, clC, clD, clW, clV, clN_e, clN_n, clL_e, clL_n]; done) | (simp (disch := omega) only [shI, shR, shL, shC, shD, shW, sh_V, shN_e, shN_n, crI, crL, crC, crW, crV, crR_e, crR_n, crN_e, crN_n, ciR, ciL, ciD, ciN_e, ciN_n, rdI_e, rdI_n, rdC_i, rdC_o, rdW, rdU_e, rdU_n, rdLW, clI, clR, clC, clD, clW, clV, clN_e, clN_n, clL_e, clL_n] <;> first | assumption | rfl | omega)) (by omega) (by omega) ?_
        try simp (disch := omega) only [rdI_e, rdI_n, rdC_i, rdC_o, rdW, rdR, rdU_e, rdU_n, rdLW, Int.add_zero, hn3]
        refine x_ireturn rfl dX1_micro_47 ?_
        refine hQ _ _ (Or.inl ⟨_, rfl, q2, ?_, CO.r hC⟩)
        unfold microAns
        first
        | rw [if_neg (by omega)]
        | (rw [if_pos (by omega), if_pos (by omega)]; exact (hO.2.2.2 k (by omega) (by omega)).1)
        | (rw [if_pos (by omega), if_neg (by omega)]; exact (hO.2.2.2 k (by omega) (by omega)).2)
      · refine x_aload dX1_micro_30 rfl ?_
        refine g_getR (kI := 1) rfl dX1_micro_32 fX1_275_6 (by first | assumption | first | assumption | (simp (disch := omega) only [shI, shR, shL, shC, shD, shW, sh_V, shN_e, shN_n, crI, crL, crC, crW, crV, crR_e, crR_n, crN_e, crN_n, ciR, ciL, ciD, ciN_e, ciN_n, rdI_e, rdI_n, rdC_i, rdC_o, rdW, rdU_e, rdU_n, rdLW, clI, clR, clC, clD, clW, clV, clN_e, clN_n, clL_e, clL_n]; done) | (simp (disch := omega) only [shI, shR, shL, shC, shD, shW, sh_V, shN_e, shN_n, crI, crL, crC, crW, crV, crR_e, crR_n, crN_e, crN_n, ciR, ciL, ciD, ciN_e, ciN_n, rdI_e, rdI_n, rdC_i, rdC_o, rdW, rdU_e, rdU_n, rdLW, clI, clR, clC, clD, clW, clV, clN_e, clN_n, clL_e, clL_n] <;> first | assumption | rfl | omega)) (by first | assumption | first | assumption | (simp (disch := omega) only [shI, shR, shL, shC, shD, shW, sh_V, shN_e, shN_n, crI, crL, crC, crW, crV, crR_e, crR_n, crN_e, crN_n, ciR, ciL, ciD, ciN_e, ciN_n, rdI_e, rdI_n, rdC_i, rdC_o, rdW, rdU_e, rdU_n, rdLW, clI, clR, clC, clD, clW, clV, clN_e, clN_n, clL_e, clL_n]; done) | (simp (disch := omega) only [shI, shR, shL, shC, shD, shW, sh_V, shN_e, shN_n, crI, crL, crC, crW, crV, crR_e, crR_n, crN_e, crN_n, ciR, ciL, ciD, ciN_e, ciN_n, rdI_e, rdI_n, rdC_i, rdC_o, rdW, rdU_e, rdU_n, rdLW, clI, clR, clC, clD, clW, clV, clN_e, clN_n, clL_e, clL_n] <;> first | assumption | rfl | omega)) ?_
        refine x_iload_n dX1_micro_35 rfl rfl ?_
        refine x_iald dX1_micro_36 (by first | assumption | first | assumption | (simp (disch := omega) only [shI, shR, shL, shC, shD, shW, sh_V, shN_e, shN_n, crI, crL, crC, crW, crV, crR_e, crR_n, crN_e, crN_n, ciR, ciL, ciD, ciN_e, ciN_n, rdI_e, rdI_n, rdC_i, rdC_o, rdW, rdU_e, rdU_n, rdLW, clI, clR, clC, clD, clW, clV, clN_e, clN_n, clL_e, clL_n]; done) | (simp (disch := omega) only [shI, shR, shL, shC, shD, shW, sh_V, shN_e, shN_n, crI, crL, crC, crW, crV, crR_e, crR_n, crN_e, crN_n, ciR, ciL, ciD, ciN_e, ciN_n, rdI_e, rdI_n, rdC_i, rdC_o, rdW, rdU_e, rdU_n, rdLW, clI, clR, clC, clD, clW, clV, clN_e, clN_n, clL_e, clL_n] <;> first | assumption | rfl | omega)) (by omega) (by omega) ?_
        try simp (disch := omega) only [rdI_e, rdI_n, rdC_i, rdC_o, rdW, rdR, rdU_e, rdU_n, rdLW, Int.add_zero, hn3]
        refine x_goto (tgt := 47) dX1_micro_37 (by decide) ?_
        refine x_ireturn rfl dX1_micro_47 ?_
        refine hQ _ _ (Or.inl ⟨_, rfl, q2, ?_, CO.r hC⟩)
        unfold microAns
        first
        | rw [if_neg (by omega)]
        | (rw [if_pos (by omega), if_pos (by omega)]; exact (hO.2.2.2 k (by omega) (by omega)).1)
        | (rw [if_pos (by omega), if_neg (by omega)]; exact (hO.2.2.2 k (by omega) (by omega)).2)
    · try simp only [vP_0, vP_1, vP_n0, vP_n1, Classical.not_not] at h19
      refine x_iconst dX1_micro_22 rfl ?_
      refine x_goto (tgt := 47) dX1_micro_23 (by decide) ?_
      refine x_ireturn rfl dX1_micro_47 ?_
      refine hQ _ _ (Or.inl ⟨_, rfl, q2, ?_, CO.r hC⟩)
      unfold microAns
      first
      | rw [if_neg (by omega)]
      | (rw [if_pos (by omega), if_pos (by omega)]; exact (hO.2.2.2 k (by omega) (by omega)).1)
      | (rw [if_pos (by omega), if_neg (by omega)]; exact (hO.2.2.2 k (by omega) (by omega)).2)
  · obtain ⟨q2, eE2, eM2⟩ := h2
    subst eE2
    subst eM2
    exact th_nil rfl (hQ _ _ (Or.inr ⟨_, _, rfl, CO.xx hC, q2, rfl⟩))
theorem s_X1_witness (hd : 14 ≤ d) (hC : CI M v n A hi vi tp sz fa N) : CS G d mX1_witness [dR 0, dI op, dI w] M (orT (postI fun y M1 => ((0 ≤ op ∧ op < v 0) ∧ 0 ≤ w ∧ w ≤ 3) ∧ y = witV v op w ∧ CO M v n A hi vi tp sz fa N 0 0 M1) (fun a E M1 => CO M v n A hi vi tp sz fa N 1 6 M1 ∧ ((¬ (0 ≤ op ∧ op < v 0) ∧ E = "java/lang/IndexOutOfBoundsException") ∨ ((0 ≤ op ∧ op < v 0) ∧ ¬ (0 ≤ w ∧ w ≤ 3) ∧ E = "java/util/NoSuchElementException")))) := by
  obtain ⟨hC1, hC54, hCA, hCR⟩ := id hC; obtain ⟨hS, hTab, hTx, hLn, hSk, hnx⟩ := id hC1; obtain ⟨hA, hL, hR⟩ := id hC54; obtain ⟨⟨s0, s199, s200, s201, s202, s203⟩, ⟨c0, c1, c2, c3, c4, c5, c6, c7, c8, c9, c10, c11, c12⟩, c203, hSt, m189, m191, g193, g196, ⟨⟨r2, r3, r4, r5, r6, r7, r53⟩, ⟨w0, w1, w2, w3, w4, w5, w6⟩, wx1, wx2, wx3⟩⟩ := id hS; have hv := hA.1; have hv8 := hv.n8; have hv0 := hv.1.1; have hv3 := hv.2.2.2.1; have hs54 := hSt 54 (by unfold SB; omega); obtain ⟨p0, p1, ⟨d0, d1, d2, d3, d4, d5, d6, d7⟩, ⟨t1, t2, t3, t4, t5, t6⟩, p5, p6, p7⟩ := id hs54; have t7 : msh M (54 + 7) = some (4, 0) := p5.2.1; have t10 : msh M (54 + 10) = some (4, 0) := p6.2.1; obtain ⟨hB, hW, hLw⟩ := id hR.1; obtain ⟨b1, b2, b3, b4, b5, b6, b7, b8, b9, b10, b11, b12, b13, b14, b15⟩ := id hB; obtain ⟨hn, hn2, hat, hAc⟩ := id hCA; obtain ⟨⟨hki, hhi⟩, hIm, ⟨htp, hsz, hsz2⟩, hfa⟩ := id hCR
  refine CS.mkQ (by decide) (Nat.le_of_ble_eq_true rfl) fun Q hQ => ?_
  refine x_aload_n dX1_witness_0 rfl rfl ?_
  refine x_iload_n dX1_witness_1 rfl rfl ?_
  refine g_callRX (vs := [_, _]) (d' := d - 1) rfl (s_X1_opOf (by omega) hC) dX1_witness_2 kX1_240 (by omega) (by decide) rfl (Nat.le_of_ble_eq_true rfl) (rcv_o (by first | assumption | first | assumption | (simp (disch := omega) only [shI, shR, shL, shC, shD, shW, sh_V, shN_e, shN_n, crI, crL, crC, crW, crV, crR_e, crR_n, crN_e, crN_n, ciR, ciL, ciD, ciN_e, ciN_n, rdI_e, rdI_n, rdC_i, rdC_o, rdW, rdU_e, rdU_n, rdLW, clI, clR, clC, clD, clW, clV, clN_e, clN_n, clL_e, clL_n]; done) | (simp (disch := omega) only [shI, shR, shL, shC, shD, shW, sh_V, shN_e, shN_n, crI, crL, crC, crW, crV, crR_e, crR_n, crN_e, crN_n, ciR, ciL, ciD, ciN_e, ciN_n, rdI_e, rdI_n, rdC_i, rdC_o, rdW, rdU_e, rdU_n, rdLW, clI, clR, clC, clD, clW, clV, clN_e, clN_n, clL_e, clL_n] <;> first | assumption | rfl | omega)) rfl) (fun x2 M2 h2 => ?_) (fun a2 E2 M2 h2 => ?_)
  · obtain ⟨q2, e2, f2⟩ := h2
    subst e2
    subst f2
    obtain ⟨o0, o1, o2, o3, o4, o5, o6, o7⟩ := (p7 op (by omega) (by omega)).2
    refine x_astore_n (L' := [some _, some _, some _, some _]) dX1_witness_5 rfl (by decide) rfl ?_
    refine x_iload_n dX1_witness_6 rfl rfl ?_
    refine x_iconst dX1_witness_7 rfl ?_
    refine x_iconst dX1_witness_8 rfl ?_
    refine g_callI (vs := [_, _, _]) (d' := d - 1) rfl (s_X1_isIn (by omega)) dX1_witness_9 kX1_104 (by omega) (by decide) rfl (Nat.le_of_ble_eq_true rfl) (rcv_n) (fun x9 M9 h9 => ?_)
    obtain ⟨e9, f9⟩ := h9
    have f9' := f9.symm
    subst f9'
    subst e9
    refine g_callNX (vs := [_]) (d' := d - 1) rfl (s_X1_thereIs (by omega) (by first | omega | exact vP_r _)) dX1_witness_12 kX1_281 (by omega) (by decide) rfl (Nat.le_of_ble_eq_true rfl) (rcv_n) (fun M12 h12 => ?_) (fun a12 E12 M12 h12 => ?_)
    · obtain ⟨q12, e12⟩ := h12
      subst e12
      try simp only [vP_0, vP_1, vP_n0, vP_n1, Classical.not_not] at q12
      refine x_aload_n dX1_witness_15 rfl rfl ?_
      refine g_getR (kI := 2) rfl dX1_witness_16 fX1_233_6 (by first | assumption | first | assumption | (simp (disch := omega) only [shI, shR, shL, shC, shD, shW, sh_V, shN_e, shN_n, crI, crL, crC, crW, crV, crR_e, crR_n, crN_e, crN_n, ciR, ciL, ciD, ciN_e, ciN_n, rdI_e, rdI_n, rdC_i, rdC_o, rdW, rdU_e, rdU_n, rdLW, clI, clR, clC, clD, clW, clV, clN_e, clN_n, clL_e, clL_n]; done) | (simp (disch := omega) only [shI, shR, shL, shC, shD, shW, sh_V, shN_e, shN_n, crI, crL, crC, crW, crV, crR_e, crR_n, crN_e, crN_n, ciR, ciL, ciD, ciN_e, ciN_n, rdI_e, rdI_n, rdC_i, rdC_o, rdW, rdU_e, rdU_n, rdLW, clI, clR, clC, clD, clW, clV, clN_e, clN_n, clL_e, clL_n] <;> first | assumption | rfl | omega)) (by first | assumption | first | assumption | (simp (disch := omega) only [shI, shR, shL, shC, shD, shW, sh_V, shN_e, shN_n, crI, crL, crC, crW, crV, crR_e, crR_n, crN_e, crN_n, ciR, ciL, ciD, ciN_e, ciN_n, rdI_e, rdI_n, rdC_i, rdC_o, rdW, rdU_e, rdU_n, rdLW, clI, clR, clC, clD, clW, clV, clN_e, clN_n, clL_e, clL_n]; done) | (simp (disch := omega) only [shI, shR, shL, shC, shD, shW, sh_V, shN_e, shN_n, crI, crL, crC, crW, crV, crR_e, crR_n, crN_e, crN_n, ciR, ciL, ciD, ciN_e, ciN_n, rdI_e, rdI_n, rdC_i, rdC_o, rdW, rdU_e, rdU_n, rdLW, clI, clR, clC, clD, clW, clV, clN_e, clN_n, clL_e, clL_n] <;> first | assumption | rfl | omega)) ?_
      refine x_iload_n dX1_witness_19 rfl rfl ?_
      refine x_iald dX1_witness_20 (by first | assumption | first | assumption | (simp (disch := omega) only [shI, shR, shL, shC, shD, shW, sh_V, shN_e, shN_n, crI, crL, crC, crW, crV, crR_e, crR_n, crN_e, crN_n, ciR, ciL, ciD, ciN_e, ciN_n, rdI_e, rdI_n, rdC_i, rdC_o, rdW, rdU_e, rdU_n, rdLW, clI, clR, clC, clD, clW, clV, clN_e, clN_n, clL_e, clL_n]; done) | (simp (disch := omega) only [shI, shR, shL, shC, shD, shW, sh_V, shN_e, shN_n, crI, crL, crC, crW, crV, crR_e, crR_n, crN_e, crN_n, ciR, ciL, ciD, ciN_e, ciN_n, rdI_e, rdI_n, rdC_i, rdC_o, rdW, rdU_e, rdU_n, rdLW, clI, clR, clC, clD, clW, clV, clN_e, clN_n, clL_e, clL_n] <;> first | assumption | rfl | omega)) (by omega) (by omega) ?_
      refine x_ireturn rfl dX1_witness_21 ?_
      exact hQ _ _ (Or.inl ⟨_, rfl, ⟨q2, q12⟩, hW op w q2.1 q2.2 q12.1 (by omega), CO.r hC⟩)
    · obtain ⟨q12, eE12, eM12⟩ := h12
      subst eE12
      subst eM12
      rw [vP_0] at q12
      exact th_nil rfl (hQ _ _ (Or.inr ⟨_, _, rfl, CO.xx hC, Or.inr ⟨q2, q12, rfl⟩⟩))
  · obtain ⟨q2, eE2, eM2⟩ := h2
    subst eE2
    subst eM2
    exact th_nil rfl (hQ _ _ (Or.inr ⟨_, _, rfl, CO.xx hC, Or.inl ⟨q2, rfl⟩⟩))
theorem s_X1_done (hd : 14 ≤ d) (hC : CI M v n A hi vi tp sz fa N) : CS G d mX1_done [dR 0, dI op, dI st, dI w] M (orT (postI fun y M1 => ((0 ≤ op ∧ op < v 0) ∧ (0 ≤ st ∧ st ≤ 511) ∧ 0 ≤ w ∧ w ≤ 12) ∧ y = doneAns v op st w ∧ CO M v n A hi vi tp sz fa N 0 0 M1) (fun a E M1 => CO M v n A hi vi tp sz fa N 1 6 M1 ∧ ((¬ (0 ≤ op ∧ op < v 0) ∧ E = "java/lang/IndexOutOfBoundsException") ∨ ((0 ≤ op ∧ op < v 0) ∧ ¬ (0 ≤ st ∧ st ≤ 511) ∧ E = "java/lang/IllegalArgumentException") ∨ ((0 ≤ op ∧ op < v 0) ∧ (0 ≤ st ∧ st ≤ 511) ∧ ¬ (0 ≤ w ∧ w ≤ 12) ∧ E = "java/util/NoSuchElementException")))) := by
  obtain ⟨hC1, hC54, hCA, hCR⟩ := id hC; obtain ⟨hS, hTab, hTx, hLn, hSk, hnx⟩ := id hC1; obtain ⟨hA, hL, hR⟩ := id hC54; obtain ⟨⟨s0, s199, s200, s201, s202, s203⟩, ⟨c0, c1, c2, c3, c4, c5, c6, c7, c8, c9, c10, c11, c12⟩, c203, hSt, m189, m191, g193, g196, ⟨⟨r2, r3, r4, r5, r6, r7, r53⟩, ⟨w0, w1, w2, w3, w4, w5, w6⟩, wx1, wx2, wx3⟩⟩ := id hS; have hv := hA.1; have hv8 := hv.n8; have hv0 := hv.1.1; have hv3 := hv.2.2.2.1; have hs54 := hSt 54 (by unfold SB; omega); obtain ⟨p0, p1, ⟨d0, d1, d2, d3, d4, d5, d6, d7⟩, ⟨t1, t2, t3, t4, t5, t6⟩, p5, p6, p7⟩ := id hs54; have t7 : msh M (54 + 7) = some (4, 0) := p5.2.1; have t10 : msh M (54 + 10) = some (4, 0) := p6.2.1; obtain ⟨hB, hW, hLw⟩ := id hR.1; obtain ⟨b1, b2, b3, b4, b5, b6, b7, b8, b9, b10, b11, b12, b13, b14, b15⟩ := id hB; obtain ⟨hn, hn2, hat, hAc⟩ := id hCA; obtain ⟨⟨hki, hhi⟩, hIm, ⟨htp, hsz, hsz2⟩, hfa⟩ := id hCR
  have hm1 : msh M 189 = some (5, 0) := m189.2.1
  have hmc : mcr M 189 0 = some (189 + 1) := m189.2.2.1
  have hms : msh M (189 + 1) = some (100, 8) := m189.2.2.2
  refine CS.mkQ (by decide) (Nat.le_of_ble_eq_true rfl) fun Q hQ => ?_
  refine x_aload_n dX1_done_0 rfl rfl ?_
  refine x_iload_n dX1_done_1 rfl rfl ?_
  refine g_callRX (vs := [_, _]) (d' := d - 1) rfl (s_X1_opOf (by omega) hC) dX1_done_2 kX1_240 (by omega) (by decide) rfl (Nat.le_of_ble_eq_true rfl) (rcv_o (by first | assumption | first | assumption | (simp (disch := omega) only [shI, shR, shL, shC, shD, shW, sh_V, shN_e, shN_n, crI, crL, crC, crW, crV, crR_e, crR_n, crN_e, crN_n, ciR, ciL, ciD, ciN_e, ciN_n, rdI_e, rdI_n, rdC_i, rdC_o, rdW, rdU_e, rdU_n, rdLW, clI, clR, clC, clD, clW, clV, clN_e, clN_n, clL_e, clL_n]; done) | (simp (disch := omega) only [shI, shR, shL, shC, shD, shW, sh_V, shN_e, shN_n, crI, crL, crC, crW, crV, crR_e, crR_n, crN_e, crN_n, ciR, ciL, ciD, ciN_e, ciN_n, rdI_e, rdI_n, rdC_i, rdC_o, rdW, rdU_e, rdU_n, rdLW, clI, clR, clC, clD, clW, clV, clN_e, clN_n, clL_e, clL_n] <;> first | assumption | rfl | omega)) rfl) (fun x2 M2 h2 => ?_) (fun a2 E2 M2 h2 => ?_)
  · obtain ⟨q2, e2, f2⟩ := h2
    subst e2
    subst f2
    refine x_astore (L' := [some _, some _, some _, some _, some _, none]) dX1_done_5 (by decide) rfl ?_
    refine x_iload_n dX1_done_7 rfl rfl ?_
    refine x_iconst dX1_done_8 rfl ?_
    refine x_sipush dX1_done_9 rfl ?_
    refine g_callI (vs := [_, _, _]) (d' := d - 1) rfl (s_X1_isIn (by omega)) dX1_done_12 kX1_104 (by omega) (by decide) rfl (Nat.le_of_ble_eq_true rfl) (rcv_n) (fun x12 M12 h12 => ?_)
    obtain ⟨e12, f12⟩ := h12
    have f12' := f12.symm
    subst f12'
    subst e12
    refine g_callNX (vs := [_]) (d' := d - 1) rfl (s_X1_must (by omega) (by first | omega | exact vP_r _)) dX1_done_15 kX1_116 (by omega) (by decide) rfl (Nat.le_of_ble_eq_true rfl) (rcv_n) (fun M15 h15 => ?_) (fun a15 E15 M15 h15 => ?_)
    · obtain ⟨q15, e15⟩ := h15
      subst e15
      try simp only [vP_0, vP_1, vP_n0, vP_n1, Classical.not_not] at q15
      refine x_iload_n dX1_done_18 rfl rfl ?_
      refine x_iconst dX1_done_19 rfl ?_
      refine x_bipush dX1_done_20 rfl ?_
      refine g_callI (vs := [_, _, _]) (d' := d - 1) rfl (s_X1_isIn (by omega)) dX1_done_22 kX1_104 (by omega) (by decide) rfl (Nat.le_of_ble_eq_true rfl) (rcv_n) (fun x22 M22 h22 => ?_)
      obtain ⟨e22, f22⟩ := h22
      have f22' := f22.symm
      subst f22'
      subst e22
      refine g_callNX (vs := [_]) (d' := d - 1) rfl (s_X1_thereIs (by omega) (by first | omega | exact vP_r _)) dX1_done_25 kX1_281 (by omega) (by decide) rfl (Nat.le_of_ble_eq_true rfl) (rcv_n) (fun M25 h25 => ?_) (fun a25 E25 M25 h25 => ?_)
      · obtain ⟨q25, e25⟩ := h25
        subst e25
        try simp only [vP_0, vP_1, vP_n0, vP_n1, Classical.not_not] at q25
        have h := trH_of (M := M) hS hTab ⟨hSk.2.1, hSk.2.2.1⟩ (b14 op q2.1 q2.2) hv q2
        have hst : 0 ≤ st ∧ st < 512 := by omega
        have hmd : st / 4 % 2 = 0 ∨ st / 4 % 2 = 1 := by omega
        refine x_aload_n dX1_done_28 rfl rfl ?_
        refine g_getR (kI := 5) rfl dX1_done_29 fX1_35_1 (by first | assumption | first | assumption | (simp (disch := omega) only [shI, shR, shL, shC, shD, shW, sh_V, shN_e, shN_n, crI, crL, crC, crW, crV, crR_e, crR_n, crN_e, crN_n, ciR, ciL, ciD, ciN_e, ciN_n, rdI_e, rdI_n, rdC_i, rdC_o, rdW, rdU_e, rdU_n, rdLW, clI, clR, clC, clD, clW, clV, clN_e, clN_n, clL_e, clL_n]; done) | (simp (disch := omega) only [shI, shR, shL, shC, shD, shW, sh_V, shN_e, shN_n, crI, crL, crC, crW, crV, crR_e, crR_n, crN_e, crN_n, ciR, ciL, ciD, ciN_e, ciN_n, rdI_e, rdI_n, rdC_i, rdC_o, rdW, rdU_e, rdU_n, rdLW, clI, clR, clC, clD, clW, clV, clN_e, clN_n, clL_e, clL_n] <;> first | assumption | rfl | omega)) (by first | assumption | first | assumption | (simp (disch := omega) only [shI, shR, shL, shC, shD, shW, sh_V, shN_e, shN_n, crI, crL, crC, crW, crV, crR_e, crR_n, crN_e, crN_n, ciR, ciL, ciD, ciN_e, ciN_n, rdI_e, rdI_n, rdC_i, rdC_o, rdW, rdU_e, rdU_n, rdLW, clI, clR, clC, clD, clW, clV, clN_e, clN_n, clL_e, clL_n]; done) | (simp (disch := omega) only [shI, shR, shL, shC, shD, shW, sh_V, shN_e, shN_n, crI, crL, crC, crW, crV, crR_e, crR_n, crN_e, crN_n, ciR, ciL, ciD, ciN_e, ciN_n, rdI_e, rdI_n, rdC_i, rdC_o, rdW, rdU_e, rdU_n, rdLW, clI, clR, clC, clD, clW, clV, clN_e, clN_n, clL_e, clL_n] <;> first | assumption | rfl | omega)) ?_
        refine x_iload_n dX1_done_32 rfl rfl ?_
        refine g_callN (vs := [_, _]) (d' := d - 1) rfl (try_in (M := M) (by omega) h (Or.inl rfl) hst) dX1_done_33 kX1_183 (by omega) (by decide) rfl (Nat.le_of_ble_eq_true rfl) (rcv_o (by first | assumption | first | assumption | (simp (disch := omega) only [shI, shR, shL, shC, shD, shW, sh_V, shN_e, shN_n, crI, crL, crC, crW, crV, crR_e, crR_n, crN_e, crN_n, ciR, ciL, ciD, ciN_e, ciN_n, rdI_e, rdI_n, rdC_i, rdC_o, rdW, rdU_e, rdU_n, rdLW, clI, clR, clC, clD, clW, clV, clN_e, clN_n, clL_e, clL_n]; done) | (simp (disch := omega) only [shI, shR, shL, shC, shD, shW, sh_V, shN_e, shN_n, crI, crL, crC, crW, crV, crR_e, crR_n, crN_e, crN_n, ciR, ciL, ciD, ciN_e, ciN_n, rdI_e, rdI_n, rdC_i, rdC_o, rdW, rdU_e, rdU_n, rdLW, clI, clR, clC, clD, clW, clV, clN_e, clN_n, clL_e, clL_n] <;> first | assumption | rfl | omega)) rfl) (fun M33 h33 => ?_)
        obtain ⟨g33, hM33, t33, z33, a33, f33⟩ := h33
        subst hM33
        have h1 := h.g t33
        obtain ⟨n1, n2, n3, n4, n5, n6⟩ := mvw_1 a33
        have n2' : mci (wI M g33) 189 2 = st / 4 % 2 := n2
        refine x_aload_n dX1_done_36 rfl rfl ?_
        refine g_getR (kI := 5) rfl dX1_done_37 fX1_35_1 (by first | assumption | first | assumption | (simp (disch := omega) only [shI, shR, shL, shC, shD, shW, sh_V, shN_e, shN_n, crI, crL, crC, crW, crV, crR_e, crR_n, crN_e, crN_n, ciR, ciL, ciD, ciN_e, ciN_n, rdI_e, rdI_n, rdC_i, rdC_o, rdW, rdU_e, rdU_n, rdLW, clI, clR, clC, clD, clW, clV, clN_e, clN_n, clL_e, clL_n]; done) | (simp (disch := omega) only [shI, shR, shL, shC, shD, shW, sh_V, shN_e, shN_n, crI, crL, crC, crW, crV, crR_e, crR_n, crN_e, crN_n, ciR, ciL, ciD, ciN_e, ciN_n, rdI_e, rdI_n, rdC_i, rdC_o, rdW, rdU_e, rdU_n, rdLW, clI, clR, clC, clD, clW, clV, clN_e, clN_n, clL_e, clL_n] <;> first | assumption | rfl | omega)) (by first | assumption | first | assumption | (simp (disch := omega) only [shI, shR, shL, shC, shD, shW, sh_V, shN_e, shN_n, crI, crL, crC, crW, crV, crR_e, crR_n, crN_e, crN_n, ciR, ciL, ciD, ciN_e, ciN_n, rdI_e, rdI_n, rdC_i, rdC_o, rdW, rdU_e, rdU_n, rdLW, clI, clR, clC, clD, clW, clV, clN_e, clN_n, clL_e, clL_n]; done) | (simp (disch := omega) only [shI, shR, shL, shC, shD, shW, sh_V, shN_e, shN_n, crI, crL, crC, crW, crV, crR_e, crR_n, crN_e, crN_n, ciR, ciL, ciD, ciN_e, ciN_n, rdI_e, rdI_n, rdC_i, rdC_o, rdW, rdU_e, rdU_n, rdLW, clI, clR, clC, clD, clW, clV, clN_e, clN_n, clL_e, clL_n] <;> first | assumption | rfl | omega)) ?_
        refine x_aload dX1_done_40 rfl ?_
        refine g_callI (vs := [_, _]) (d' := d - 1) rfl (try_tr (by omega) h1 (Or.inl rfl) n2') dX1_done_42 kX1_191 (by omega) (by decide) rfl (Nat.le_of_ble_eq_true rfl) (rcv_o (by first | assumption | first | assumption | (simp (disch := omega) only [shI, shR, shL, shC, shD, shW, sh_V, shN_e, shN_n, crI, crL, crC, crW, crV, crR_e, crR_n, crN_e, crN_n, ciR, ciL, ciD, ciN_e, ciN_n, rdI_e, rdI_n, rdC_i, rdC_o, rdW, rdU_e, rdU_n, rdLW, clI, clR, clC, clD, clW, clV, clN_e, clN_n, clL_e, clL_n]; done) | (simp (disch := omega) only [shI, shR, shL, shC, shD, shW, sh_V, shN_e, shN_n, crI, crL, crC, crW, crV, crR_e, crR_n, crN_e, crN_n, ciR, ciL, ciD, ciN_e, ciN_n, rdI_e, rdI_n, rdC_i, rdC_o, rdW, rdU_e, rdU_n, rdLW, clI, clR, clC, clD, clW, clV, clN_e, clN_n, clL_e, clL_n] <;> first | assumption | rfl | omega)) rfl) (fun x42 M42 h42 => ?_)
        obtain ⟨e42, f42⟩ := h42
        have f42' := f42.symm
        subst f42'
        subst e42
        refine x_istore (L' := [some _, some _, some _, some _, some _, some _]) dX1_done_45 (by decide) rfl ?_
        refine x_iload_n dX1_done_47 rfl rfl ?_
        refine x_if_ne (tgt := 57) dX1_done_48 (by decide) (fun h48 => ?_) (fun h48 => ?_)
        · try simp only [vP_0, vP_1, vP_n0, vP_n1, Classical.not_not] at h48
          refine x_iload dX1_done_57 rfl ?_
          refine x_if_eq (tgt := 64) dX1_done_59 (by decide) (fun h59 => ?_) (fun h59 => ?_)
          · try simp only [vP_0, vP_1, vP_n0, vP_n1, Classical.not_not] at h59
            refine x_aload_n dX1_done_64 rfl rfl ?_
            refine g_getR (kI := 5) rfl dX1_done_65 fX1_35_1 (by first | assumption | first | assumption | (simp (disch := omega) only [shI, shR, shL, shC, shD, shW, sh_V, shN_e, shN_n, crI, crL, crC, crW, crV, crR_e, crR_n, crN_e, crN_n, ciR, ciL, ciD, ciN_e, ciN_n, rdI_e, rdI_n, rdC_i, rdC_o, rdW, rdU_e, rdU_n, rdLW, clI, clR, clC, clD, clW, clV, clN_e, clN_n, clL_e, clL_n]; done) | (simp (disch := omega) only [shI, shR, shL, shC, shD, shW, sh_V, shN_e, shN_n, crI, crL, crC, crW, crV, crR_e, crR_n, crN_e, crN_n, ciR, ciL, ciD, ciN_e, ciN_n, rdI_e, rdI_n, rdC_i, rdC_o, rdW, rdU_e, rdU_n, rdLW, clI, clR, clC, clD, clW, clV, clN_e, clN_n, clL_e, clL_n] <;> first | assumption | rfl | omega)) (by first | assumption | first | assumption | (simp (disch := omega) only [shI, shR, shL, shC, shD, shW, sh_V, shN_e, shN_n, crI, crL, crC, crW, crV, crR_e, crR_n, crN_e, crN_n, ciR, ciL, ciD, ciN_e, ciN_n, rdI_e, rdI_n, rdC_i, rdC_o, rdW, rdU_e, rdU_n, rdLW, clI, clR, clC, clD, clW, clV, clN_e, clN_n, clL_e, clL_n]; done) | (simp (disch := omega) only [shI, shR, shL, shC, shD, shW, sh_V, shN_e, shN_n, crI, crL, crC, crW, crV, crR_e, crR_n, crN_e, crN_n, ciR, ciL, ciD, ciN_e, ciN_n, rdI_e, rdI_n, rdC_i, rdC_o, rdW, rdU_e, rdU_n, rdLW, clI, clR, clC, clD, clW, clV, clN_e, clN_n, clL_e, clL_n] <;> first | assumption | rfl | omega)) ?_
            refine x_aload dX1_done_68 rfl ?_
            refine g_callN (vs := [_, _]) (d' := d - 1) rfl (try_do (M := wI M g33) (by omega) h1 (Or.inl rfl) z33 a33 (tabM_ok hmd (by omega) (by omega) hSk.2.1)) dX1_done_70 kX1_195 (by omega) (by decide) rfl (Nat.le_of_ble_eq_true rfl) (rcv_o (by first | assumption | first | assumption | (simp (disch := omega) only [shI, shR, shL, shC, shD, shW, sh_V, shN_e, shN_n, crI, crL, crC, crW, crV, crR_e, crR_n, crN_e, crN_n, ciR, ciL, ciD, ciN_e, ciN_n, rdI_e, rdI_n, rdC_i, rdC_o, rdW, rdU_e, rdU_n, rdLW, clI, clR, clC, clD, clW, clV, clN_e, clN_n, clL_e, clL_n]; done) | (simp (disch := omega) only [shI, shR, shL, shC, shD, shW, sh_V, shN_e, shN_n, crI, crL, crC, crW, crV, crR_e, crR_n, crN_e, crN_n, ciR, ciL, ciD, ciN_e, ciN_n, rdI_e, rdI_n, rdC_i, rdC_o, rdW, rdU_e, rdU_n, rdLW, clI, clR, clC, clD, clW, clV, clN_e, clN_n, clL_e, clL_n] <;> first | assumption | rfl | omega)) rfl) (fun M70 h70 => ?_)
            obtain ⟨g70, hM70, t70, z70, a70, f70⟩ := h70
            subst hM70
            rw [opD_tab] at a70
            obtain ⟨l1, l2, l3, l4, l5, l6⟩ := mvw_1 a70
            have l1' : mci (wI (wI M g33) g70) 189 1 = (opD v op (stM st)).1 := l1
            have l2' : mci (wI (wI M g33) g70) 189 2 = (opD v op (stM st)).2.1 := l2
            have l3' : mci (wI (wI M g33) g70) 189 3 = (opD v op (stM st)).2.2.1 := l3
            have l5' : mci (wI (wI M g33) g70) 189 6 = (opD v op (stM st)).2.2.2.2.1 := l5
            have hok : okM (opD v op (stM st)) := opD_ok (hv.op op q2.1 q2.2) (tabM_ok hmd (by omega) (by omega) (Or.inl rfl))
            have hok5 := hok.sk
            refine x_iload_n dX1_done_73 rfl rfl ?_
            refine x_iconst dX1_done_74 rfl ?_
            refine x_icmp_ne (tgt := 88) dX1_done_75 (by decide) (fun h75 => ?_) (fun h75 => ?_)
            · refine x_iload_n dX1_done_88 rfl rfl ?_
              refine x_iconst dX1_done_89 rfl ?_
              refine x_icmp_ne (tgt := 103) dX1_done_90 (by decide) (fun h90 => ?_) (fun h90 => ?_)
              · refine x_iload_n dX1_done_103 rfl rfl ?_
                refine x_iconst dX1_done_104 rfl ?_
                refine x_icmp_ne (tgt := 118) dX1_done_105 (by decide) (fun h105 => ?_) (fun h105 => ?_)
                · refine x_iload_n dX1_done_118 rfl rfl ?_
                  refine x_iconst dX1_done_119 rfl ?_
                  refine x_icmp_ne (tgt := 136) dX1_done_120 (by decide) (fun h120 => ?_) (fun h120 => ?_)
                  · refine x_aload_n dX1_done_136 rfl rfl ?_
                    refine g_getR (kI := 5) rfl dX1_done_137 fX1_35_1 (by first | assumption | first | assumption | (simp (disch := omega) only [shI, shR, shL, shC, shD, shW, sh_V, shN_e, shN_n, crI, crL, crC, crW, crV, crR_e, crR_n, crN_e, crN_n, ciR, ciL, ciD, ciN_e, ciN_n, rdI_e, rdI_n, rdC_i, rdC_o, rdW, rdU_e, rdU_n, rdLW, clI, clR, clC, clD, clW, clV, clN_e, clN_n, clL_e, clL_n]; done) | (simp (disch := omega) only [shI, shR, shL, shC, shD, shW, sh_V, shN_e, shN_n, crI, crL, crC, crW, crV, crR_e, crR_n, crN_e, crN_n, ciR, ciL, ciD, ciN_e, ciN_n, rdI_e, rdI_n, rdC_i, rdC_o, rdW, rdU_e, rdU_n, rdLW, clI, clR, clC, clD, clW, clV, clN_e, clN_n, clL_e, clL_n] <;> first | assumption | rfl | omega)) (by first | assumption | first | assumption | (simp (disch := omega) only [shI, shR, shL, shC, shD, shW, sh_V, shN_e, shN_n, crI, crL, crC, crW, crV, crR_e, crR_n, crN_e, crN_n, ciR, ciL, ciD, ciN_e, ciN_n, rdI_e, rdI_n, rdC_i, rdC_o, rdW, rdU_e, rdU_n, rdLW, clI, clR, clC, clD, clW, clV, clN_e, clN_n, clL_e, clL_n]; done) | (simp (disch := omega) only [shI, shR, shL, shC, shD, shW, sh_V, shN_e, shN_n, crI, crL, crC, crW, crV, crR_e, crR_n, crN_e, crN_n, ciR, ciL, ciD, ciN_e, ciN_n, rdI_e, rdI_n, rdC_i, rdC_o, rdW, rdU_e, rdU_n, rdLW, clI, clR, clC, clD, clW, clV, clN_e, clN_n, clL_e, clL_n] <;> first | assumption | rfl | omega)) ?_
                    refine g_getR (kI := 0) rfl dX1_done_140 fX1_290_5 (by first | assumption | first | assumption | (simp (disch := omega) only [shI, shR, shL, shC, shD, shW, sh_V, shN_e, shN_n, crI, crL, crC, crW, crV, crR_e, crR_n, crN_e, crN_n, ciR, ciL, ciD, ciN_e, ciN_n, rdI_e, rdI_n, rdC_i, rdC_o, rdW, rdU_e, rdU_n, rdLW, clI, clR, clC, clD, clW, clV, clN_e, clN_n, clL_e, clL_n]; done) | (simp (disch := omega) only [shI, shR, shL, shC, shD, shW, sh_V, shN_e, shN_n, crI, crL, crC, crW, crV, crR_e, crR_n, crN_e, crN_n, ciR, ciL, ciD, ciN_e, ciN_n, rdI_e, rdI_n, rdC_i, rdC_o, rdW, rdU_e, rdU_n, rdLW, clI, clR, clC, clD, clW, clV, clN_e, clN_n, clL_e, clL_n] <;> first | assumption | rfl | omega)) (by first | assumption | first | assumption | (simp (disch := omega) only [shI, shR, shL, shC, shD, shW, sh_V, shN_e, shN_n, crI, crL, crC, crW, crV, crR_e, crR_n, crN_e, crN_n, ciR, ciL, ciD, ciN_e, ciN_n, rdI_e, rdI_n, rdC_i, rdC_o, rdW, rdU_e, rdU_n, rdLW, clI, clR, clC, clD, clW, clV, clN_e, clN_n, clL_e, clL_n]; done) | (simp (disch := omega) only [shI, shR, shL, shC, shD, shW, sh_V, shN_e, shN_n, crI, crL, crC, crW, crV, crR_e, crR_n, crN_e, crN_n, ciR, ciL, ciD, ciN_e, ciN_n, rdI_e, rdI_n, rdC_i, rdC_o, rdW, rdU_e, rdU_n, rdLW, clI, clR, clC, clD, clW, clV, clN_e, clN_n, clL_e, clL_n] <;> first | assumption | rfl | omega)) ?_
                    refine x_iload_n dX1_done_143 rfl rfl ?_
                    refine x_iconst dX1_done_144 rfl ?_
                    first | refine x_isubN dX1_done_145 (by unfold i32; omega) ?_ | refine x_isub dX1_done_145 ?_
                    refine x_iald dX1_done_146 (by first | assumption | first | assumption | (simp (disch := omega) only [shI, shR, shL, shC, shD, shW, sh_V, shN_e, shN_n, crI, crL, crC, crW, crV, crR_e, crR_n, crN_e, crN_n, ciR, ciL, ciD, ciN_e, ciN_n, rdI_e, rdI_n, rdC_i, rdC_o, rdW, rdU_e, rdU_n, rdLW, clI, clR, clC, clD, clW, clV, clN_e, clN_n, clL_e, clL_n]; done) | (simp (disch := omega) only [shI, shR, shL, shC, shD, shW, sh_V, shN_e, shN_n, crI, crL, crC, crW, crV, crR_e, crR_n, crN_e, crN_n, ciR, ciL, ciD, ciN_e, ciN_n, rdI_e, rdI_n, rdC_i, rdC_o, rdW, rdU_e, rdU_n, rdLW, clI, clR, clC, clD, clW, clV, clN_e, clN_n, clL_e, clL_n] <;> first | assumption | rfl | omega)) (by omega) (by omega) ?_
                    skip
                    refine x_ireturn rfl dX1_done_147 ?_
                    refine hQ _ _ (Or.inl ⟨_, rfl, ⟨q2, q15, q25⟩, ?_, CO.t hC (t33.trans t70)⟩)
                    have h59' : ¬ (opG v op = 1 ∧ st / 4 % 2 = 0) := h59
                    unfold doneAns
                    rw [if_neg h59', if_neg h48]
                    first
                    | rw [if_pos h75]
                    | rw [if_neg h75, if_pos h90]
                    | rw [if_neg h75, if_neg h90, if_pos h105]
                    | rw [if_neg h75, if_neg h90, if_neg h105, if_pos h120]
                    | (rw [if_neg h75, if_neg h90, if_neg h105, if_neg h120]
                       have q := l6 (w - 5)
                       rw [show (w - 5 + 0) % 8 = w - 5 by omega] at q
                       exact q)
                  · refine x_aload_n dX1_done_123 rfl rfl ?_
                    refine g_getR (kI := 5) rfl dX1_done_124 fX1_35_1 (by first | assumption | first | assumption | (simp (disch := omega) only [shI, shR, shL, shC, shD, shW, sh_V, shN_e, shN_n, crI, crL, crC, crW, crV, crR_e, crR_n, crN_e, crN_n, ciR, ciL, ciD, ciN_e, ciN_n, rdI_e, rdI_n, rdC_i, rdC_o, rdW, rdU_e, rdU_n, rdLW, clI, clR, clC, clD, clW, clV, clN_e, clN_n, clL_e, clL_n]; done) | (simp (disch := omega) only [shI, shR, shL, shC, shD, shW, sh_V, shN_e, shN_n, crI, crL, crC, crW, crV, crR_e, crR_n, crN_e, crN_n, ciR, ciL, ciD, ciN_e, ciN_n, rdI_e, rdI_n, rdC_i, rdC_o, rdW, rdU_e, rdU_n, rdLW, clI, clR, clC, clD, clW, clV, clN_e, clN_n, clL_e, clL_n] <;> first | assumption | rfl | omega)) (by first | assumption | first | assumption | (simp (disch := omega) only [shI, shR, shL, shC, shD, shW, sh_V, shN_e, shN_n, crI, crL, crC, crW, crV, crR_e, crR_n, crN_e, crN_n, ciR, ciL, ciD, ciN_e, ciN_n, rdI_e, rdI_n, rdC_i, rdC_o, rdW, rdU_e, rdU_n, rdLW, clI, clR, clC, clD, clW, clV, clN_e, clN_n, clL_e, clL_n]; done) | (simp (disch := omega) only [shI, shR, shL, shC, shD, shW, sh_V, shN_e, shN_n, crI, crL, crC, crW, crV, crR_e, crR_n, crN_e, crN_n, ciR, ciL, ciD, ciN_e, ciN_n, rdI_e, rdI_n, rdC_i, rdC_o, rdW, rdU_e, rdU_n, rdLW, clI, clR, clC, clD, clW, clV, clN_e, clN_n, clL_e, clL_n] <;> first | assumption | rfl | omega)) ?_
                    refine g_getZ (kI := 6) rfl dX1_done_127 fX1_287_5 (by first | assumption | first | assumption | (simp (disch := omega) only [shI, shR, shL, shC, shD, shW, sh_V, shN_e, shN_n, crI, crL, crC, crW, crV, crR_e, crR_n, crN_e, crN_n, ciR, ciL, ciD, ciN_e, ciN_n, rdI_e, rdI_n, rdC_i, rdC_o, rdW, rdU_e, rdU_n, rdLW, clI, clR, clC, clD, clW, clV, clN_e, clN_n, clL_e, clL_n]; done) | (simp (disch := omega) only [shI, shR, shL, shC, shD, shW, sh_V, shN_e, shN_n, crI, crL, crC, crW, crV, crR_e, crR_n, crN_e, crN_n, ciR, ciL, ciD, ciN_e, ciN_n, rdI_e, rdI_n, rdC_i, rdC_o, rdW, rdU_e, rdU_n, rdLW, clI, clR, clC, clD, clW, clV, clN_e, clN_n, clL_e, clL_n] <;> first | assumption | rfl | omega)) ?_
                    rw [l5']
                    refine g_callI (vs := [_]) (d' := d - 1) rfl (s_X1_flag (by omega) (by first | omega | exact vP_r _)) dX1_done_130 kX1_248 (by omega) (by decide) rfl (Nat.le_of_ble_eq_true rfl) (rcv_n) (fun x130 M130 h130 => ?_)
                    obtain ⟨e130, f130⟩ := h130
                    have f130' := f130.symm
                    subst f130'
                    subst e130
                    refine x_goto (tgt := 147) dX1_done_133 (by decide) ?_
                    skip
                    refine x_ireturn rfl dX1_done_147 ?_
                    refine hQ _ _ (Or.inl ⟨_, rfl, ⟨q2, q15, q25⟩, ?_, CO.t hC (t33.trans t70)⟩)
                    have h59' : ¬ (opG v op = 1 ∧ st / 4 % 2 = 0) := h59
                    unfold doneAns
                    rw [if_neg h59', if_neg h48]
                    first
                    | rw [if_pos h75]
                    | rw [if_neg h75, if_pos h90]
                    | rw [if_neg h75, if_neg h90, if_pos h105]
                    | rw [if_neg h75, if_neg h90, if_neg h105, if_pos h120]
                    | (rw [if_neg h75, if_neg h90, if_neg h105, if_neg h120]
                       have q := l6 (w - 5)
                       rw [show (w - 5 + 0) % 8 = w - 5 by omega] at q
                       exact q)
                · refine x_aload_n dX1_done_108 rfl rfl ?_
                  refine g_getR (kI := 5) rfl dX1_done_109 fX1_35_1 (by first | assumption | first | assumption | (simp (disch := omega) only [shI, shR, shL, shC, shD, shW, sh_V, shN_e, shN_n, crI, crL, crC, crW, crV, crR_e, crR_n, crN_e, crN_n, ciR, ciL, ciD, ciN_e, ciN_n, rdI_e, rdI_n, rdC_i, rdC_o, rdW, rdU_e, rdU_n, rdLW, clI, clR, clC, clD, clW, clV, clN_e, clN_n, clL_e, clL_n]; done) | (simp (disch := omega) only [shI, shR, shL, shC, shD, shW, sh_V, shN_e, shN_n, crI, crL, crC, crW, crV, crR_e, crR_n, crN_e, crN_n, ciR, ciL, ciD, ciN_e, ciN_n, rdI_e, rdI_n, rdC_i, rdC_o, rdW, rdU_e, rdU_n, rdLW, clI, clR, clC, clD, clW, clV, clN_e, clN_n, clL_e, clL_n] <;> first | assumption | rfl | omega)) (by first | assumption | first | assumption | (simp (disch := omega) only [shI, shR, shL, shC, shD, shW, sh_V, shN_e, shN_n, crI, crL, crC, crW, crV, crR_e, crR_n, crN_e, crN_n, ciR, ciL, ciD, ciN_e, ciN_n, rdI_e, rdI_n, rdC_i, rdC_o, rdW, rdU_e, rdU_n, rdLW, clI, clR, clC, clD, clW, clV, clN_e, clN_n, clL_e, clL_n]; done) | (simp (disch := omega) only [shI, shR, shL, shC, shD, shW, sh_V, shN_e, shN_n, crI, crL, crC, crW, crV, crR_e, crR_n, crN_e, crN_n, ciR, ciL, ciD, ciN_e, ciN_n, rdI_e, rdI_n, rdC_i, rdC_o, rdW, rdU_e, rdU_n, rdLW, clI, clR, clC, clD, clW, clV, clN_e, clN_n, clL_e, clL_n] <;> first | assumption | rfl | omega)) ?_
                  refine g_getI (kI := 3) rfl dX1_done_112 fX1_188_5 (by first | assumption | first | assumption | (simp (disch := omega) only [shI, shR, shL, shC, shD, shW, sh_V, shN_e, shN_n, crI, crL, crC, crW, crV, crR_e, crR_n, crN_e, crN_n, ciR, ciL, ciD, ciN_e, ciN_n, rdI_e, rdI_n, rdC_i, rdC_o, rdW, rdU_e, rdU_n, rdLW, clI, clR, clC, clD, clW, clV, clN_e, clN_n, clL_e, clL_n]; done) | (simp (disch := omega) only [shI, shR, shL, shC, shD, shW, sh_V, shN_e, shN_n, crI, crL, crC, crW, crV, crR_e, crR_n, crN_e, crN_n, ciR, ciL, ciD, ciN_e, ciN_n, rdI_e, rdI_n, rdC_i, rdC_o, rdW, rdU_e, rdU_n, rdLW, clI, clR, clC, clD, clW, clV, clN_e, clN_n, clL_e, clL_n] <;> first | assumption | rfl | omega)) ?_
                  rw [l3']
                  refine x_goto (tgt := 147) dX1_done_115 (by decide) ?_
                  skip
                  refine x_ireturn rfl dX1_done_147 ?_
                  refine hQ _ _ (Or.inl ⟨_, rfl, ⟨q2, q15, q25⟩, ?_, CO.t hC (t33.trans t70)⟩)
                  have h59' : ¬ (opG v op = 1 ∧ st / 4 % 2 = 0) := h59
                  unfold doneAns
                  rw [if_neg h59', if_neg h48]
                  first
                  | rw [if_pos h75]
                  | rw [if_neg h75, if_pos h90]
                  | rw [if_neg h75, if_neg h90, if_pos h105]
                  | rw [if_neg h75, if_neg h90, if_neg h105, if_pos h120]
                  | (rw [if_neg h75, if_neg h90, if_neg h105, if_neg h120]
                     have q := l6 (w - 5)
                     rw [show (w - 5 + 0) % 8 = w - 5 by omega] at q
                     exact q)
              · refine x_aload_n dX1_done_93 rfl rfl ?_
                refine g_getR (kI := 5) rfl dX1_done_94 fX1_35_1 (by first | assumption | first | assumption | (simp (disch := omega) only [shI, shR, shL, shC, shD, shW, sh_V, shN_e, shN_n, crI, crL, crC, crW, crV, crR_e, crR_n, crN_e, crN_n, ciR, ciL, ciD, ciN_e, ciN_n, rdI_e, rdI_n, rdC_i, rdC_o, rdW, rdU_e, rdU_n, rdLW, clI, clR, clC, clD, clW, clV, clN_e, clN_n, clL_e, clL_n]; done) | (simp (disch := omega) only [shI, shR, shL, shC, shD, shW, sh_V, shN_e, shN_n, crI, crL, crC, crW, crV, crR_e, crR_n, crN_e, crN_n, ciR, ciL, ciD, ciN_e, ciN_n, rdI_e, rdI_n, rdC_i, rdC_o, rdW, rdU_e, rdU_n, rdLW, clI, clR, clC, clD, clW, clV, clN_e, clN_n, clL_e, clL_n] <;> first | assumption | rfl | omega)) (by first | assumption | first | assumption | (simp (disch := omega) only [shI, shR, shL, shC, shD, shW, sh_V, shN_e, shN_n, crI, crL, crC, crW, crV, crR_e, crR_n, crN_e, crN_n, ciR, ciL, ciD, ciN_e, ciN_n, rdI_e, rdI_n, rdC_i, rdC_o, rdW, rdU_e, rdU_n, rdLW, clI, clR, clC, clD, clW, clV, clN_e, clN_n, clL_e, clL_n]; done) | (simp (disch := omega) only [shI, shR, shL, shC, shD, shW, sh_V, shN_e, shN_n, crI, crL, crC, crW, crV, crR_e, crR_n, crN_e, crN_n, ciR, ciL, ciD, ciN_e, ciN_n, rdI_e, rdI_n, rdC_i, rdC_o, rdW, rdU_e, rdU_n, rdLW, clI, clR, clC, clD, clW, clV, clN_e, clN_n, clL_e, clL_n] <;> first | assumption | rfl | omega)) ?_
                refine g_getI (kI := 2) rfl dX1_done_97 fX1_185_5 (by first | assumption | first | assumption | (simp (disch := omega) only [shI, shR, shL, shC, shD, shW, sh_V, shN_e, shN_n, crI, crL, crC, crW, crV, crR_e, crR_n, crN_e, crN_n, ciR, ciL, ciD, ciN_e, ciN_n, rdI_e, rdI_n, rdC_i, rdC_o, rdW, rdU_e, rdU_n, rdLW, clI, clR, clC, clD, clW, clV, clN_e, clN_n, clL_e, clL_n]; done) | (simp (disch := omega) only [shI, shR, shL, shC, shD, shW, sh_V, shN_e, shN_n, crI, crL, crC, crW, crV, crR_e, crR_n, crN_e, crN_n, ciR, ciL, ciD, ciN_e, ciN_n, rdI_e, rdI_n, rdC_i, rdC_o, rdW, rdU_e, rdU_n, rdLW, clI, clR, clC, clD, clW, clV, clN_e, clN_n, clL_e, clL_n] <;> first | assumption | rfl | omega)) ?_
                rw [l2']
                refine x_goto (tgt := 147) dX1_done_100 (by decide) ?_
                skip
                refine x_ireturn rfl dX1_done_147 ?_
                refine hQ _ _ (Or.inl ⟨_, rfl, ⟨q2, q15, q25⟩, ?_, CO.t hC (t33.trans t70)⟩)
                have h59' : ¬ (opG v op = 1 ∧ st / 4 % 2 = 0) := h59
                unfold doneAns
                rw [if_neg h59', if_neg h48]
                first
                | rw [if_pos h75]
                | rw [if_neg h75, if_pos h90]
                | rw [if_neg h75, if_neg h90, if_pos h105]
                | rw [if_neg h75, if_neg h90, if_neg h105, if_pos h120]
                | (rw [if_neg h75, if_neg h90, if_neg h105, if_neg h120]
                   have q := l6 (w - 5)
                   rw [show (w - 5 + 0) % 8 = w - 5 by omega] at q
                   exact q)
            · refine x_aload_n dX1_done_78 rfl rfl ?_
              refine g_getR (kI := 5) rfl dX1_done_79 fX1_35_1 (by first | assumption | first | assumption | (simp (disch := omega) only [shI, shR, shL, shC, shD, shW, sh_V, shN_e, shN_n, crI, crL, crC, crW, crV, crR_e, crR_n, crN_e, crN_n, ciR, ciL, ciD, ciN_e, ciN_n, rdI_e, rdI_n, rdC_i, rdC_o, rdW, rdU_e, rdU_n, rdLW, clI, clR, clC, clD, clW, clV, clN_e, clN_n, clL_e, clL_n]; done) | (simp (disch := omega) only [shI, shR, shL, shC, shD, shW, sh_V, shN_e, shN_n, crI, crL, crC, crW, crV, crR_e, crR_n, crN_e, crN_n, ciR, ciL, ciD, ciN_e, ciN_n, rdI_e, rdI_n, rdC_i, rdC_o, rdW, rdU_e, rdU_n, rdLW, clI, clR, clC, clD, clW, clV, clN_e, clN_n, clL_e, clL_n] <;> first | assumption | rfl | omega)) (by first | assumption | first | assumption | (simp (disch := omega) only [shI, shR, shL, shC, shD, shW, sh_V, shN_e, shN_n, crI, crL, crC, crW, crV, crR_e, crR_n, crN_e, crN_n, ciR, ciL, ciD, ciN_e, ciN_n, rdI_e, rdI_n, rdC_i, rdC_o, rdW, rdU_e, rdU_n, rdLW, clI, clR, clC, clD, clW, clV, clN_e, clN_n, clL_e, clL_n]; done) | (simp (disch := omega) only [shI, shR, shL, shC, shD, shW, sh_V, shN_e, shN_n, crI, crL, crC, crW, crV, crR_e, crR_n, crN_e, crN_n, ciR, ciL, ciD, ciN_e, ciN_n, rdI_e, rdI_n, rdC_i, rdC_o, rdW, rdU_e, rdU_n, rdLW, clI, clR, clC, clD, clW, clV, clN_e, clN_n, clL_e, clL_n] <;> first | assumption | rfl | omega)) ?_
              refine g_getI (kI := 1) rfl dX1_done_82 fX1_284_5 (by first | assumption | first | assumption | (simp (disch := omega) only [shI, shR, shL, shC, shD, shW, sh_V, shN_e, shN_n, crI, crL, crC, crW, crV, crR_e, crR_n, crN_e, crN_n, ciR, ciL, ciD, ciN_e, ciN_n, rdI_e, rdI_n, rdC_i, rdC_o, rdW, rdU_e, rdU_n, rdLW, clI, clR, clC, clD, clW, clV, clN_e, clN_n, clL_e, clL_n]; done) | (simp (disch := omega) only [shI, shR, shL, shC, shD, shW, sh_V, shN_e, shN_n, crI, crL, crC, crW, crV, crR_e, crR_n, crN_e, crN_n, ciR, ciL, ciD, ciN_e, ciN_n, rdI_e, rdI_n, rdC_i, rdC_o, rdW, rdU_e, rdU_n, rdLW, clI, clR, clC, clD, clW, clV, clN_e, clN_n, clL_e, clL_n] <;> first | assumption | rfl | omega)) ?_
              rw [l1']
              refine x_goto (tgt := 147) dX1_done_85 (by decide) ?_
              skip
              refine x_ireturn rfl dX1_done_147 ?_
              refine hQ _ _ (Or.inl ⟨_, rfl, ⟨q2, q15, q25⟩, ?_, CO.t hC (t33.trans t70)⟩)
              have h59' : ¬ (opG v op = 1 ∧ st / 4 % 2 = 0) := h59
              unfold doneAns
              rw [if_neg h59', if_neg h48]
              first
              | rw [if_pos h75]
              | rw [if_neg h75, if_pos h90]
              | rw [if_neg h75, if_neg h90, if_pos h105]
              | rw [if_neg h75, if_neg h90, if_neg h105, if_pos h120]
              | (rw [if_neg h75, if_neg h90, if_neg h105, if_neg h120]
                 have q := l6 (w - 5)
                 rw [show (w - 5 + 0) % 8 = w - 5 by omega] at q
                 exact q)
          · try simp only [vP_0, vP_1, vP_n0, vP_n1, Classical.not_not] at h59
            refine x_iconst dX1_done_62 rfl ?_
            refine x_ireturn rfl dX1_done_63 ?_
            refine hQ _ _ (Or.inl ⟨_, rfl, ⟨q2, q15, q25⟩, ?_, CO.t hC t33⟩)
            have h59' : opG v op = 1 ∧ st / 4 % 2 = 0 := h59
            unfold doneAns
            rw [if_pos h59', if_neg h48]
        · try simp only [vP_0, vP_1, vP_n0, vP_n1, Classical.not_not] at h48
          refine x_iload dX1_done_51 rfl ?_
          refine g_callI (vs := [_]) (d' := d - 1) rfl (s_X1_flag (by omega) (by first | omega | exact vP_r _)) dX1_done_53 kX1_248 (by omega) (by decide) rfl (Nat.le_of_ble_eq_true rfl) (rcv_n) (fun x53 M53 h53 => ?_)
          obtain ⟨e53, f53⟩ := h53
          have f53' := f53.symm
          subst f53'
          subst e53
          refine x_ireturn rfl dX1_done_56 ?_
          subst h48
          refine hQ _ _ (Or.inl ⟨_, rfl, ⟨q2, q15, q25⟩, ?_, CO.t hC t33⟩)
          unfold doneAns
          by_cases q : opG v op = 1 ∧ st / 4 % 2 = 0
          · rw [if_pos q, if_pos rfl]; exact vP_t q
          · rw [if_neg q, if_pos rfl]; exact vP_f q
      · obtain ⟨q25, eE25, eM25⟩ := h25
        subst eE25
        subst eM25
        rw [vP_0] at q25
        exact th_nil rfl (hQ _ _ (Or.inr ⟨_, _, rfl, CO.xx hC, Or.inr (Or.inr ⟨q2, q15, q25, rfl⟩)⟩))
    · obtain ⟨q15, eE15, eM15⟩ := h15
      subst eE15
      subst eM15
      rw [vP_0] at q15
      exact th_nil rfl (hQ _ _ (Or.inr ⟨_, _, rfl, CO.xx hC, Or.inr (Or.inl ⟨q2, q15, rfl⟩)⟩))
  · obtain ⟨q2, eE2, eM2⟩ := h2
    subst eE2
    subst eM2
    exact th_nil rfl (hQ _ _ (Or.inr ⟨_, _, rfl, CO.xx hC, Or.inl ⟨q2, rfl⟩⟩))
theorem s_X1_cell (hd : 14 ≤ d) (hC : CI M v n A hi vi tp sz fa N) : CS G d mX1_cell [dR 0, dI k] M (orT (postI fun y M1 => (0 ≤ k ∧ k ≤ 7) ∧ y = v (22 + k) ∧ CO M v n A hi vi tp sz fa N 0 0 M1) (fun a E M1 => CO M v n A hi vi tp sz fa N 1 6 M1 ∧ ¬ (0 ≤ k ∧ k ≤ 7) ∧ E = "java/lang/IndexOutOfBoundsException")) := by
  obtain ⟨hC1, hC54, hCA, hCR⟩ := id hC; obtain ⟨hS, hTab, hTx, hLn, hSk, hnx⟩ := id hC1; obtain ⟨hA, hL, hR⟩ := id hC54; obtain ⟨⟨s0, s199, s200, s201, s202, s203⟩, ⟨c0, c1, c2, c3, c4, c5, c6, c7, c8, c9, c10, c11, c12⟩, c203, hSt, m189, m191, g193, g196, ⟨⟨r2, r3, r4, r5, r6, r7, r53⟩, ⟨w0, w1, w2, w3, w4, w5, w6⟩, wx1, wx2, wx3⟩⟩ := id hS; have hv := hA.1; have hv8 := hv.n8; have hv0 := hv.1.1; have hv3 := hv.2.2.2.1; have hs54 := hSt 54 (by unfold SB; omega); obtain ⟨p0, p1, ⟨d0, d1, d2, d3, d4, d5, d6, d7⟩, ⟨t1, t2, t3, t4, t5, t6⟩, p5, p6, p7⟩ := id hs54; have t7 : msh M (54 + 7) = some (4, 0) := p5.2.1; have t10 : msh M (54 + 10) = some (4, 0) := p6.2.1; obtain ⟨hB, hW, hLw⟩ := id hR.1; obtain ⟨b1, b2, b3, b4, b5, b6, b7, b8, b9, b10, b11, b12, b13, b14, b15⟩ := id hB; obtain ⟨hn, hn2, hat, hAc⟩ := id hCA; obtain ⟨⟨hki, hhi⟩, hIm, ⟨htp, hsz, hsz2⟩, hfa⟩ := id hCR
  refine CS.mkQ (by decide) (Nat.le_of_ble_eq_true rfl) fun Q hQ => ?_
  refine x_iload_n dX1_cell_0 rfl rfl ?_
  refine g_callNX (vs := [_]) (d' := d - 1) rfl (s_X1_isCell (by omega)) dX1_cell_1 kX1_294 (by omega) (by decide) rfl (Nat.le_of_ble_eq_true rfl) (rcv_n) (fun M1 h1 => ?_) (fun a1 E1 M1 h1 => ?_)
  · obtain ⟨q1, e1⟩ := h1
    subst e1
    refine x_aload_n dX1_cell_4 rfl rfl ?_
    refine g_getR (kI := 1) rfl dX1_cell_5 fX1_22_1 (by first | assumption | first | assumption | (simp (disch := omega) only [shI, shR, shL, shC, shD, shW, sh_V, shN_e, shN_n, crI, crL, crC, crW, crV, crR_e, crR_n, crN_e, crN_n, ciR, ciL, ciD, ciN_e, ciN_n, rdI_e, rdI_n, rdC_i, rdC_o, rdW, rdU_e, rdU_n, rdLW, clI, clR, clC, clD, clW, clV, clN_e, clN_n, clL_e, clL_n]; done) | (simp (disch := omega) only [shI, shR, shL, shC, shD, shW, sh_V, shN_e, shN_n, crI, crL, crC, crW, crV, crR_e, crR_n, crN_e, crN_n, ciR, ciL, ciD, ciN_e, ciN_n, rdI_e, rdI_n, rdC_i, rdC_o, rdW, rdU_e, rdU_n, rdLW, clI, clR, clC, clD, clW, clV, clN_e, clN_n, clL_e, clL_n] <;> first | assumption | rfl | omega)) (by first | assumption | first | assumption | (simp (disch := omega) only [shI, shR, shL, shC, shD, shW, sh_V, shN_e, shN_n, crI, crL, crC, crW, crV, crR_e, crR_n, crN_e, crN_n, ciR, ciL, ciD, ciN_e, ciN_n, rdI_e, rdI_n, rdC_i, rdC_o, rdW, rdU_e, rdU_n, rdLW, clI, clR, clC, clD, clW, clV, clN_e, clN_n, clL_e, clL_n]; done) | (simp (disch := omega) only [shI, shR, shL, shC, shD, shW, sh_V, shN_e, shN_n, crI, crL, crC, crW, crV, crR_e, crR_n, crN_e, crN_n, ciR, ciL, ciD, ciN_e, ciN_n, rdI_e, rdI_n, rdC_i, rdC_o, rdW, rdU_e, rdU_n, rdLW, clI, clR, clC, clD, clW, clV, clN_e, clN_n, clL_e, clL_n] <;> first | assumption | rfl | omega)) ?_
    refine g_getR (kI := 5) rfl dX1_cell_8 fX1_73_3 (by first | assumption | first | assumption | (simp (disch := omega) only [shI, shR, shL, shC, shD, shW, sh_V, shN_e, shN_n, crI, crL, crC, crW, crV, crR_e, crR_n, crN_e, crN_n, ciR, ciL, ciD, ciN_e, ciN_n, rdI_e, rdI_n, rdC_i, rdC_o, rdW, rdU_e, rdU_n, rdLW, clI, clR, clC, clD, clW, clV, clN_e, clN_n, clL_e, clL_n]; done) | (simp (disch := omega) only [shI, shR, shL, shC, shD, shW, sh_V, shN_e, shN_n, crI, crL, crC, crW, crV, crR_e, crR_n, crN_e, crN_n, ciR, ciL, ciD, ciN_e, ciN_n, rdI_e, rdI_n, rdC_i, rdC_o, rdW, rdU_e, rdU_n, rdLW, clI, clR, clC, clD, clW, clV, clN_e, clN_n, clL_e, clL_n] <;> first | assumption | rfl | omega)) (by first | assumption | first | assumption | (simp (disch := omega) only [shI, shR, shL, shC, shD, shW, sh_V, shN_e, shN_n, crI, crL, crC, crW, crV, crR_e, crR_n, crN_e, crN_n, ciR, ciL, ciD, ciN_e, ciN_n, rdI_e, rdI_n, rdC_i, rdC_o, rdW, rdU_e, rdU_n, rdLW, clI, clR, clC, clD, clW, clV, clN_e, clN_n, clL_e, clL_n]; done) | (simp (disch := omega) only [shI, shR, shL, shC, shD, shW, sh_V, shN_e, shN_n, crI, crL, crC, crW, crV, crR_e, crR_n, crN_e, crN_n, ciR, ciL, ciD, ciN_e, ciN_n, rdI_e, rdI_n, rdC_i, rdC_o, rdW, rdU_e, rdU_n, rdLW, clI, clR, clC, clD, clW, clV, clN_e, clN_n, clL_e, clL_n] <;> first | assumption | rfl | omega)) ?_
    refine x_iload_n dX1_cell_11 rfl rfl ?_
    refine x_iald dX1_cell_12 (by first | assumption | first | assumption | (simp (disch := omega) only [shI, shR, shL, shC, shD, shW, sh_V, shN_e, shN_n, crI, crL, crC, crW, crV, crR_e, crR_n, crN_e, crN_n, ciR, ciL, ciD, ciN_e, ciN_n, rdI_e, rdI_n, rdC_i, rdC_o, rdW, rdU_e, rdU_n, rdLW, clI, clR, clC, clD, clW, clV, clN_e, clN_n, clL_e, clL_n]; done) | (simp (disch := omega) only [shI, shR, shL, shC, shD, shW, sh_V, shN_e, shN_n, crI, crL, crC, crW, crV, crR_e, crR_n, crN_e, crN_n, ciR, ciL, ciD, ciN_e, ciN_n, rdI_e, rdI_n, rdC_i, rdC_o, rdW, rdU_e, rdU_n, rdLW, clI, clR, clC, clD, clW, clV, clN_e, clN_n, clL_e, clL_n] <;> first | assumption | rfl | omega)) (by omega) (by omega) ?_
    refine x_ireturn rfl dX1_cell_13 ?_
    exact hQ _ _ (Or.inl ⟨_, rfl, q1, b13 k (by omega) (by omega), CO.r hC⟩)
  · obtain ⟨q1, eE1, eM1⟩ := h1
    subst eE1
    subst eM1
    exact th_nil rfl (hQ _ _ (Or.inr ⟨_, _, rfl, CO.xx hC, q1, rfl⟩))
theorem s_X1_guest (hd : 14 ≤ d) (hC : CI M v n A hi vi tp sz fa N) : CS G d mX1_guest [dR 0, dI b, dI w] M (orT (postI fun y M1 => (0 ≤ w ∧ w ≤ 13) ∧ y = guestAns v (if b = 0 then 0 else 1) w ∧ CO M v n A hi vi tp sz fa N 0 0 M1) (fun a E M1 => CO M v n A hi vi tp sz fa N 1 6 M1 ∧ ¬ (0 ≤ w ∧ w ≤ 13) ∧ E = "java/util/NoSuchElementException")) := by
  obtain ⟨hC1, hC54, hCA, hCR⟩ := id hC; obtain ⟨hS, hTab, hTx, hLn, hSk, hnx⟩ := id hC1; obtain ⟨hA, hL, hR⟩ := id hC54; obtain ⟨⟨s0, s199, s200, s201, s202, s203⟩, ⟨c0, c1, c2, c3, c4, c5, c6, c7, c8, c9, c10, c11, c12⟩, c203, hSt, m189, m191, g193, g196, ⟨⟨r2, r3, r4, r5, r6, r7, r53⟩, ⟨w0, w1, w2, w3, w4, w5, w6⟩, wx1, wx2, wx3⟩⟩ := id hS; have hv := hA.1; have hv8 := hv.n8; have hv0 := hv.1.1; have hv3 := hv.2.2.2.1; have hs54 := hSt 54 (by unfold SB; omega); obtain ⟨p0, p1, ⟨d0, d1, d2, d3, d4, d5, d6, d7⟩, ⟨t1, t2, t3, t4, t5, t6⟩, p5, p6, p7⟩ := id hs54; have t7 : msh M (54 + 7) = some (4, 0) := p5.2.1; have t10 : msh M (54 + 10) = some (4, 0) := p6.2.1; obtain ⟨hB, hW, hLw⟩ := id hR.1; obtain ⟨b1, b2, b3, b4, b5, b6, b7, b8, b9, b10, b11, b12, b13, b14, b15⟩ := id hB; obtain ⟨hn, hn2, hat, hAc⟩ := id hCA; obtain ⟨⟨hki, hhi⟩, hIm, ⟨htp, hsz, hsz2⟩, hfa⟩ := id hCR
  have main : ∀ (q i s : Int), 0 ≤ q → GuS (msh M) (mcr M) q → RelG (mci M) q s v i → 0 ≤ v (guA i) → (0 ≤ s ∧ s < 8) → 0 ≤ w ∧ w ≤ 13 → ∀ Q : Res → Mem → Prop, (∀ y, y = guestAns v i w → Q (rV (dI y)) M) → WP G d mX1_guest 32 [some (dR 0), some (dI b), some (dI w), some (dR q)] [] M Q := by
    intro q i s q0 hq hG hpc hs hw Q hQ
    obtain ⟨-, g1, g2, g3, g4, g5, g6⟩ := id hq
    obtain ⟨e1, e2, e3, e4, e5, e6, e7, e8⟩ := id hG
    refine x_iload_n dX1_guest_32 rfl rfl ?_
    rcases (show w = 0 ∨ w = 1 ∨ w = 2 ∨ w = 3 ∨ w = 4 ∨ w = 5 ∨ (w < 0 ∨ 5 < w) by omega) with hs33 | hs33 | hs33 | hs33 | hs33 | hs33 | hs33
    · refine x_tab_in (tgt := 72) (off := 39) dX1_guest_33 (by omega) (by omega) (by rw [hs33]; rfl) (by decide) ?_
      refine x_aload_n dX1_guest_72 rfl rfl ?_
      refine g_getI (kI := 1) rfl dX1_guest_73 fX1_297_4 (by first | assumption | first | assumption | (simp (disch := omega) only [shI, shR, shL, shC, shD, shW, sh_V, shN_e, shN_n, crI, crL, crC, crW, crV, crR_e, crR_n, crN_e, crN_n, ciR, ciL, ciD, ciN_e, ciN_n, rdI_e, rdI_n, rdC_i, rdC_o, rdW, rdU_e, rdU_n, rdLW, clI, clR, clC, clD, clW, clV, clN_e, clN_n, clL_e, clL_n]; done) | (simp (disch := omega) only [shI, shR, shL, shC, shD, shW, sh_V, shN_e, shN_n, crI, crL, crC, crW, crV, crR_e, crR_n, crN_e, crN_n, ciR, ciL, ciD, ciN_e, ciN_n, rdI_e, rdI_n, rdC_i, rdC_o, rdW, rdU_e, rdU_n, rdLW, clI, clR, clC, clD, clW, clV, clN_e, clN_n, clL_e, clL_n] <;> first | assumption | rfl | omega)) ?_
      try simp (disch := omega) only [rdI_e, rdI_n, rdC_i, rdC_o, rdW, rdR, rdU_e, rdU_n, rdLW, Int.add_zero, e1, e4, e5, e6, e7]
      refine x_ireturn rfl dX1_guest_76 ?_
      exact hQ _ (by subst hs33; unfold guestAns; rw [if_neg (by omega), if_pos (by omega), Int.add_zero])
    · refine x_tab_in (tgt := 77) (off := 44) dX1_guest_33 (by omega) (by omega) (by rw [hs33]; rfl) (by decide) ?_
      refine x_aload_n dX1_guest_77 rfl rfl ?_
      refine g_getR (kI := 0) rfl dX1_guest_78 fX1_300_4 (by first | assumption | first | assumption | (simp (disch := omega) only [shI, shR, shL, shC, shD, shW, sh_V, shN_e, shN_n, crI, crL, crC, crW, crV, crR_e, crR_n, crN_e, crN_n, ciR, ciL, ciD, ciN_e, ciN_n, rdI_e, rdI_n, rdC_i, rdC_o, rdW, rdU_e, rdU_n, rdLW, clI, clR, clC, clD, clW, clV, clN_e, clN_n, clL_e, clL_n]; done) | (simp (disch := omega) only [shI, shR, shL, shC, shD, shW, sh_V, shN_e, shN_n, crI, crL, crC, crW, crV, crR_e, crR_n, crN_e, crN_n, ciR, ciL, ciD, ciN_e, ciN_n, rdI_e, rdI_n, rdC_i, rdC_o, rdW, rdU_e, rdU_n, rdLW, clI, clR, clC, clD, clW, clV, clN_e, clN_n, clL_e, clL_n] <;> first | assumption | rfl | omega)) (by first | assumption | first | assumption | (simp (disch := omega) only [shI, shR, shL, shC, shD, shW, sh_V, shN_e, shN_n, crI, crL, crC, crW, crV, crR_e, crR_n, crN_e, crN_n, ciR, ciL, ciD, ciN_e, ciN_n, rdI_e, rdI_n, rdC_i, rdC_o, rdW, rdU_e, rdU_n, rdLW, clI, clR, clC, clD, clW, clV, clN_e, clN_n, clL_e, clL_n]; done) | (simp (disch := omega) only [shI, shR, shL, shC, shD, shW, sh_V, shN_e, shN_n, crI, crL, crC, crW, crV, crR_e, crR_n, crN_e, crN_n, ciR, ciL, ciD, ciN_e, ciN_n, rdI_e, rdI_n, rdC_i, rdC_o, rdW, rdU_e, rdU_n, rdLW, clI, clR, clC, clD, clW, clV, clN_e, clN_n, clL_e, clL_n] <;> first | assumption | rfl | omega)) ?_
      refine g_getI (kI := 1) rfl dX1_guest_81 fX1_284_5 (by first | assumption | first | assumption | (simp (disch := omega) only [shI, shR, shL, shC, shD, shW, sh_V, shN_e, shN_n, crI, crL, crC, crW, crV, crR_e, crR_n, crN_e, crN_n, ciR, ciL, ciD, ciN_e, ciN_n, rdI_e, rdI_n, rdC_i, rdC_o, rdW, rdU_e, rdU_n, rdLW, clI, clR, clC, clD, clW, clV, clN_e, clN_n, clL_e, clL_n]; done) | (simp (disch := omega) only [shI, shR, shL, shC, shD, shW, sh_V, shN_e, shN_n, crI, crL, crC, crW, crV, crR_e, crR_n, crN_e, crN_n, ciR, ciL, ciD, ciN_e, ciN_n, rdI_e, rdI_n, rdC_i, rdC_o, rdW, rdU_e, rdU_n, rdLW, clI, clR, clC, clD, clW, clV, clN_e, clN_n, clL_e, clL_n] <;> first | assumption | rfl | omega)) ?_
      try simp (disch := omega) only [rdI_e, rdI_n, rdC_i, rdC_o, rdW, rdR, rdU_e, rdU_n, rdLW, Int.add_zero, e1, e4, e5, e6, e7]
      refine x_ireturn rfl dX1_guest_84 ?_
      exact hQ _ (by subst hs33; rfl)
    · refine x_tab_in (tgt := 85) (off := 52) dX1_guest_33 (by omega) (by omega) (by rw [hs33]; rfl) (by decide) ?_
      refine x_aload_n dX1_guest_85 rfl rfl ?_
      refine g_getR (kI := 0) rfl dX1_guest_86 fX1_300_4 (by first | assumption | first | assumption | (simp (disch := omega) only [shI, shR, shL, shC, shD, shW, sh_V, shN_e, shN_n, crI, crL, crC, crW, crV, crR_e, crR_n, crN_e, crN_n, ciR, ciL, ciD, ciN_e, ciN_n, rdI_e, rdI_n, rdC_i, rdC_o, rdW, rdU_e, rdU_n, rdLW, clI, clR, clC, clD, clW, clV, clN_e, clN_n, clL_e, clL_n]; done) | (simp (disch := omega) only [shI, shR, shL, shC, shD, shW, sh_V, shN_e, shN_n, crI, crL, crC, crW, crV, crR_e, crR_n, crN_e, crN_n, ciR, ciL, ciD, ciN_e, ciN_n, rdI_e, rdI_n, rdC_i, rdC_o, rdW, rdU_e, rdU_n, rdLW, clI, clR, clC, clD, clW, clV, clN_e, clN_n, clL_e, clL_n] <;> first | assumption | rfl | omega)) (by first | assumption | first | assumption | (simp (disch := omega) only [shI, shR, shL, shC, shD, shW, sh_V, shN_e, shN_n, crI, crL, crC, crW, crV, crR_e, crR_n, crN_e, crN_n, ciR, ciL, ciD, ciN_e, ciN_n, rdI_e, rdI_n, rdC_i, rdC_o, rdW, rdU_e, rdU_n, rdLW, clI, clR, clC, clD, clW, clV, clN_e, clN_n, clL_e, clL_n]; done) | (simp (disch := omega) only [shI, shR, shL, shC, shD, shW, sh_V, shN_e, shN_n, crI, crL, crC, crW, crV, crR_e, crR_n, crN_e, crN_n, ciR, ciL, ciD, ciN_e, ciN_n, rdI_e, rdI_n, rdC_i, rdC_o, rdW, rdU_e, rdU_n, rdLW, clI, clR, clC, clD, clW, clV, clN_e, clN_n, clL_e, clL_n] <;> first | assumption | rfl | omega)) ?_
      refine g_getI (kI := 2) rfl dX1_guest_89 fX1_185_5 (by first | assumption | first | assumption | (simp (disch := omega) only [shI, shR, shL, shC, shD, shW, sh_V, shN_e, shN_n, crI, crL, crC, crW, crV, crR_e, crR_n, crN_e, crN_n, ciR, ciL, ciD, ciN_e, ciN_n, rdI_e, rdI_n, rdC_i, rdC_o, rdW, rdU_e, rdU_n, rdLW, clI, clR, clC, clD, clW, clV, clN_e, clN_n, clL_e, clL_n]; done) | (simp (disch := omega) only [shI, shR, shL, shC, shD, shW, sh_V, shN_e, shN_n, crI, crL, crC, crW, crV, crR_e, crR_n, crN_e, crN_n, ciR, ciL, ciD, ciN_e, ciN_n, rdI_e, rdI_n, rdC_i, rdC_o, rdW, rdU_e, rdU_n, rdLW, clI, clR, clC, clD, clW, clV, clN_e, clN_n, clL_e, clL_n] <;> first | assumption | rfl | omega)) ?_
      try simp (disch := omega) only [rdI_e, rdI_n, rdC_i, rdC_o, rdW, rdR, rdU_e, rdU_n, rdLW, Int.add_zero, e1, e4, e5, e6, e7]
      refine x_ireturn rfl dX1_guest_92 ?_
      exact hQ _ (by subst hs33; rfl)
    · refine x_tab_in (tgt := 93) (off := 60) dX1_guest_33 (by omega) (by omega) (by rw [hs33]; rfl) (by decide) ?_
      refine x_aload_n dX1_guest_93 rfl rfl ?_
      refine g_getR (kI := 0) rfl dX1_guest_94 fX1_300_4 (by first | assumption | first | assumption | (simp (disch := omega) only [shI, shR, shL, shC, shD, shW, sh_V, shN_e, shN_n, crI, crL, crC, crW, crV, crR_e, crR_n, crN_e, crN_n, ciR, ciL, ciD, ciN_e, ciN_n, rdI_e, rdI_n, rdC_i, rdC_o, rdW, rdU_e, rdU_n, rdLW, clI, clR, clC, clD, clW, clV, clN_e, clN_n, clL_e, clL_n]; done) | (simp (disch := omega) only [shI, shR, shL, shC, shD, shW, sh_V, shN_e, shN_n, crI, crL, crC, crW, crV, crR_e, crR_n, crN_e, crN_n, ciR, ciL, ciD, ciN_e, ciN_n, rdI_e, rdI_n, rdC_i, rdC_o, rdW, rdU_e, rdU_n, rdLW, clI, clR, clC, clD, clW, clV, clN_e, clN_n, clL_e, clL_n] <;> first | assumption | rfl | omega)) (by first | assumption | first | assumption | (simp (disch := omega) only [shI, shR, shL, shC, shD, shW, sh_V, shN_e, shN_n, crI, crL, crC, crW, crV, crR_e, crR_n, crN_e, crN_n, ciR, ciL, ciD, ciN_e, ciN_n, rdI_e, rdI_n, rdC_i, rdC_o, rdW, rdU_e, rdU_n, rdLW, clI, clR, clC, clD, clW, clV, clN_e, clN_n, clL_e, clL_n]; done) | (simp (disch := omega) only [shI, shR, shL, shC, shD, shW, sh_V, shN_e, shN_n, crI, crL, crC, crW, crV, crR_e, crR_n, crN_e, crN_n, ciR, ciL, ciD, ciN_e, ciN_n, rdI_e, rdI_n, rdC_i, rdC_o, rdW, rdU_e, rdU_n, rdLW, clI, clR, clC, clD, clW, clV, clN_e, clN_n, clL_e, clL_n] <;> first | assumption | rfl | omega)) ?_
      refine g_getI (kI := 3) rfl dX1_guest_97 fX1_188_5 (by first | assumption | first | assumption | (simp (disch := omega) only [shI, shR, shL, shC, shD, shW, sh_V, shN_e, shN_n, crI, crL, crC, crW, crV, crR_e, crR_n, crN_e, crN_n, ciR, ciL, ciD, ciN_e, ciN_n, rdI_e, rdI_n, rdC_i, rdC_o, rdW, rdU_e, rdU_n, rdLW, clI, clR, clC, clD, clW, clV, clN_e, clN_n, clL_e, clL_n]; done) | (simp (disch := omega) only [shI, shR, shL, shC, shD, shW, sh_V, shN_e, shN_n, crI, crL, crC, crW, crV, crR_e, crR_n, crN_e, crN_n, ciR, ciL, ciD, ciN_e, ciN_n, rdI_e, rdI_n, rdC_i, rdC_o, rdW, rdU_e, rdU_n, rdLW, clI, clR, clC, clD, clW, clV, clN_e, clN_n, clL_e, clL_n] <;> first | assumption | rfl | omega)) ?_
      try simp (disch := omega) only [rdI_e, rdI_n, rdC_i, rdC_o, rdW, rdR, rdU_e, rdU_n, rdLW, Int.add_zero, e1, e4, e5, e6, e7]
      refine x_ireturn rfl dX1_guest_100 ?_
      exact hQ _ (by subst hs33; rfl)
    · refine x_tab_in (tgt := 101) (off := 68) dX1_guest_33 (by omega) (by omega) (by rw [hs33]; rfl) (by decide) ?_
      refine x_aload_n dX1_guest_101 rfl rfl ?_
      refine g_getR (kI := 0) rfl dX1_guest_102 fX1_300_4 (by first | assumption | first | assumption | (simp (disch := omega) only [shI, shR, shL, shC, shD, shW, sh_V, shN_e, shN_n, crI, crL, crC, crW, crV, crR_e, crR_n, crN_e, crN_n, ciR, ciL, ciD, ciN_e, ciN_n, rdI_e, rdI_n, rdC_i, rdC_o, rdW, rdU_e, rdU_n, rdLW, clI, clR, clC, clD, clW, clV, clN_e, clN_n, clL_e, clL_n]; done) | (simp (disch := omega) only [shI, shR, shL, shC, shD, shW, sh_V, shN_e, shN_n, crI, crL, crC, crW, crV, crR_e, crR_n, crN_e, crN_n, ciR, ciL, ciD, ciN_e, ciN_n, rdI_e, rdI_n, rdC_i, rdC_o, rdW, rdU_e, rdU_n, rdLW, clI, clR, clC, clD, clW, clV, clN_e, clN_n, clL_e, clL_n] <;> first | assumption | rfl | omega)) (by first | assumption | first | assumption | (simp (disch := omega) only [shI, shR, shL, shC, shD, shW, sh_V, shN_e, shN_n, crI, crL, crC, crW, crV, crR_e, crR_n, crN_e, crN_n, ciR, ciL, ciD, ciN_e, ciN_n, rdI_e, rdI_n, rdC_i, rdC_o, rdW, rdU_e, rdU_n, rdLW, clI, clR, clC, clD, clW, clV, clN_e, clN_n, clL_e, clL_n]; done) | (simp (disch := omega) only [shI, shR, shL, shC, shD, shW, sh_V, shN_e, shN_n, crI, crL, crC, crW, crV, crR_e, crR_n, crN_e, crN_n, ciR, ciL, ciD, ciN_e, ciN_n, rdI_e, rdI_n, rdC_i, rdC_o, rdW, rdU_e, rdU_n, rdLW, clI, clR, clC, clD, clW, clV, clN_e, clN_n, clL_e, clL_n] <;> first | assumption | rfl | omega)) ?_
      refine g_getI (kI := 4) rfl dX1_guest_105 fX1_213_5 (by first | assumption | first | assumption | (simp (disch := omega) only [shI, shR, shL, shC, shD, shW, sh_V, shN_e, shN_n, crI, crL, crC, crW, crV, crR_e, crR_n, crN_e, crN_n, ciR, ciL, ciD, ciN_e, ciN_n, rdI_e, rdI_n, rdC_i, rdC_o, rdW, rdU_e, rdU_n, rdLW, clI, clR, clC, clD, clW, clV, clN_e, clN_n, clL_e, clL_n]; done) | (simp (disch := omega) only [shI, shR, shL, shC, shD, shW, sh_V, shN_e, shN_n, crI, crL, crC, crW, crV, crR_e, crR_n, crN_e, crN_n, ciR, ciL, ciD, ciN_e, ciN_n, rdI_e, rdI_n, rdC_i, rdC_o, rdW, rdU_e, rdU_n, rdLW, clI, clR, clC, clD, clW, clV, clN_e, clN_n, clL_e, clL_n] <;> first | assumption | rfl | omega)) ?_
      try simp (disch := omega) only [rdI_e, rdI_n, rdC_i, rdC_o, rdW, rdR, rdU_e, rdU_n, rdLW, Int.add_zero, e1, e4, e5, e6, e7]
      refine x_ireturn rfl dX1_guest_108 ?_
      exact hQ _ (by subst hs33; rfl)
    · refine x_tab_in (tgt := 109) (off := 76) dX1_guest_33 (by omega) (by omega) (by rw [hs33]; rfl) (by decide) ?_
      refine x_aload_n dX1_guest_109 rfl rfl ?_
      refine g_getR (kI := 1) rfl dX1_guest_110 fX1_22_1 (by first | assumption | first | assumption | (simp (disch := omega) only [shI, shR, shL, shC, shD, shW, sh_V, shN_e, shN_n, crI, crL, crC, crW, crV, crR_e, crR_n, crN_e, crN_n, ciR, ciL, ciD, ciN_e, ciN_n, rdI_e, rdI_n, rdC_i, rdC_o, rdW, rdU_e, rdU_n, rdLW, clI, clR, clC, clD, clW, clV, clN_e, clN_n, clL_e, clL_n]; done) | (simp (disch := omega) only [shI, shR, shL, shC, shD, shW, sh_V, shN_e, shN_n, crI, crL, crC, crW, crV, crR_e, crR_n, crN_e, crN_n, ciR, ciL, ciD, ciN_e, ciN_n, rdI_e, rdI_n, rdC_i, rdC_o, rdW, rdU_e, rdU_n, rdLW, clI, clR, clC, clD, clW, clV, clN_e, clN_n, clL_e, clL_n] <;> first | assumption | rfl | omega)) (by first | assumption | first | assumption | (simp (disch := omega) only [shI, shR, shL, shC, shD, shW, sh_V, shN_e, shN_n, crI, crL, crC, crW, crV, crR_e, crR_n, crN_e, crN_n, ciR, ciL, ciD, ciN_e, ciN_n, rdI_e, rdI_n, rdC_i, rdC_o, rdW, rdU_e, rdU_n, rdLW, clI, clR, clC, clD, clW, clV, clN_e, clN_n, clL_e, clL_n]; done) | (simp (disch := omega) only [shI, shR, shL, shC, shD, shW, sh_V, shN_e, shN_n, crI, crL, crC, crW, crV, crR_e, crR_n, crN_e, crN_n, ciR, ciL, ciD, ciN_e, ciN_n, rdI_e, rdI_n, rdC_i, rdC_o, rdW, rdU_e, rdU_n, rdLW, clI, clR, clC, clD, clW, clV, clN_e, clN_n, clL_e, clL_n] <;> first | assumption | rfl | omega)) ?_
      refine x_aload_n dX1_guest_113 rfl rfl ?_
      refine g_callI (vs := [_, _]) (d' := d - 1) rfl (s_X3_opAt (by omega) hs54 hq hB hv hG hpc) dX1_guest_114 kX1_303 (by omega) (by decide) rfl (Nat.le_of_ble_eq_true rfl) (rcv_o (by first | assumption | first | assumption | (simp (disch := omega) only [shI, shR, shL, shC, shD, shW, sh_V, shN_e, shN_n, crI, crL, crC, crW, crV, crR_e, crR_n, crN_e, crN_n, ciR, ciL, ciD, ciN_e, ciN_n, rdI_e, rdI_n, rdC_i, rdC_o, rdW, rdU_e, rdU_n, rdLW, clI, clR, clC, clD, clW, clV, clN_e, clN_n, clL_e, clL_n]; done) | (simp (disch := omega) only [shI, shR, shL, shC, shD, shW, sh_V, shN_e, shN_n, crI, crL, crC, crW, crV, crR_e, crR_n, crN_e, crN_n, ciR, ciL, ciD, ciN_e, ciN_n, rdI_e, rdI_n, rdC_i, rdC_o, rdW, rdU_e, rdU_n, rdLW, clI, clR, clC, clD, clW, clV, clN_e, clN_n, clL_e, clL_n] <;> first | assumption | rfl | omega)) rfl) (fun x114 M114 h114 => ?_)
      obtain ⟨e114, f114⟩ := h114
      have f114' := f114.symm
      subst f114'
      refine x_iconst dX1_guest_117 rfl ?_
      refine x_icmp_ne (tgt := 125) dX1_guest_118 (by decide) (fun h118 => ?_) (fun h118 => ?_)
      · refine x_iconst dX1_guest_125 rfl ?_
        refine g_callI (vs := [_]) (d' := d - 1) rfl (s_X1_flag (by omega) (by first | omega | exact vP_r _)) dX1_guest_126 kX1_248 (by omega) (by decide) rfl (Nat.le_of_ble_eq_true rfl) (rcv_n) (fun x126 M126 h126 => ?_)
        obtain ⟨e126, f126⟩ := h126
        have f126' := f126.symm
        subst f126'
        subst e126
        try simp (disch := omega) only [rdI_e, rdI_n, rdC_i, rdC_o, rdW, rdR, rdU_e, rdU_n, rdLW, Int.add_zero, e1, e4, e5, e6, e7]
        refine x_ireturn rfl dX1_guest_129 ?_
        refine hQ _ ?_
        subst hs33
        have hpr : v (guA i) < v 3 → 0 ≤ opAtV v i := fun q => (hv.pr _ hpc q).1
        unfold guestAns
        rw [if_pos rfl]
        rw [e114] at h118
        by_cases q : v (guA i) < v 3
        · have q2 := hpr q
          rw [if_pos q] at h118
          rw [if_neg (by omega)] <;> omega
        · rw [if_neg q] at h118
          rw [if_pos (by omega)] <;> omega
      · refine x_iconst dX1_guest_121 rfl ?_
        refine x_goto (tgt := 126) dX1_guest_122 (by decide) ?_
        refine g_callI (vs := [_]) (d' := d - 1) rfl (s_X1_flag (by omega) (by first | omega | exact vP_r _)) dX1_guest_126 kX1_248 (by omega) (by decide) rfl (Nat.le_of_ble_eq_true rfl) (rcv_n) (fun x126 M126 h126 => ?_)
        obtain ⟨e126, f126⟩ := h126
        have f126' := f126.symm
        subst f126'
        subst e126
        try simp (disch := omega) only [rdI_e, rdI_n, rdC_i, rdC_o, rdW, rdR, rdU_e, rdU_n, rdLW, Int.add_zero, e1, e4, e5, e6, e7]
        refine x_ireturn rfl dX1_guest_129 ?_
        refine hQ _ ?_
        subst hs33
        have hpr : v (guA i) < v 3 → 0 ≤ opAtV v i := fun q => (hv.pr _ hpc q).1
        unfold guestAns
        rw [if_pos rfl]
        rw [e114] at h118
        by_cases q : v (guA i) < v 3
        · have q2 := hpr q
          rw [if_pos q] at h118
          rw [if_neg (by omega)] <;> omega
        · rw [if_neg q] at h118
          rw [if_pos (by omega)] <;> omega
    · refine x_tab_out (tgt := 130) dX1_guest_33 hs33 (by decide) ?_
      refine x_aload_n dX1_guest_130 rfl rfl ?_
      refine x_iload_n dX1_guest_131 rfl rfl ?_
      refine x_bipush dX1_guest_132 rfl ?_
      first | refine x_isubN dX1_guest_134 (by unfold i32; omega) ?_ | refine x_isub dX1_guest_134 ?_
      refine g_callI (vs := [_, _]) (d' := d - 1) rfl (s_X4_cellAt (by omega) hq (by omega) (by omega)) dX1_guest_135 kX1_307 (by omega) (by decide) rfl (Nat.le_of_ble_eq_true rfl) (rcv_o (by first | assumption | first | assumption | (simp (disch := omega) only [shI, shR, shL, shC, shD, shW, sh_V, shN_e, shN_n, crI, crL, crC, crW, crV, crR_e, crR_n, crN_e, crN_n, ciR, ciL, ciD, ciN_e, ciN_n, rdI_e, rdI_n, rdC_i, rdC_o, rdW, rdU_e, rdU_n, rdLW, clI, clR, clC, clD, clW, clV, clN_e, clN_n, clL_e, clL_n]; done) | (simp (disch := omega) only [shI, shR, shL, shC, shD, shW, sh_V, shN_e, shN_n, crI, crL, crC, crW, crV, crR_e, crR_n, crN_e, crN_n, ciR, ciL, ciD, ciN_e, ciN_n, rdI_e, rdI_n, rdC_i, rdC_o, rdW, rdU_e, rdU_n, rdLW, clI, clR, clC, clD, clW, clV, clN_e, clN_n, clL_e, clL_n] <;> first | assumption | rfl | omega)) rfl) (fun x135 M135 h135 => ?_)
      obtain ⟨e135, f135⟩ := h135
      have f135' := f135.symm
      subst f135'
      refine x_ireturn rfl dX1_guest_138 ?_
      refine hQ _ ?_
      rw [e135, e2, e8 (w - 6) (by omega) (by omega)]
      unfold guestAns
      rw [if_neg (by omega), if_neg (by omega)]
      exact congrArg v (by omega)
  have hg0 := hA.2.1.1.1
  have hg1 := hA.2.2.1.1
  have hv5 := hv.2.2.2.2.2.1
  refine CS.mkQ (by decide) (Nat.le_of_ble_eq_true rfl) fun Q hQ => ?_
  refine x_iload_n dX1_guest_0 rfl rfl ?_
  refine x_iconst dX1_guest_1 rfl ?_
  refine x_bipush dX1_guest_2 rfl ?_
  refine g_callI (vs := [_, _, _]) (d' := d - 1) rfl (s_X1_isIn (by omega)) dX1_guest_4 kX1_104 (by omega) (by decide) rfl (Nat.le_of_ble_eq_true rfl) (rcv_n) (fun x4 M4 h4 => ?_)
  obtain ⟨e4, f4⟩ := h4
  have f4' := f4.symm
  subst f4'
  subst e4
  refine g_callNX (vs := [_]) (d' := d - 1) rfl (s_X1_thereIs (by omega) (by first | omega | exact vP_r _)) dX1_guest_7 kX1_281 (by omega) (by decide) rfl (Nat.le_of_ble_eq_true rfl) (rcv_n) (fun M7 h7 => ?_) (fun a7 E7 M7 h7 => ?_)
  · obtain ⟨q7, e7⟩ := h7
    subst e7
    try simp only [vP_0, vP_1, vP_n0, vP_n1, Classical.not_not] at q7
    refine x_iload_n dX1_guest_10 rfl rfl ?_
    refine x_if_eq (tgt := 24) dX1_guest_11 (by decide) (fun h11 => ?_) (fun h11 => ?_)
    · refine x_aload_n dX1_guest_24 rfl rfl ?_
      refine g_getR (kI := 1) rfl dX1_guest_25 fX1_22_1 (by first | assumption | first | assumption | (simp (disch := omega) only [shI, shR, shL, shC, shD, shW, sh_V, shN_e, shN_n, crI, crL, crC, crW, crV, crR_e, crR_n, crN_e, crN_n, ciR, ciL, ciD, ciN_e, ciN_n, rdI_e, rdI_n, rdC_i, rdC_o, rdW, rdU_e, rdU_n, rdLW, clI, clR, clC, clD, clW, clV, clN_e, clN_n, clL_e, clL_n]; done) | (simp (disch := omega) only [shI, shR, shL, shC, shD, shW, sh_V, shN_e, shN_n, crI, crL, crC, crW, crV, crR_e, crR_n, crN_e, crN_n, ciR, ciL, ciD, ciN_e, ciN_n, rdI_e, rdI_n, rdC_i, rdC_o, rdW, rdU_e, rdU_n, rdLW, clI, clR, clC, clD, clW, clV, clN_e, clN_n, clL_e, clL_n] <;> first | assumption | rfl | omega)) (by first | assumption | first | assumption | (simp (disch := omega) only [shI, shR, shL, shC, shD, shW, sh_V, shN_e, shN_n, crI, crL, crC, crW, crV, crR_e, crR_n, crN_e, crN_n, ciR, ciL, ciD, ciN_e, ciN_n, rdI_e, rdI_n, rdC_i, rdC_o, rdW, rdU_e, rdU_n, rdLW, clI, clR, clC, clD, clW, clV, clN_e, clN_n, clL_e, clL_n]; done) | (simp (disch := omega) only [shI, shR, shL, shC, shD, shW, sh_V, shN_e, shN_n, crI, crL, crC, crW, crV, crR_e, crR_n, crN_e, crN_n, ciR, ciL, ciD, ciN_e, ciN_n, rdI_e, rdI_n, rdC_i, rdC_o, rdW, rdU_e, rdU_n, rdLW, clI, clR, clC, clD, clW, clV, clN_e, clN_n, clL_e, clL_n] <;> first | assumption | rfl | omega)) ?_
      refine g_getR (kI := 6) rfl dX1_guest_28 fX1_76_3 (by first | assumption | first | assumption | (simp (disch := omega) only [shI, shR, shL, shC, shD, shW, sh_V, shN_e, shN_n, crI, crL, crC, crW, crV, crR_e, crR_n, crN_e, crN_n, ciR, ciL, ciD, ciN_e, ciN_n, rdI_e, rdI_n, rdC_i, rdC_o, rdW, rdU_e, rdU_n, rdLW, clI, clR, clC, clD, clW, clV, clN_e, clN_n, clL_e, clL_n]; done) | (simp (disch := omega) only [shI, shR, shL, shC, shD, shW, sh_V, shN_e, shN_n, crI, crL, crC, crW, crV, crR_e, crR_n, crN_e, crN_n, ciR, ciL, ciD, ciN_e, ciN_n, rdI_e, rdI_n, rdC_i, rdC_o, rdW, rdU_e, rdU_n, rdLW, clI, clR, clC, clD, clW, clV, clN_e, clN_n, clL_e, clL_n] <;> first | assumption | rfl | omega)) (by first | assumption | first | assumption | (simp (disch := omega) only [shI, shR, shL, shC, shD, shW, sh_V, shN_e, shN_n, crI, crL, crC, crW, crV, crR_e, crR_n, crN_e, crN_n, ciR, ciL, ciD, ciN_e, ciN_n, rdI_e, rdI_n, rdC_i, rdC_o, rdW, rdU_e, rdU_n, rdLW, clI, clR, clC, clD, clW, clV, clN_e, clN_n, clL_e, clL_n]; done) | (simp (disch := omega) only [shI, shR, shL, shC, shD, shW, sh_V, shN_e, shN_n, crI, crL, crC, crW, crV, crR_e, crR_n, crN_e, crN_n, ciR, ciL, ciD, ciN_e, ciN_n, rdI_e, rdI_n, rdC_i, rdC_o, rdW, rdU_e, rdU_n, rdLW, clI, clR, clC, clD, clW, clV, clN_e, clN_n, clL_e, clL_n] <;> first | assumption | rfl | omega)) ?_
      refine x_astore_n (L' := [some _, some _, some _, some _]) dX1_guest_31 rfl (by decide) rfl ?_
      first
      | (rw [if_pos h11] at hQ
         exact main (54 + 7) 0 0 (by omega) p5 hR.2.1 hg0 (by omega) q7 Q fun y hy => hQ _ _ (Or.inl ⟨_, rfl, q7, hy, CO.r hC⟩))
      | (rw [if_neg h11] at hQ
         exact main (54 + 10) 1 (v 5) (by omega) p6 hR.2.2 hg1 (by omega) q7 Q fun y hy => hQ _ _ (Or.inl ⟨_, rfl, q7, hy, CO.r hC⟩))
    · refine x_aload_n dX1_guest_14 rfl rfl ?_
      refine g_getR (kI := 1) rfl dX1_guest_15 fX1_22_1 (by first | assumption | first | assumption | (simp (disch := omega) only [shI, shR, shL, shC, shD, shW, sh_V, shN_e, shN_n, crI, crL, crC, crW, crV, crR_e, crR_n, crN_e, crN_n, ciR, ciL, ciD, ciN_e, ciN_n, rdI_e, rdI_n, rdC_i, rdC_o, rdW, rdU_e, rdU_n, rdLW, clI, clR, clC, clD, clW, clV, clN_e, clN_n, clL_e, clL_n]; done) | (simp (disch := omega) only [shI, shR, shL, shC, shD, shW, sh_V, shN_e, shN_n, crI, crL, crC, crW, crV, crR_e, crR_n, crN_e, crN_n, ciR, ciL, ciD, ciN_e, ciN_n, rdI_e, rdI_n, rdC_i, rdC_o, rdW, rdU_e, rdU_n, rdLW, clI, clR, clC, clD, clW, clV, clN_e, clN_n, clL_e, clL_n] <;> first | assumption | rfl | omega)) (by first | assumption | first | assumption | (simp (disch := omega) only [shI, shR, shL, shC, shD, shW, sh_V, shN_e, shN_n, crI, crL, crC, crW, crV, crR_e, crR_n, crN_e, crN_n, ciR, ciL, ciD, ciN_e, ciN_n, rdI_e, rdI_n, rdC_i, rdC_o, rdW, rdU_e, rdU_n, rdLW, clI, clR, clC, clD, clW, clV, clN_e, clN_n, clL_e, clL_n]; done) | (simp (disch := omega) only [shI, shR, shL, shC, shD, shW, sh_V, shN_e, shN_n, crI, crL, crC, crW, crV, crR_e, crR_n, crN_e, crN_n, ciR, ciL, ciD, ciN_e, ciN_n, rdI_e, rdI_n, rdC_i, rdC_o, rdW, rdU_e, rdU_n, rdLW, clI, clR, clC, clD, clW, clV, clN_e, clN_n, clL_e, clL_n] <;> first | assumption | rfl | omega)) ?_
      refine g_getR (kI := 7) rfl dX1_guest_18 fX1_79_3 (by first | assumption | first | assumption | (simp (disch := omega) only [shI, shR, shL, shC, shD, shW, sh_V, shN_e, shN_n, crI, crL, crC, crW, crV, crR_e, crR_n, crN_e, crN_n, ciR, ciL, ciD, ciN_e, ciN_n, rdI_e, rdI_n, rdC_i, rdC_o, rdW, rdU_e, rdU_n, rdLW, clI, clR, clC, clD, clW, clV, clN_e, clN_n, clL_e, clL_n]; done) | (simp (disch := omega) only [shI, shR, shL, shC, shD, shW, sh_V, shN_e, shN_n, crI, crL, crC, crW, crV, crR_e, crR_n, crN_e, crN_n, ciR, ciL, ciD, ciN_e, ciN_n, rdI_e, rdI_n, rdC_i, rdC_o, rdW, rdU_e, rdU_n, rdLW, clI, clR, clC, clD, clW, clV, clN_e, clN_n, clL_e, clL_n] <;> first | assumption | rfl | omega)) (by first | assumption | first | assumption | (simp (disch := omega) only [shI, shR, shL, shC, shD, shW, sh_V, shN_e, shN_n, crI, crL, crC, crW, crV, crR_e, crR_n, crN_e, crN_n, ciR, ciL, ciD, ciN_e, ciN_n, rdI_e, rdI_n, rdC_i, rdC_o, rdW, rdU_e, rdU_n, rdLW, clI, clR, clC, clD, clW, clV, clN_e, clN_n, clL_e, clL_n]; done) | (simp (disch := omega) only [shI, shR, shL, shC, shD, shW, sh_V, shN_e, shN_n, crI, crL, crC, crW, crV, crR_e, crR_n, crN_e, crN_n, ciR, ciL, ciD, ciN_e, ciN_n, rdI_e, rdI_n, rdC_i, rdC_o, rdW, rdU_e, rdU_n, rdLW, clI, clR, clC, clD, clW, clV, clN_e, clN_n, clL_e, clL_n] <;> first | assumption | rfl | omega)) ?_
      refine x_goto (tgt := 31) dX1_guest_21 (by decide) ?_
      refine x_astore_n (L' := [some _, some _, some _, some _]) dX1_guest_31 rfl (by decide) rfl ?_
      first
      | (rw [if_pos h11] at hQ
         exact main (54 + 7) 0 0 (by omega) p5 hR.2.1 hg0 (by omega) q7 Q fun y hy => hQ _ _ (Or.inl ⟨_, rfl, q7, hy, CO.r hC⟩))
      | (rw [if_neg h11] at hQ
         exact main (54 + 10) 1 (v 5) (by omega) p6 hR.2.2 hg1 (by omega) q7 Q fun y hy => hQ _ _ (Or.inl ⟨_, rfl, q7, hy, CO.r hC⟩))
  · obtain ⟨q7, eE7, eM7⟩ := h7
    subst eE7
    subst eM7
    rw [vP_0] at q7
    exact th_nil rfl (hQ _ _ (Or.inr ⟨_, _, rfl, CO.xx hC, q7, rfl⟩))
end X1

