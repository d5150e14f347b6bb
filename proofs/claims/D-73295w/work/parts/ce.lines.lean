/-! Reader: a line of a bench, all lines -/
theorem ChO.prs {p x : Int} {v : Vw} : ChO p p 17 9 x x 0 v := Or.inr (Or.inr (Or.inr (Or.inr (Or.inr (Or.inr (Or.inl ⟨rfl, rfl, rfl, rfl⟩))))))
theorem BX.n1 {M : Mem} {tp : Int → Int} {e N a hi f q y z c : Int} {u : Vw} (hB : RelB (mci M) 8 u N) (hu : okB u) (hc : ChO 8 8 c a (f * z) z 0 u) (hc2 : ¬ c = 10) (h : numP tp e q 0 hi = some (y, z)) (hy : 0 ≤ y ∧ y ≤ e) : BX M tp e N 3 12 (rN1 tp e a hi f q u) rN (mP (mI M 8 c z) y) :=
  BX.s (rN1_s h) hy rfl ((Dr.rfl.I (by omega)).le (Nat.zero_le _) (Nat.zero_le _)) (hB.ch (q := 0) hu hc)
section X2
variable {G : GW} {d : Nat} {M : Mem} {p e lo hi k n x a b N o j sz fa : Int} {tp : Int → Int} {u v vi : Vw} {A : Int → Vw}
theorem s_X2_line (hd : 26 ≤ d) (hX : BxH M tp e) (hp : 0 ≤ p ∧ p ≤ e) (hb : skB tp e p = p) (hB : RelB (mci M) 8 u N) (hu : okB u) : CS G d mX2_line [dR 2] (mP M p) (BX M tp e N 3 12 (rLin tp e p (wdB tp e p) u)) := by
  obtain ⟨⟨⟨⟨r0, r3, r4, r5, r6, r7, r53⟩, ⟨c0, c1, c2, c3, c4, c5, c6⟩, x1, x2, x3⟩, -, -, he2, -, hBt⟩, hs8, -⟩ := id hX
  obtain ⟨p0, p1, -⟩ := id hs8
  have hw := wdB_r (tp := tp) hp.2
  refine CS.mkQ (by decide) (Nat.le_of_ble_eq_true rfl) fun Q hQ => ?_
  refine x_aload_n dX2_line_0 rfl rfl ?_
  refine g_getI (kI := 9) rfl dX2_line_1 fX2_92_2 (by first | assumption | first | assumption | (simp (disch := omega) only [shI, shR, shL, shC, shD, shW, sh_V, shN_e, shN_n, crI, crL, crC, crW, crV, crR_e, crR_n, crN_e, crN_n, ciR, ciL, ciD, ciN_e, ciN_n, rdI_e, rdI_n, rdC_i, rdC_o, rdW, rdU_e, rdU_n, rdLW, clI, clR, clC, clD, clW, clV, clN_e, clN_n, clL_e, clL_n]; done) | (simp (disch := omega) only [shI, shR, shL, shC, shD, shW, sh_V, shN_e, shN_n, crI, crL, crC, crW, crV, crR_e, crR_n, crN_e, crN_n, ciR, ciL, ciD, ciN_e, ciN_n, rdI_e, rdI_n, rdC_i, rdC_o, rdW, rdU_e, rdU_n, rdLW, clI, clR, clC, clD, clW, clV, clN_e, clN_n, clL_e, clL_n] <;> first | assumption | rfl | omega)) ?_
  try simp (disch := omega) only [rdI_e, rdI_n, rdC_i, rdC_o, rdW, rdR, rdU_e, rdU_n, rdLW, Int.add_zero, mP_p]
  refine x_istore_n (L' := [some _, some _]) dX2_line_4 rfl (by decide) rfl ?_
  refine x_aload_n dX2_line_5 rfl rfl ?_
  refine x_ldcs dX2_line_6 (List.mem_of_getElem? (i := 0) rfl) ?_
  refine g_callI (vs := [_, _]) (d' := d - 1) rfl (s_X2_takes (i := 0) (by omega) hX.1 hp (by omega) rfl) dX2_line_8 kX2_109 (by omega) (by decide) rfl (Nat.le_of_ble_eq_true rfl) (rcv_o (by first | assumption | first | assumption | (simp (disch := omega) only [shI, shR, shL, shC, shD, shW, sh_V, shN_e, shN_n, crI, crL, crC, crW, crV, crR_e, crR_n, crN_e, crN_n, ciR, ciL, ciD, ciN_e, ciN_n, rdI_e, rdI_n, rdC_i, rdC_o, rdW, rdU_e, rdU_n, rdLW, clI, clR, clC, clD, clW, clV, clN_e, clN_n, clL_e, clL_n]; done) | (simp (disch := omega) only [shI, shR, shL, shC, shD, shW, sh_V, shN_e, shN_n, crI, crL, crC, crW, crV, crR_e, crR_n, crN_e, crN_n, ciR, ciL, ciD, ciN_e, ciN_n, rdI_e, rdI_n, rdC_i, rdC_o, rdW, rdU_e, rdU_n, rdLW, clI, clR, clC, clD, clW, clV, clN_e, clN_n, clL_e, clL_n] <;> first | assumption | rfl | omega)) rfl) (fun x8 M8 h8 => ?_)
  obtain ⟨e8, f8⟩ := h8
  rw [hb] at e8 f8
  subst e8
  refine x_if_eq (tgt := 22) dX2_line_11 (by decide) (fun h11 => ?_) (fun h11 => ?_)
  · try simp only [vP_0, vP_1, vP_n0, vP_n1, Classical.not_not] at h11
    rw [if_neg h11] at f8
    subst f8
    refine x_aload_n dX2_line_22 rfl rfl ?_
    refine x_ldcs dX2_line_23 (List.mem_of_getElem? (i := 21) rfl) ?_
    refine g_callI (vs := [_, _]) (d' := d - 1) rfl (s_X2_takes (i := 21) (by omega) hX.1 hp (by omega) rfl) dX2_line_25 kX2_109 (by omega) (by decide) rfl (Nat.le_of_ble_eq_true rfl) (rcv_o (by first | assumption | first | assumption | (simp (disch := omega) only [shI, shR, shL, shC, shD, shW, sh_V, shN_e, shN_n, crI, crL, crC, crW, crV, crR_e, crR_n, crN_e, crN_n, ciR, ciL, ciD, ciN_e, ciN_n, rdI_e, rdI_n, rdC_i, rdC_o, rdW, rdU_e, rdU_n, rdLW, clI, clR, clC, clD, clW, clV, clN_e, clN_n, clL_e, clL_n]; done) | (simp (disch := omega) only [shI, shR, shL, shC, shD, shW, sh_V, shN_e, shN_n, crI, crL, crC, crW, crV, crR_e, crR_n, crN_e, crN_n, ciR, ciL, ciD, ciN_e, ciN_n, rdI_e, rdI_n, rdC_i, rdC_o, rdW, rdU_e, rdU_n, rdLW, clI, clR, clC, clD, clW, clV, clN_e, clN_n, clL_e, clL_n] <;> first | assumption | rfl | omega)) rfl) (fun x25 M25 h25 => ?_)
    obtain ⟨e25, f25⟩ := h25
    rw [hb] at e25 f25
    subst e25
    refine x_if_eq (tgt := 38) dX2_line_28 (by decide) (fun h28 => ?_) (fun h28 => ?_)
    · try simp only [vP_0, vP_1, vP_n0, vP_n1, Classical.not_not] at h28
      rw [if_neg h28] at f25
      subst f25
      refine x_aload_n dX2_line_38 rfl rfl ?_
      refine x_ldcs dX2_line_39 (List.mem_of_getElem? (i := 22) rfl) ?_
      refine g_callI (vs := [_, _]) (d' := d - 1) rfl (s_X2_takes (i := 22) (by omega) hX.1 hp (by omega) rfl) dX2_line_41 kX2_109 (by omega) (by decide) rfl (Nat.le_of_ble_eq_true rfl) (rcv_o (by first | assumption | first | assumption | (simp (disch := omega) only [shI, shR, shL, shC, shD, shW, sh_V, shN_e, shN_n, crI, crL, crC, crW, crV, crR_e, crR_n, crN_e, crN_n, ciR, ciL, ciD, ciN_e, ciN_n, rdI_e, rdI_n, rdC_i, rdC_o, rdW, rdU_e, rdU_n, rdLW, clI, clR, clC, clD, clW, clV, clN_e, clN_n, clL_e, clL_n]; done) | (simp (disch := omega) only [shI, shR, shL, shC, shD, shW, sh_V, shN_e, shN_n, crI, crL, crC, crW, crV, crR_e, crR_n, crN_e, crN_n, ciR, ciL, ciD, ciN_e, ciN_n, rdI_e, rdI_n, rdC_i, rdC_o, rdW, rdU_e, rdU_n, rdLW, clI, clR, clC, clD, clW, clV, clN_e, clN_n, clL_e, clL_n] <;> first | assumption | rfl | omega)) rfl) (fun x41 M41 h41 => ?_)
      obtain ⟨e41, f41⟩ := h41
      rw [hb] at e41 f41
      subst e41
      refine x_if_eq (tgt := 54) dX2_line_44 (by decide) (fun h44 => ?_) (fun h44 => ?_)
      · try simp only [vP_0, vP_1, vP_n0, vP_n1, Classical.not_not] at h44
        rw [if_neg h44] at f41
        subst f41
        refine x_aload_n dX2_line_54 rfl rfl ?_
        refine x_ldcs dX2_line_55 (List.mem_of_getElem? (i := 23) rfl) ?_
        refine g_callI (vs := [_, _]) (d' := d - 1) rfl (s_X2_takes (i := 23) (by omega) hX.1 hp (by omega) rfl) dX2_line_57 kX2_109 (by omega) (by decide) rfl (Nat.le_of_ble_eq_true rfl) (rcv_o (by first | assumption | first | assumption | (simp (disch := omega) only [shI, shR, shL, shC, shD, shW, sh_V, shN_e, shN_n, crI, crL, crC, crW, crV, crR_e, crR_n, crN_e, crN_n, ciR, ciL, ciD, ciN_e, ciN_n, rdI_e, rdI_n, rdC_i, rdC_o, rdW, rdU_e, rdU_n, rdLW, clI, clR, clC, clD, clW, clV, clN_e, clN_n, clL_e, clL_n]; done) | (simp (disch := omega) only [shI, shR, shL, shC, shD, shW, sh_V, shN_e, shN_n, crI, crL, crC, crW, crV, crR_e, crR_n, crN_e, crN_n, ciR, ciL, ciD, ciN_e, ciN_n, rdI_e, rdI_n, rdC_i, rdC_o, rdW, rdU_e, rdU_n, rdLW, clI, clR, clC, clD, clW, clV, clN_e, clN_n, clL_e, clL_n] <;> first | assumption | rfl | omega)) rfl) (fun x57 M57 h57 => ?_)
        obtain ⟨e57, f57⟩ := h57
        rw [hb] at e57 f57
        subst e57
        refine x_if_eq (tgt := 80) dX2_line_60 (by decide) (fun h60 => ?_) (fun h60 => ?_)
        · try simp only [vP_0, vP_1, vP_n0, vP_n1, Classical.not_not] at h60
          rw [if_neg h60] at f57
          subst f57
          refine x_aload_n dX2_line_80 rfl rfl ?_
          refine x_ldcs dX2_line_81 (List.mem_of_getElem? (i := 24) rfl) ?_
          refine g_callI (vs := [_, _]) (d' := d - 1) rfl (s_X2_takes (i := 24) (by omega) hX.1 hp (by omega) rfl) dX2_line_83 kX2_109 (by omega) (by decide) rfl (Nat.le_of_ble_eq_true rfl) (rcv_o (by first | assumption | first | assumption | (simp (disch := omega) only [shI, shR, shL, shC, shD, shW, sh_V, shN_e, shN_n, crI, crL, crC, crW, crV, crR_e, crR_n, crN_e, crN_n, ciR, ciL, ciD, ciN_e, ciN_n, rdI_e, rdI_n, rdC_i, rdC_o, rdW, rdU_e, rdU_n, rdLW, clI, clR, clC, clD, clW, clV, clN_e, clN_n, clL_e, clL_n]; done) | (simp (disch := omega) only [shI, shR, shL, shC, shD, shW, sh_V, shN_e, shN_n, crI, crL, crC, crW, crV, crR_e, crR_n, crN_e, crN_n, ciR, ciL, ciD, ciN_e, ciN_n, rdI_e, rdI_n, rdC_i, rdC_o, rdW, rdU_e, rdU_n, rdLW, clI, clR, clC, clD, clW, clV, clN_e, clN_n, clL_e, clL_n] <;> first | assumption | rfl | omega)) rfl) (fun x83 M83 h83 => ?_)
          obtain ⟨e83, f83⟩ := h83
          rw [hb] at e83 f83
          subst e83
          refine x_if_eq (tgt := 105) dX2_line_86 (by decide) (fun h86 => ?_) (fun h86 => ?_)
          · try simp only [vP_0, vP_1, vP_n0, vP_n1, Classical.not_not] at h86
            rw [if_neg h86] at f83
            subst f83
            refine x_aload_n dX2_line_105 rfl rfl ?_
            refine x_ldcs dX2_line_106 (List.mem_of_getElem? (i := 25) rfl) ?_
            refine g_callI (vs := [_, _]) (d' := d - 1) rfl (s_X2_takes (i := 25) (by omega) hX.1 hp (by omega) rfl) dX2_line_108 kX2_109 (by omega) (by decide) rfl (Nat.le_of_ble_eq_true rfl) (rcv_o (by first | assumption | first | assumption | (simp (disch := omega) only [shI, shR, shL, shC, shD, shW, sh_V, shN_e, shN_n, crI, crL, crC, crW, crV, crR_e, crR_n, crN_e, crN_n, ciR, ciL, ciD, ciN_e, ciN_n, rdI_e, rdI_n, rdC_i, rdC_o, rdW, rdU_e, rdU_n, rdLW, clI, clR, clC, clD, clW, clV, clN_e, clN_n, clL_e, clL_n]; done) | (simp (disch := omega) only [shI, shR, shL, shC, shD, shW, sh_V, shN_e, shN_n, crI, crL, crC, crW, crV, crR_e, crR_n, crN_e, crN_n, ciR, ciL, ciD, ciN_e, ciN_n, rdI_e, rdI_n, rdC_i, rdC_o, rdW, rdU_e, rdU_n, rdLW, clI, clR, clC, clD, clW, clV, clN_e, clN_n, clL_e, clL_n] <;> first | assumption | rfl | omega)) rfl) (fun x108 M108 h108 => ?_)
            obtain ⟨e108, f108⟩ := h108
            rw [hb] at e108 f108
            subst e108
            refine x_if_eq (tgt := 131) dX2_line_111 (by decide) (fun h111 => ?_) (fun h111 => ?_)
            · try simp only [vP_0, vP_1, vP_n0, vP_n1, Classical.not_not] at h111
              rw [if_neg h111] at f108
              subst f108
              refine x_aload_n dX2_line_131 rfl rfl ?_
              refine x_ldcs dX2_line_132 (List.mem_of_getElem? (i := 26) rfl) ?_
              refine g_callI (vs := [_, _]) (d' := d - 1) rfl (s_X2_takes (i := 26) (by omega) hX.1 hp (by omega) rfl) dX2_line_134 kX2_109 (by omega) (by decide) rfl (Nat.le_of_ble_eq_true rfl) (rcv_o (by first | assumption | first | assumption | (simp (disch := omega) only [shI, shR, shL, shC, shD, shW, sh_V, shN_e, shN_n, crI, crL, crC, crW, crV, crR_e, crR_n, crN_e, crN_n, ciR, ciL, ciD, ciN_e, ciN_n, rdI_e, rdI_n, rdC_i, rdC_o, rdW, rdU_e, rdU_n, rdLW, clI, clR, clC, clD, clW, clV, clN_e, clN_n, clL_e, clL_n]; done) | (simp (disch := omega) only [shI, shR, shL, shC, shD, shW, sh_V, shN_e, shN_n, crI, crL, crC, crW, crV, crR_e, crR_n, crN_e, crN_n, ciR, ciL, ciD, ciN_e, ciN_n, rdI_e, rdI_n, rdC_i, rdC_o, rdW, rdU_e, rdU_n, rdLW, clI, clR, clC, clD, clW, clV, clN_e, clN_n, clL_e, clL_n] <;> first | assumption | rfl | omega)) rfl) (fun x134 M134 h134 => ?_)
              obtain ⟨e134, f134⟩ := h134
              rw [hb] at e134 f134
              subst e134
              refine x_if_eq (tgt := 157) dX2_line_137 (by decide) (fun h137 => ?_) (fun h137 => ?_)
              · try simp only [vP_0, vP_1, vP_n0, vP_n1, Classical.not_not] at h137
                rw [if_neg h137] at f134
                subst f134
                refine x_aload_n dX2_line_157 rfl rfl ?_
                refine x_ldcs dX2_line_158 (List.mem_of_getElem? (i := 27) rfl) ?_
                refine g_callNX (vs := [_, _]) (d' := d - 1) rfl (s_X2_expect (i := 27) (by omega) hX.1 hp (by omega) rfl) dX2_line_160 kX2_120 (by omega) (by decide) rfl (Nat.le_of_ble_eq_true rfl) (rcv_o (by first | assumption | first | assumption | (simp (disch := omega) only [shI, shR, shL, shC, shD, shW, sh_V, shN_e, shN_n, crI, crL, crC, crW, crV, crR_e, crR_n, crN_e, crN_n, ciR, ciL, ciD, ciN_e, ciN_n, rdI_e, rdI_n, rdC_i, rdC_o, rdW, rdU_e, rdU_n, rdLW, clI, clR, clC, clD, clW, clV, clN_e, clN_n, clL_e, clL_n]; done) | (simp (disch := omega) only [shI, shR, shL, shC, shD, shW, sh_V, shN_e, shN_n, crI, crL, crC, crW, crV, crR_e, crR_n, crN_e, crN_n, ciR, ciL, ciD, ciN_e, ciN_n, rdI_e, rdI_n, rdC_i, rdC_o, rdW, rdU_e, rdU_n, rdLW, clI, clR, clC, clD, clW, clV, clN_e, clN_n, clL_e, clL_n] <;> first | assumption | rfl | omega)) rfl) (fun M160 h160 => ?_) (fun a160 E160 M160 h160 => ?_)
                · obtain ⟨e160, f160⟩ := h160
                  rw [hb] at e160 f160
                  subst f160
                  refine x_aload_n dX2_line_163 rfl rfl ?_
                  refine g_getR (kI := 5) rfl dX2_line_164 fX2_77_2 (by first | assumption | first | assumption | (simp (disch := omega) only [shI, shR, shL, shC, shD, shW, sh_V, shN_e, shN_n, crI, crL, crC, crW, crV, crR_e, crR_n, crN_e, crN_n, ciR, ciL, ciD, ciN_e, ciN_n, rdI_e, rdI_n, rdC_i, rdC_o, rdW, rdU_e, rdU_n, rdLW, clI, clR, clC, clD, clW, clV, clN_e, clN_n, clL_e, clL_n]; done) | (simp (disch := omega) only [shI, shR, shL, shC, shD, shW, sh_V, shN_e, shN_n, crI, crL, crC, crW, crV, crR_e, crR_n, crN_e, crN_n, ciR, ciL, ciD, ciN_e, ciN_n, rdI_e, rdI_n, rdC_i, rdC_o, rdW, rdU_e, rdU_n, rdLW, clI, clR, clC, clD, clW, clV, clN_e, clN_n, clL_e, clL_n] <;> first | assumption | rfl | omega)) (by first | assumption | first | assumption | (simp (disch := omega) only [shI, shR, shL, shC, shD, shW, sh_V, shN_e, shN_n, crI, crL, crC, crW, crV, crR_e, crR_n, crN_e, crN_n, ciR, ciL, ciD, ciN_e, ciN_n, rdI_e, rdI_n, rdC_i, rdC_o, rdW, rdU_e, rdU_n, rdLW, clI, clR, clC, clD, clW, clV, clN_e, clN_n, clL_e, clL_n]; done) | (simp (disch := omega) only [shI, shR, shL, shC, shD, shW, sh_V, shN_e, shN_n, crI, crL, crC, crW, crV, crR_e, crR_n, crN_e, crN_n, ciR, ciL, ciD, ciN_e, ciN_n, rdI_e, rdI_n, rdC_i, rdC_o, rdW, rdU_e, rdU_n, rdLW, clI, clR, clC, clD, clW, clV, clN_e, clN_n, clL_e, clL_n] <;> first | assumption | rfl | omega)) ?_
                  refine x_aload_n dX2_line_167 rfl rfl ?_
                  refine x_iconst dX2_line_168 rfl ?_
                  refine x_sipush dX2_line_169 rfl ?_
                  refine g_callIX (vs := [_, _, _]) (d' := d - 1) rfl (s_X2_number (by omega) hX.1 (by omega)) dX2_line_172 kX2_124 (by omega) (by decide) rfl (Nat.le_of_ble_eq_true rfl) (rcv_o (by first | assumption | first | assumption | (simp (disch := omega) only [shI, shR, shL, shC, shD, shW, sh_V, shN_e, shN_n, crI, crL, crC, crW, crV, crR_e, crR_n, crN_e, crN_n, ciR, ciL, ciD, ciN_e, ciN_n, rdI_e, rdI_n, rdC_i, rdC_o, rdW, rdU_e, rdU_n, rdLW, clI, clR, clC, clD, clW, clV, clN_e, clN_n, clL_e, clL_n]; done) | (simp (disch := omega) only [shI, shR, shL, shC, shD, shW, sh_V, shN_e, shN_n, crI, crL, crC, crW, crV, crR_e, crR_n, crN_e, crN_n, ciR, ciL, ciD, ciN_e, ciN_n, rdI_e, rdI_n, rdC_i, rdC_o, rdW, rdU_e, rdU_n, rdLW, clI, clR, clC, clD, clW, clV, clN_e, clN_n, clL_e, clL_n] <;> first | assumption | rfl | omega)) rfl) (fun x172 M172 h172 => ?_) (fun a172 E172 M172 h172 => ?_)
                  · obtain ⟨z172, hz172, hM172⟩ := h172
                    subst hM172
                    have nr172 := numP_r hw.2 hz172
                    refine g_putI (kI := 17) rfl dX2_line_175 fX2_176_3 (by first | assumption | first | assumption | (simp (disch := omega) only [shI, shR, shL, shC, shD, shW, sh_V, shN_e, shN_n, crI, crL, crC, crW, crV, crR_e, crR_n, crN_e, crN_n, ciR, ciL, ciD, ciN_e, ciN_n, rdI_e, rdI_n, rdC_i, rdC_o, rdW, rdU_e, rdU_n, rdLW, clI, clR, clC, clD, clW, clV, clN_e, clN_n, clL_e, clL_n]; done) | (simp (disch := omega) only [shI, shR, shL, shC, shD, shW, sh_V, shN_e, shN_n, crI, crL, crC, crW, crV, crR_e, crR_n, crN_e, crN_n, ciR, ciL, ciD, ciN_e, ciN_n, rdI_e, rdI_n, rdC_i, rdC_o, rdW, rdU_e, rdU_n, rdLW, clI, clR, clC, clD, clW, clV, clN_e, clN_n, clL_e, clL_n] <;> first | assumption | rfl | omega)) ?_
                    try simp only [mP_w]
                    skip
                    refine x_vreturn rfl dX2_line_178 ?_
                    first
                    | exact hfin
                    | (rw [mP_c (by omega)]; exact hQ _ _ (by unfold rLin; rw [if_neg h11, if_neg h28, if_neg h44, if_neg h60, if_neg h86, if_neg h111, if_neg h137, if_pos e160]; exact BX.n1 hB hu (by rw [Int.one_mul]; exact ChO.prs) (by omega) hz172 (by omega)))
                  · exact th_nil rfl (hQ _ _ (by unfold rLin; rw [if_neg h11, if_neg h28, if_neg h44, if_neg h60, if_neg h86, if_neg h111, if_neg h137, if_pos e160]; exact BX.f (rN1_n h172.1) (h172.2.d Dr.rfl (Nat.zero_le _) (Nat.zero_le _) rfl)))
                · rw [hb] at h160
                  exact th_nil rfl (hQ _ _ (by unfold rLin; rw [if_neg h11, if_neg h28, if_neg h44, if_neg h60, if_neg h86, if_neg h111, if_neg h137, if_neg h160.1]; exact BX.f rfl (h160.2.d Dr.rfl (Nat.zero_le _) (Nat.zero_le _) rfl)))
              · try simp only [vP_0, vP_1, vP_n0, vP_n1, Classical.not_not] at h137
                rw [if_pos h137] at f134
                subst f134
                refine x_aload_n dX2_line_140 rfl rfl ?_
                refine g_getR (kI := 5) rfl dX2_line_141 fX2_77_2 (by first | assumption | first | assumption | (simp (disch := omega) only [shI, shR, shL, shC, shD, shW, sh_V, shN_e, shN_n, crI, crL, crC, crW, crV, crR_e, crR_n, crN_e, crN_n, ciR, ciL, ciD, ciN_e, ciN_n, rdI_e, rdI_n, rdC_i, rdC_o, rdW, rdU_e, rdU_n, rdLW, clI, clR, clC, clD, clW, clV, clN_e, clN_n, clL_e, clL_n]; done) | (simp (disch := omega) only [shI, shR, shL, shC, shD, shW, sh_V, shN_e, shN_n, crI, crL, crC, crW, crV, crR_e, crR_n, crN_e, crN_n, ciR, ciL, ciD, ciN_e, ciN_n, rdI_e, rdI_n, rdC_i, rdC_o, rdW, rdU_e, rdU_n, rdLW, clI, clR, clC, clD, clW, clV, clN_e, clN_n, clL_e, clL_n] <;> first | assumption | rfl | omega)) (by first | assumption | first | assumption | (simp (disch := omega) only [shI, shR, shL, shC, shD, shW, sh_V, shN_e, shN_n, crI, crL, crC, crW, crV, crR_e, crR_n, crN_e, crN_n, ciR, ciL, ciD, ciN_e, ciN_n, rdI_e, rdI_n, rdC_i, rdC_o, rdW, rdU_e, rdU_n, rdLW, clI, clR, clC, clD, clW, clV, clN_e, clN_n, clL_e, clL_n]; done) | (simp (disch := omega) only [shI, shR, shL, shC, shD, shW, sh_V, shN_e, shN_n, crI, crL, crC, crW, crV, crR_e, crR_n, crN_e, crN_n, ciR, ciL, ciD, ciN_e, ciN_n, rdI_e, rdI_n, rdC_i, rdC_o, rdW, rdU_e, rdU_n, rdLW, clI, clR, clC, clD, clW, clV, clN_e, clN_n, clL_e, clL_n] <;> first | assumption | rfl | omega)) ?_
                refine x_aload_n dX2_line_144 rfl rfl ?_
                refine x_iconst dX2_line_145 rfl ?_
                refine x_bipush dX2_line_146 rfl ?_
                refine g_callIX (vs := [_, _, _]) (d' := d - 1) rfl (s_X2_number (by omega) hX.1 (by omega)) dX2_line_148 kX2_124 (by omega) (by decide) rfl (Nat.le_of_ble_eq_true rfl) (rcv_o (by first | assumption | first | assumption | (simp (disch := omega) only [shI, shR, shL, shC, shD, shW, sh_V, shN_e, shN_n, crI, crL, crC, crW, crV, crR_e, crR_n, crN_e, crN_n, ciR, ciL, ciD, ciN_e, ciN_n, rdI_e, rdI_n, rdC_i, rdC_o, rdW, rdU_e, rdU_n, rdLW, clI, clR, clC, clD, clW, clV, clN_e, clN_n, clL_e, clL_n]; done) | (simp (disch := omega) only [shI, shR, shL, shC, shD, shW, sh_V, shN_e, shN_n, crI, crL, crC, crW, crV, crR_e, crR_n, crN_e, crN_n, ciR, ciL, ciD, ciN_e, ciN_n, rdI_e, rdI_n, rdC_i, rdC_o, rdW, rdU_e, rdU_n, rdLW, clI, clR, clC, clD, clW, clV, clN_e, clN_n, clL_e, clL_n] <;> first | assumption | rfl | omega)) rfl) (fun x148 M148 h148 => ?_) (fun a148 E148 M148 h148 => ?_)
                · obtain ⟨z148, hz148, hM148⟩ := h148
                  subst hM148
                  have nr148 := numP_r hw.2 hz148
                  refine g_putI (kI := 15) rfl dX2_line_151 fX2_172_3 (by first | assumption | first | assumption | (simp (disch := omega) only [shI, shR, shL, shC, shD, shW, sh_V, shN_e, shN_n, crI, crL, crC, crW, crV, crR_e, crR_n, crN_e, crN_n, ciR, ciL, ciD, ciN_e, ciN_n, rdI_e, rdI_n, rdC_i, rdC_o, rdW, rdU_e, rdU_n, rdLW, clI, clR, clC, clD, clW, clV, clN_e, clN_n, clL_e, clL_n]; done) | (simp (disch := omega) only [shI, shR, shL, shC, shD, shW, sh_V, shN_e, shN_n, crI, crL, crC, crW, crV, crR_e, crR_n, crN_e, crN_n, ciR, ciL, ciD, ciN_e, ciN_n, rdI_e, rdI_n, rdC_i, rdC_o, rdW, rdU_e, rdU_n, rdLW, clI, clR, clC, clD, clW, clV, clN_e, clN_n, clL_e, clL_n] <;> first | assumption | rfl | omega)) ?_
                  try simp only [mP_w]
                  refine WP.mem (mP_c (by omega)) ?_
                  have hfin : Q rN (mP (mI M 8 15 x148) z148) := hQ _ _ (by unfold rLin; rw [if_neg h11, if_neg h28, if_neg h44, if_neg h60, if_neg h86, if_neg h111, if_pos h137]; exact BX.n1 hB hu (by rw [Int.one_mul]; exact ChO.alm) (by omega) hz148 (by omega))
                  refine x_goto (tgt := 178) dX2_line_154 (by decide) ?_
                  skip
                  refine x_vreturn rfl dX2_line_178 ?_
                  first
                  | exact hfin
                  | (rw [mP_c (by omega)]; exact hQ _ _ (by unfold rLin; rw [if_neg h11, if_neg h28, if_neg h44, if_neg h60, if_neg h86, if_neg h111, if_neg h137, if_pos e160]; exact BX.n1 hB hu (by rw [Int.one_mul]; exact ChO.prs) (by omega) hz172 (by omega)))
                · exact th_nil rfl (hQ _ _ (by unfold rLin; rw [if_neg h11, if_neg h28, if_neg h44, if_neg h60, if_neg h86, if_neg h111, if_pos h137]; exact BX.f (rN1_n h148.1) (h148.2.d Dr.rfl (Nat.zero_le _) (Nat.zero_le _) rfl)))
            · try simp only [vP_0, vP_1, vP_n0, vP_n1, Classical.not_not] at h111
              rw [if_pos h111] at f108
              subst f108
              refine x_aload_n dX2_line_114 rfl rfl ?_
              refine g_getR (kI := 5) rfl dX2_line_115 fX2_77_2 (by first | assumption | first | assumption | (simp (disch := omega) only [shI, shR, shL, shC, shD, shW, sh_V, shN_e, shN_n, crI, crL, crC, crW, crV, crR_e, crR_n, crN_e, crN_n, ciR, ciL, ciD, ciN_e, ciN_n, rdI_e, rdI_n, rdC_i, rdC_o, rdW, rdU_e, rdU_n, rdLW, clI, clR, clC, clD, clW, clV, clN_e, clN_n, clL_e, clL_n]; done) | (simp (disch := omega) only [shI, shR, shL, shC, shD, shW, sh_V, shN_e, shN_n, crI, crL, crC, crW, crV, crR_e, crR_n, crN_e, crN_n, ciR, ciL, ciD, ciN_e, ciN_n, rdI_e, rdI_n, rdC_i, rdC_o, rdW, rdU_e, rdU_n, rdLW, clI, clR, clC, clD, clW, clV, clN_e, clN_n, clL_e, clL_n] <;> first | assumption | rfl | omega)) (by first | assumption | first | assumption | (simp (disch := omega) only [shI, shR, shL, shC, shD, shW, sh_V, shN_e, shN_n, crI, crL, crC, crW, crV, crR_e, crR_n, crN_e, crN_n, ciR, ciL, ciD, ciN_e, ciN_n, rdI_e, rdI_n, rdC_i, rdC_o, rdW, rdU_e, rdU_n, rdLW, clI, clR, clC, clD, clW, clV, clN_e, clN_n, clL_e, clL_n]; done) | (simp (disch := omega) only [shI, shR, shL, shC, shD, shW, sh_V, shN_e, shN_n, crI, crL, crC, crW, crV, crR_e, crR_n, crN_e, crN_n, ciR, ciL, ciD, ciN_e, ciN_n, rdI_e, rdI_n, rdC_i, rdC_o, rdW, rdU_e, rdU_n, rdLW, clI, clR, clC, clD, clW, clV, clN_e, clN_n, clL_e, clL_n] <;> first | assumption | rfl | omega)) ?_
              refine x_aload_n dX2_line_118 rfl rfl ?_
              refine x_iconst dX2_line_119 rfl ?_
              refine x_bipush dX2_line_120 rfl ?_
              refine g_callIX (vs := [_, _, _]) (d' := d - 1) rfl (s_X2_number (by omega) hX.1 (by omega)) dX2_line_122 kX2_124 (by omega) (by decide) rfl (Nat.le_of_ble_eq_true rfl) (rcv_o (by first | assumption | first | assumption | (simp (disch := omega) only [shI, shR, shL, shC, shD, shW, sh_V, shN_e, shN_n, crI, crL, crC, crW, crV, crR_e, crR_n, crN_e, crN_n, ciR, ciL, ciD, ciN_e, ciN_n, rdI_e, rdI_n, rdC_i, rdC_o, rdW, rdU_e, rdU_n, rdLW, clI, clR, clC, clD, clW, clV, clN_e, clN_n, clL_e, clL_n]; done) | (simp (disch := omega) only [shI, shR, shL, shC, shD, shW, sh_V, shN_e, shN_n, crI, crL, crC, crW, crV, crR_e, crR_n, crN_e, crN_n, ciR, ciL, ciD, ciN_e, ciN_n, rdI_e, rdI_n, rdC_i, rdC_o, rdW, rdU_e, rdU_n, rdLW, clI, clR, clC, clD, clW, clV, clN_e, clN_n, clL_e, clL_n] <;> first | assumption | rfl | omega)) rfl) (fun x122 M122 h122 => ?_) (fun a122 E122 M122 h122 => ?_)
              · obtain ⟨z122, hz122, hM122⟩ := h122
                subst hM122
                have nr122 := numP_r hw.2 hz122
                refine g_putI (kI := 14) rfl dX2_line_125 fX2_168_3 (by first | assumption | first | assumption | (simp (disch := omega) only [shI, shR, shL, shC, shD, shW, sh_V, shN_e, shN_n, crI, crL, crC, crW, crV, crR_e, crR_n, crN_e, crN_n, ciR, ciL, ciD, ciN_e, ciN_n, rdI_e, rdI_n, rdC_i, rdC_o, rdW, rdU_e, rdU_n, rdLW, clI, clR, clC, clD, clW, clV, clN_e, clN_n, clL_e, clL_n]; done) | (simp (disch := omega) only [shI, shR, shL, shC, shD, shW, sh_V, shN_e, shN_n, crI, crL, crC, crW, crV, crR_e, crR_n, crN_e, crN_n, ciR, ciL, ciD, ciN_e, ciN_n, rdI_e, rdI_n, rdC_i, rdC_o, rdW, rdU_e, rdU_n, rdLW, clI, clR, clC, clD, clW, clV, clN_e, clN_n, clL_e, clL_n] <;> first | assumption | rfl | omega)) ?_
                try simp only [mP_w]
                refine WP.mem (mP_c (by omega)) ?_
                have hfin : Q rN (mP (mI M 8 14 x122) z122) := hQ _ _ (by unfold rLin; rw [if_neg h11, if_neg h28, if_neg h44, if_neg h60, if_neg h86, if_pos h111]; exact BX.n1 hB hu (by rw [Int.one_mul]; exact ChO.cst) (by omega) hz122 (by omega))
                refine x_goto (tgt := 178) dX2_line_128 (by decide) ?_
                skip
                refine x_vreturn rfl dX2_line_178 ?_
                first
                | exact hfin
                | (rw [mP_c (by omega)]; exact hQ _ _ (by unfold rLin; rw [if_neg h11, if_neg h28, if_neg h44, if_neg h60, if_neg h86, if_neg h111, if_neg h137, if_pos e160]; exact BX.n1 hB hu (by rw [Int.one_mul]; exact ChO.prs) (by omega) hz172 (by omega)))
              · exact th_nil rfl (hQ _ _ (by unfold rLin; rw [if_neg h11, if_neg h28, if_neg h44, if_neg h60, if_neg h86, if_pos h111]; exact BX.f (rN1_n h122.1) (h122.2.d Dr.rfl (Nat.zero_le _) (Nat.zero_le _) rfl)))
          · try simp only [vP_0, vP_1, vP_n0, vP_n1, Classical.not_not] at h86
            rw [if_pos h86] at f83
            subst f83
            refine x_aload_n dX2_line_89 rfl rfl ?_
            refine g_getR (kI := 5) rfl dX2_line_90 fX2_77_2 (by first | assumption | first | assumption | (simp (disch := omega) only [shI, shR, shL, shC, shD, shW, sh_V, shN_e, shN_n, crI, crL, crC, crW, crV, crR_e, crR_n, crN_e, crN_n, ciR, ciL, ciD, ciN_e, ciN_n, rdI_e, rdI_n, rdC_i, rdC_o, rdW, rdU_e, rdU_n, rdLW, clI, clR, clC, clD, clW, clV, clN_e, clN_n, clL_e, clL_n]; done) | (simp (disch := omega) only [shI, shR, shL, shC, shD, shW, sh_V, shN_e, shN_n, crI, crL, crC, crW, crV, crR_e, crR_n, crN_e, crN_n, ciR, ciL, ciD, ciN_e, ciN_n, rdI_e, rdI_n, rdC_i, rdC_o, rdW, rdU_e, rdU_n, rdLW, clI, clR, clC, clD, clW, clV, clN_e, clN_n, clL_e, clL_n] <;> first | assumption | rfl | omega)) (by first | assumption | first | assumption | (simp (disch := omega) only [shI, shR, shL, shC, shD, shW, sh_V, shN_e, shN_n, crI, crL, crC, crW, crV, crR_e, crR_n, crN_e, crN_n, ciR, ciL, ciD, ciN_e, ciN_n, rdI_e, rdI_n, rdC_i, rdC_o, rdW, rdU_e, rdU_n, rdLW, clI, clR, clC, clD, clW, clV, clN_e, clN_n, clL_e, clL_n]; done) | (simp (disch := omega) only [shI, shR, shL, shC, shD, shW, sh_V, shN_e, shN_n, crI, crL, crC, crW, crV, crR_e, crR_n, crN_e, crN_n, ciR, ciL, ciD, ciN_e, ciN_n, rdI_e, rdI_n, rdC_i, rdC_o, rdW, rdU_e, rdU_n, rdLW, clI, clR, clC, clD, clW, clV, clN_e, clN_n, clL_e, clL_n] <;> first | assumption | rfl | omega)) ?_
            refine x_aload_n dX2_line_93 rfl rfl ?_
            refine x_iconst dX2_line_94 rfl ?_
            refine x_iconst dX2_line_95 rfl ?_
            refine g_callIX (vs := [_, _, _]) (d' := d - 1) rfl (s_X2_number (by omega) hX.1 (by omega)) dX2_line_96 kX2_124 (by omega) (by decide) rfl (Nat.le_of_ble_eq_true rfl) (rcv_o (by first | assumption | first | assumption | (simp (disch := omega) only [shI, shR, shL, shC, shD, shW, sh_V, shN_e, shN_n, crI, crL, crC, crW, crV, crR_e, crR_n, crN_e, crN_n, ciR, ciL, ciD, ciN_e, ciN_n, rdI_e, rdI_n, rdC_i, rdC_o, rdW, rdU_e, rdU_n, rdLW, clI, clR, clC, clD, clW, clV, clN_e, clN_n, clL_e, clL_n]; done) | (simp (disch := omega) only [shI, shR, shL, shC, shD, shW, sh_V, shN_e, shN_n, crI, crL, crC, crW, crV, crR_e, crR_n, crN_e, crN_n, ciR, ciL, ciD, ciN_e, ciN_n, rdI_e, rdI_n, rdC_i, rdC_o, rdW, rdU_e, rdU_n, rdLW, clI, clR, clC, clD, clW, clV, clN_e, clN_n, clL_e, clL_n] <;> first | assumption | rfl | omega)) rfl) (fun x96 M96 h96 => ?_) (fun a96 E96 M96 h96 => ?_)
            · obtain ⟨z96, hz96, hM96⟩ := h96
              subst hM96
              have nr96 := numP_r hw.2 hz96
              refine g_putI (kI := 13) rfl dX2_line_99 fX2_164_3 (by first | assumption | first | assumption | (simp (disch := omega) only [shI, shR, shL, shC, shD, shW, sh_V, shN_e, shN_n, crI, crL, crC, crW, crV, crR_e, crR_n, crN_e, crN_n, ciR, ciL, ciD, ciN_e, ciN_n, rdI_e, rdI_n, rdC_i, rdC_o, rdW, rdU_e, rdU_n, rdLW, clI, clR, clC, clD, clW, clV, clN_e, clN_n, clL_e, clL_n]; done) | (simp (disch := omega) only [shI, shR, shL, shC, shD, shW, sh_V, shN_e, shN_n, crI, crL, crC, crW, crV, crR_e, crR_n, crN_e, crN_n, ciR, ciL, ciD, ciN_e, ciN_n, rdI_e, rdI_n, rdC_i, rdC_o, rdW, rdU_e, rdU_n, rdLW, clI, clR, clC, clD, clW, clV, clN_e, clN_n, clL_e, clL_n] <;> first | assumption | rfl | omega)) ?_
              try simp only [mP_w]
              refine WP.mem (mP_c (by omega)) ?_
              have hfin : Q rN (mP (mI M 8 13 x96) z96) := hQ _ _ (by unfold rLin; rw [if_neg h11, if_neg h28, if_neg h44, if_neg h60, if_pos h86]; exact BX.n1 hB hu ChO.shf (by omega) hz96 (by omega))
              refine x_goto (tgt := 178) dX2_line_102 (by decide) ?_
              skip
              refine x_vreturn rfl dX2_line_178 ?_
              first
              | exact hfin
              | (rw [mP_c (by omega)]; exact hQ _ _ (by unfold rLin; rw [if_neg h11, if_neg h28, if_neg h44, if_neg h60, if_neg h86, if_neg h111, if_neg h137, if_pos e160]; exact BX.n1 hB hu (by rw [Int.one_mul]; exact ChO.prs) (by omega) hz172 (by omega)))
            · exact th_nil rfl (hQ _ _ (by unfold rLin; rw [if_neg h11, if_neg h28, if_neg h44, if_neg h60, if_pos h86]; exact BX.f (rN1_n h96.1) (h96.2.d Dr.rfl (Nat.zero_le _) (Nat.zero_le _) rfl)))
        · try simp only [vP_0, vP_1, vP_n0, vP_n1, Classical.not_not] at h60
          rw [if_pos h60] at f57
          subst f57
          refine x_aload_n dX2_line_63 rfl rfl ?_
          refine g_getR (kI := 5) rfl dX2_line_64 fX2_77_2 (by first | assumption | first | assumption | (simp (disch := omega) only [shI, shR, shL, shC, shD, shW, sh_V, shN_e, shN_n, crI, crL, crC, crW, crV, crR_e, crR_n, crN_e, crN_n, ciR, ciL, ciD, ciN_e, ciN_n, rdI_e, rdI_n, rdC_i, rdC_o, rdW, rdU_e, rdU_n, rdLW, clI, clR, clC, clD, clW, clV, clN_e, clN_n, clL_e, clL_n]; done) | (simp (disch := omega) only [shI, shR, shL, shC, shD, shW, sh_V, shN_e, shN_n, crI, crL, crC, crW, crV, crR_e, crR_n, crN_e, crN_n, ciR, ciL, ciD, ciN_e, ciN_n, rdI_e, rdI_n, rdC_i, rdC_o, rdW, rdU_e, rdU_n, rdLW, clI, clR, clC, clD, clW, clV, clN_e, clN_n, clL_e, clL_n] <;> first | assumption | rfl | omega)) (by first | assumption | first | assumption | (simp (disch := omega) only [shI, shR, shL, shC, shD, shW, sh_V, shN_e, shN_n, crI, crL, crC, crW, crV, crR_e, crR_n, crN_e, crN_n, ciR, ciL, ciD, ciN_e, ciN_n, rdI_e, rdI_n, rdC_i, rdC_o, rdW, rdU_e, rdU_n, rdLW, clI, clR, clC, clD, clW, clV, clN_e, clN_n, clL_e, clL_n]; done) | (simp (disch := omega) only [shI, shR, shL, shC, shD, shW, sh_V, shN_e, shN_n, crI, crL, crC, crW, crV, crR_e, crR_n, crN_e, crN_n, ciR, ciL, ciD, ciN_e, ciN_n, rdI_e, rdI_n, rdC_i, rdC_o, rdW, rdU_e, rdU_n, rdLW, clI, clR, clC, clD, clW, clV, clN_e, clN_n, clL_e, clL_n] <;> first | assumption | rfl | omega)) ?_
          refine x_aload_n dX2_line_67 rfl rfl ?_
          refine x_iconst dX2_line_68 rfl ?_
          refine x_bipush dX2_line_69 rfl ?_
          refine g_callIX (vs := [_, _, _]) (d' := d - 1) rfl (s_X2_number (by omega) hX.1 (by omega)) dX2_line_71 kX2_124 (by omega) (by decide) rfl (Nat.le_of_ble_eq_true rfl) (rcv_o (by first | assumption | first | assumption | (simp (disch := omega) only [shI, shR, shL, shC, shD, shW, sh_V, shN_e, shN_n, crI, crL, crC, crW, crV, crR_e, crR_n, crN_e, crN_n, ciR, ciL, ciD, ciN_e, ciN_n, rdI_e, rdI_n, rdC_i, rdC_o, rdW, rdU_e, rdU_n, rdLW, clI, clR, clC, clD, clW, clV, clN_e, clN_n, clL_e, clL_n]; done) | (simp (disch := omega) only [shI, shR, shL, shC, shD, shW, sh_V, shN_e, shN_n, crI, crL, crC, crW, crV, crR_e, crR_n, crN_e, crN_n, ciR, ciL, ciD, ciN_e, ciN_n, rdI_e, rdI_n, rdC_i, rdC_o, rdW, rdU_e, rdU_n, rdLW, clI, clR, clC, clD, clW, clV, clN_e, clN_n, clL_e, clL_n] <;> first | assumption | rfl | omega)) rfl) (fun x71 M71 h71 => ?_) (fun a71 E71 M71 h71 => ?_)
          · obtain ⟨z71, hz71, hM71⟩ := h71
            subst hM71
            have nr71 := numP_r hw.2 hz71
            refine g_putI (kI := 12) rfl dX2_line_74 fX2_160_3 (by first | assumption | first | assumption | (simp (disch := omega) only [shI, shR, shL, shC, shD, shW, sh_V, shN_e, shN_n, crI, crL, crC, crW, crV, crR_e, crR_n, crN_e, crN_n, ciR, ciL, ciD, ciN_e, ciN_n, rdI_e, rdI_n, rdC_i, rdC_o, rdW, rdU_e, rdU_n, rdLW, clI, clR, clC, clD, clW, clV, clN_e, clN_n, clL_e, clL_n]; done) | (simp (disch := omega) only [shI, shR, shL, shC, shD, shW, sh_V, shN_e, shN_n, crI, crL, crC, crW, crV, crR_e, crR_n, crN_e, crN_n, ciR, ciL, ciD, ciN_e, ciN_n, rdI_e, rdI_n, rdC_i, rdC_o, rdW, rdU_e, rdU_n, rdLW, clI, clR, clC, clD, clW, clV, clN_e, clN_n, clL_e, clL_n] <;> first | assumption | rfl | omega)) ?_
            try simp only [mP_w]
            refine WP.mem (mP_c (by omega)) ?_
            have hfin : Q rN (mP (mI M 8 12 x71) z71) := hQ _ _ (by unfold rLin; rw [if_neg h11, if_neg h28, if_neg h44, if_pos h60]; exact BX.n1 hB hu (by rw [Int.one_mul]; exact ChO.vec) (by omega) hz71 (by omega))
            refine x_goto (tgt := 178) dX2_line_77 (by decide) ?_
            skip
            refine x_vreturn rfl dX2_line_178 ?_
            first
            | exact hfin
            | (rw [mP_c (by omega)]; exact hQ _ _ (by unfold rLin; rw [if_neg h11, if_neg h28, if_neg h44, if_neg h60, if_neg h86, if_neg h111, if_neg h137, if_pos e160]; exact BX.n1 hB hu (by rw [Int.one_mul]; exact ChO.prs) (by omega) hz172 (by omega)))
          · exact th_nil rfl (hQ _ _ (by unfold rLin; rw [if_neg h11, if_neg h28, if_neg h44, if_pos h60]; exact BX.f (rN1_n h71.1) (h71.2.d Dr.rfl (Nat.zero_le _) (Nat.zero_le _) rfl)))
      · try simp only [vP_0, vP_1, vP_n0, vP_n1, Classical.not_not] at h44
        rw [if_pos h44] at f41
        subst f41
        refine x_aload_n dX2_line_47 rfl rfl ?_
        refine g_callNX (vs := [_]) (d' := d - 1) rfl (s_X2_fills (by omega) hX (by omega) hB hu) dX2_line_48 kX2_155 (by omega) (by decide) rfl (Nat.le_of_ble_eq_true rfl) (rcv_o (by first | assumption | first | assumption | (simp (disch := omega) only [shI, shR, shL, shC, shD, shW, sh_V, shN_e, shN_n, crI, crL, crC, crW, crV, crR_e, crR_n, crN_e, crN_n, ciR, ciL, ciD, ciN_e, ciN_n, rdI_e, rdI_n, rdC_i, rdC_o, rdW, rdU_e, rdU_n, rdLW, clI, clR, clC, clD, clW, clV, clN_e, clN_n, clL_e, clL_n]; done) | (simp (disch := omega) only [shI, shR, shL, shC, shD, shW, sh_V, shN_e, shN_n, crI, crL, crC, crW, crV, crR_e, crR_n, crN_e, crN_n, ciR, ciL, ciD, ciN_e, ciN_n, rdI_e, rdI_n, rdC_i, rdC_o, rdW, rdU_e, rdU_n, rdLW, clI, clR, clC, clD, clW, clV, clN_e, clN_n, clL_e, clL_n] <;> first | assumption | rfl | omega)) rfl) (fun M48 h48 => ?_) (fun a48 E48 M48 h48 => ?_)
        · have hfin : Q rN M48 := hQ _ _ (by unfold rLin; rw [if_neg h11, if_neg h28, if_pos h44]; exact BX.d (Or.inl ⟨rfl, h48⟩) Dr.rfl (Nat.zero_le _) (Nat.zero_le _))
          refine x_goto (tgt := 178) dX2_line_51 (by decide) ?_
          skip
          refine x_vreturn rfl dX2_line_178 ?_
          first
          | exact hfin
          | (rw [mP_c (by omega)]; exact hQ _ _ (by unfold rLin; rw [if_neg h11, if_neg h28, if_neg h44, if_neg h60, if_neg h86, if_neg h111, if_neg h137, if_pos e160]; exact BX.n1 hB hu (by rw [Int.one_mul]; exact ChO.prs) (by omega) hz172 (by omega)))
        · exact th_nil rfl (hQ _ _ (by unfold rLin; rw [if_neg h11, if_neg h28, if_pos h44]; exact BX.d (Or.inr ⟨_, _, rfl, h48⟩) Dr.rfl (Nat.zero_le _) (Nat.zero_le _)))
    · try simp only [vP_0, vP_1, vP_n0, vP_n1, Classical.not_not] at h28
      rw [if_pos h28] at f25
      subst f25
      refine x_aload_n dX2_line_31 rfl rfl ?_
      refine g_callNX (vs := [_]) (d' := d - 1) rfl (s_X2_programs (by omega) hX (by omega) hB hu) dX2_line_32 kX2_150 (by omega) (by decide) rfl (Nat.le_of_ble_eq_true rfl) (rcv_o (by first | assumption | first | assumption | (simp (disch := omega) only [shI, shR, shL, shC, shD, shW, sh_V, shN_e, shN_n, crI, crL, crC, crW, crV, crR_e, crR_n, crN_e, crN_n, ciR, ciL, ciD, ciN_e, ciN_n, rdI_e, rdI_n, rdC_i, rdC_o, rdW, rdU_e, rdU_n, rdLW, clI, clR, clC, clD, clW, clV, clN_e, clN_n, clL_e, clL_n]; done) | (simp (disch := omega) only [shI, shR, shL, shC, shD, shW, sh_V, shN_e, shN_n, crI, crL, crC, crW, crV, crR_e, crR_n, crN_e, crN_n, ciR, ciL, ciD, ciN_e, ciN_n, rdI_e, rdI_n, rdC_i, rdC_o, rdW, rdU_e, rdU_n, rdLW, clI, clR, clC, clD, clW, clV, clN_e, clN_n, clL_e, clL_n] <;> first | assumption | rfl | omega)) rfl) (fun M32 h32 => ?_) (fun a32 E32 M32 h32 => ?_)
      · have hfin : Q rN M32 := hQ _ _ (by unfold rLin; rw [if_neg h11, if_pos h28]; exact BX.d (Or.inl ⟨rfl, h32⟩) Dr.rfl (Nat.zero_le _) (Nat.zero_le _))
        refine x_goto (tgt := 178) dX2_line_35 (by decide) ?_
        skip
        refine x_vreturn rfl dX2_line_178 ?_
        first
        | exact hfin
        | (rw [mP_c (by omega)]; exact hQ _ _ (by unfold rLin; rw [if_neg h11, if_neg h28, if_neg h44, if_neg h60, if_neg h86, if_neg h111, if_neg h137, if_pos e160]; exact BX.n1 hB hu (by rw [Int.one_mul]; exact ChO.prs) (by omega) hz172 (by omega)))
      · exact th_nil rfl (hQ _ _ (by unfold rLin; rw [if_neg h11, if_pos h28]; exact BX.d (Or.inr ⟨_, _, rfl, h32⟩) Dr.rfl (Nat.zero_le _) (Nat.zero_le _)))
  · try simp only [vP_0, vP_1, vP_n0, vP_n1, Classical.not_not] at h11
    rw [if_pos h11] at f8
    subst f8
    refine x_aload_n dX2_line_14 rfl rfl ?_
    refine x_iload_n dX2_line_15 rfl rfl ?_
    refine g_callNX (vs := [_, _]) (d' := d - 1) rfl (s_X2_addOp (by omega) hX (by omega) hB hu) dX2_line_16 kX2_145 (by omega) (by decide) rfl (Nat.le_of_ble_eq_true rfl) (rcv_o (by first | assumption | first | assumption | (simp (disch := omega) only [shI, shR, shL, shC, shD, shW, sh_V, shN_e, shN_n, crI, crL, crC, crW, crV, crR_e, crR_n, crN_e, crN_n, ciR, ciL, ciD, ciN_e, ciN_n, rdI_e, rdI_n, rdC_i, rdC_o, rdW, rdU_e, rdU_n, rdLW, clI, clR, clC, clD, clW, clV, clN_e, clN_n, clL_e, clL_n]; done) | (simp (disch := omega) only [shI, shR, shL, shC, shD, shW, sh_V, shN_e, shN_n, crI, crL, crC, crW, crV, crR_e, crR_n, crN_e, crN_n, ciR, ciL, ciD, ciN_e, ciN_n, rdI_e, rdI_n, rdC_i, rdC_o, rdW, rdU_e, rdU_n, rdLW, clI, clR, clC, clD, clW, clV, clN_e, clN_n, clL_e, clL_n] <;> first | assumption | rfl | omega)) rfl) (fun M16 h16 => ?_) (fun a16 E16 M16 h16 => ?_)
    · have hfin : Q rN M16 := hQ _ _ (by unfold rLin; rw [if_pos h11]; exact Or.inl ⟨rfl, h16⟩)
      refine x_goto (tgt := 178) dX2_line_19 (by decide) ?_
      skip
      refine x_vreturn rfl dX2_line_178 ?_
      first
      | exact hfin
      | (rw [mP_c (by omega)]; exact hQ _ _ (by unfold rLin; rw [if_neg h11, if_neg h28, if_neg h44, if_neg h60, if_neg h86, if_neg h111, if_neg h137, if_pos e160]; exact BX.n1 hB hu (by rw [Int.one_mul]; exact ChO.prs) (by omega) hz172 (by omega)))
    · exact th_nil rfl (hQ _ _ (by unfold rLin; rw [if_pos h11]; exact Or.inr ⟨_, _, rfl, h16⟩))
/-- the reader's work leaves all that lasts -/
theorem CI.dr {M1 : Mem} {c s : Nat} (h : CI M v n A hi vi tp sz fa N) (hd : Dr M M1 c s) : CO M v n A hi vi tp sz fa N c s M1 := by
  obtain ⟨h1, h2, ⟨a1, a2, a3, a4⟩, ⟨⟨b1, b2⟩, b3, ⟨b4, b5, b6⟩, b7⟩⟩ := h
  have hL := h1.2.2.2.2.2
  obtain ⟨q1, q2, q3, q4⟩ := hd
  have sh : ∀ b : Int, b < mnx M → msh M1 b = msh M b := fun b hb => (q1 b hb).1
  have cc : ∀ (b k : Int), b < mnx M → mcr M1 b k = mcr M b k := fun b k hb => (q1 b hb).2.2.1 k
  have ci : ∀ (b k : Int), b < mnx M → ¬ (b = 2 ∧ 9 ≤ k) → ¬ (b = 53 ∧ k = 6) → ¬ ((8 ≤ b ∧ b ≤ 52) ∧ ¬ (15 ≤ b ∧ b ≤ 20)) → mci M1 b k = mci M b k := fun b k hb x y z => (q1 b hb).2.1 k x y (by omega)
  have hk : Kp (fun b => b < 0 ∨ (54 ≤ b ∧ b < mnx M)) M M1 := fun b hb => ⟨sh b (by omega), fun k => ci b k (by omega) (by omega) (by omega) (by omega), fun k => cc b k (by omega), fun k => (q1 b (by omega)).2.2.2 k⟩
  have st : ∀ p u, 54 ≤ p → p ≤ 699 → StOk M p u N → StOk M1 p u N := fun p u hp hp2 h => h.kp hk (fun b x y => Or.inr ⟨by omega, y⟩) (fun b x y z => Or.inr ⟨by omega, by omega⟩) q2
  refine ⟨⟨h1.of (hk.mono fun b hb => by omega) (fun b x y => sh b (by omega)) (fun b k x y z => cc b k (by omega)) (fun p hp => (h1.2.2.2.1 p hp).of (fun b x y => sh b y) (fun k x y => cc _ _ (by unfold SB at hp; omega)) (by omega)) ?_ q2, st _ _ (by omega) (by omega) h2, ⟨(ci _ _ (by omega) (by omega) (by omega) (by omega)).trans a1, a2, by rw [ci 0 15 (by omega) (by omega) (by omega) (by omega)]; exact a3, fun j x y => by rw [ci 0 15 (by omega) (by omega) (by omega) (by omega)]; exact st _ _ (by omega) (by omega) (a4 j x y)⟩, ⟨⟨(ci _ _ (by omega) (by omega) (by omega) (by omega)).trans b1, b2⟩, fun q => st _ _ (by omega) (by omega) (b3 q), ⟨(funext fun k => ci _ _ (by omega) (by omega) (by omega) (by omega)).trans b4, (ci _ _ (by omega) (by omega) (by omega) (by omega)).trans b5, b6⟩, (ci _ _ (by omega) (by omega) (by omega) (by omega)).trans b7⟩⟩, hk.mono fun b hb => by omega, q2, q3, q4⟩
  obtain ⟨i1, i2, i3, i4, i5⟩ := h1.2.2.2.2.1
  refine ⟨fun p hp => ?_, by rw [ci _ _ (by omega) (by omega) (by omega) (by omega)]; exact i2, by rw [ci _ _ (by omega) (by omega) (by omega) (by omega)]; exact i3, by rw [ci _ _ (by omega) (by omega) (by omega) (by omega)]; exact i4, by rw [ci _ _ (by omega) (by omega) (by omega) (by omega)]; exact i5⟩
  have e1 : mci M1 (p + 8) 6 = mci M (p + 8) 6 := ci _ _ (by unfold SB at hp; omega) (by unfold SB at hp; omega) (by unfold SB at hp; omega) (by unfold SB at hp; omega)
  have e2 : mci M1 (p + 11) 6 = mci M (p + 11) 6 := ci _ _ (by unfold SB at hp; omega) (by unfold SB at hp; omega) (by unfold SB at hp; omega) (by unfold SB at hp; omega)
  rw [e1, e2]
  exact i1 p hp
theorem CO.bex8 {M1 : Mem} (hC : CI M v n A hi vi tp sz fa N) (hM : ∃ g, M1 = wI (mD M (o + 2) 0 (8 + 2) 0 12) g) (hf : ∀ b k, ¬ (8 ≤ b ∧ b ≤ 8 + 44) → mci M1 b k = mci M b k) (h1 : CI1 M1) (hz : ∀ q u' N', SB q → ¬ q = 8 → StOk M q u' N' → StOk M1 q u' N') : CO M v n A hi vi tp sz fa N 0 0 M1 := by
  obtain ⟨g, rfl⟩ := hM
  obtain ⟨-, h54, ⟨a1, a2, a3, a4⟩, ⟨⟨b1, b2⟩, b3, ⟨b4, b5, b6⟩, b7⟩⟩ := hC
  refine ⟨⟨h1, hz _ _ _ (by unfold SB; omega) (by omega) h54, ⟨(hf _ _ (by omega)).trans a1, a2, by rw [hf 0 15 (by omega)]; exact a3, fun j x y => ?_⟩, ⟨⟨(hf _ _ (by omega)).trans b1, b2⟩, fun q => hz _ _ _ (by unfold SB; omega) (by omega) (b3 q), ⟨(funext fun k => hf _ _ (by omega)).trans b4, (hf _ _ (by omega)).trans b5, b6⟩, (hf _ _ (by omega)).trans b7⟩⟩, fun b hb => ⟨rfl, fun k => hf b k (by omega), fun k => crD_o (by omega), fun k => rfl⟩, Nat.le_refl _, Nat.le_refl _, Nat.le_refl _⟩
  rw [hf 0 15 (by omega)]
  exact hz _ _ _ (by unfold SB; omega) (by omega) (a4 j x y)
theorem Dr.law {M1 : Mem} {c s : Nat} (h : LawR (msh M) (mci M) (mcr M) 761 (mnx M) 8 v) (hd : Dr M M1 c s) (hL : 761 ≤ mnx M) : LawR (msh M1) (mci M1) (mcr M1) 761 (mnx M1) 8 v := by
  obtain ⟨q1, q2, q3, q4⟩ := hd
  exact h.same (fun b b0 b1 => ⟨(q1 b b1).1, fun k => (q1 b b1).2.1 k (by omega) (by omega) (by omega), fun k => (q1 b b1).2.2.1 k⟩) (by omega) ((q1 8 (by omega)).2.1 10 (by omega) (by omega) (by omega)) fun n => (q1 _ (by omega)).2.2.1 n
theorem Dr.gu {M1 : Mem} {c s : Nat} {q r i : Int} (h : RelG (mci M) q r v i) (hq : q = 15 ∨ q = 18) (hd : Dr M M1 c s) (hL : 761 ≤ mnx M) : RelG (mci M1) q r v i :=
  h.eqf fun b i b0 b1 => (hd.1 b (by omega)).2.1 i (by omega) (by omega) (by omega)
/-- what is known when all lines are read -/
def LnR (M : Mem) (v u : Vw) (N : Int) : Prop := RelB (mci M) 8 u N ∧ LawR (msh M) (mci M) (mcr M) 761 (mnx M) 8 v ∧ RelG (mci M) (8 + 7) 0 v 0 ∧ RelG (mci M) (8 + 10) (v 5) v 1
theorem s_X2_lines (hd : 30 ≤ d) (hC : CI M v n A hi vi tp sz fa N) (hTpk : TpOk tp) (he : 0 ≤ e ∧ e ≤ 400) : CS G d mX2_lines [dR 2, dI e, dR 54] M (orT (postR fun r M1 => r = some 8 ∧ ∃ y, rBench tp e v = .inr y ∧ LnR M1 v y.2 N ∧ CO M v n A hi vi tp sz fa N 42 168 M1) (fun a E M1 => ∃ f, rBench tp e v = .inl f ∧ a = 53 ∧ E = RX7 ∧ mci M1 53 6 = f ∧ CO M v n A hi vi tp sz fa N 42 168 M1)) := by
  obtain ⟨hC1, hC54, hCA, hCR⟩ := id hC; obtain ⟨hS, hTab, hTx, hLn, hSk, hnx⟩ := id hC1; obtain ⟨hA, hL, hR⟩ := id hC54; obtain ⟨⟨s0, s199, s200, s201, s202, s203⟩, ⟨c0, c1, c2, c3, c4, c5, c6, c7, c8, c9, c10, c11, c12⟩, c203, hSt, m189, m191, g193, g196, ⟨⟨r2, r3, r4, r5, r6, r7, r53⟩, ⟨w0, w1, w2, w3, w4, w5, w6⟩, wx1, wx2, wx3⟩⟩ := id hS; have hv := hA.1; have hv8 := hv.n8; have hv0 := hv.1.1; have hv3 := hv.2.2.2.1; have hs54 := hSt 54 (by unfold SB; omega); obtain ⟨p0, p1, ⟨d0, d1, d2, d3, d4, d5, d6, d7⟩, ⟨t1, t2, t3, t4, t5, t6⟩, p5, p6, p7⟩ := id hs54; have t7 : msh M (54 + 7) = some (4, 0) := p5.2.1; have t10 : msh M (54 + 10) = some (4, 0) := p6.2.1; obtain ⟨hB, hW, hLw⟩ := id hR.1; obtain ⟨b1, b2, b3, b4, b5, b6, b7, b8, b9, b10, b11, b12, b13, b14, b15⟩ := id hB; obtain ⟨hn, hn2, hat, hAc⟩ := id hCA; obtain ⟨⟨hki, hhi⟩, hIm, ⟨htp, hsz, hsz2⟩, hfa⟩ := id hCR
  refine CS.mkQ (by decide) (Nat.le_of_ble_eq_true rfl) fun Q hQ => ?_
  have fin : ∀ M10, CO M v n A hi vi tp sz fa N 0 0 M10 → StOk M10 8 v N → mci M10 2 8 = e → mci M10 2 9 = 0 → WP G d mX2_lines 13 [some (dR 2), some (dI e), some (dR 54), none] [] M10 Q := by
    intro M10 hCO hS10 e28 e29
    obtain ⟨hC10, hCr⟩ := hCO
    obtain ⟨h1, -, -, -, -, ⟨t1, -, -⟩, -⟩ := id hC10
    have hL := h1.2.2.2.2.2
    have hX : BxH M10 tp e := ⟨⟨h1.1.2.2.2.2.2.2.2.2, e28, t1, he, h1.2.2.1, hTpk⟩, h1.1.2.2.2.1 8 (by unfold SB; omega), hL⟩
    have hBd := hS10.2.2.1.1
    have ends : ∀ (q : Int) (w : Vw) (MM : Mem), okB w → Dr M10 MM 42 168 → RelB (mci MM) 8 w N → LnR (mP MM q) v w N ∧ CO M v n A hi vi tp sz fa N 42 168 (mP MM q) := fun q w MM hw hD hBw =>
      ⟨⟨hBw.at (fun b k a _ _ => mP_o (by omega)) hw.n8, Dr.law hS10.2.2.1.2.2 hD.P hL, Dr.gu hS10.2.2.2.1 (by omega) hD.P hL, Dr.gu hS10.2.2.2.2 (by omega) hD.P hL⟩, CO.tr hCr (hC10.dr hD.P)⟩
    have lp : ∀ (t : Nat) (q i : Int) (MM : Mem) (w : Vw), (14 - i).toNat = t → (0 ≤ i ∧ i ≤ 14) → (0 ≤ q ∧ q ≤ e) → (okB w) → (rBench tp e v = (if skB tp e q = e then .inr (i, w) else if i = 0 then rBch tp e 16 q 0 w else if tp (skB tp e q) = 59 then rBch tp e (16 - i).toNat (skB tp e q + 1) i w else .inl (skB tp e q))) → (Dr M10 MM (3 * i.toNat) (12 * i.toNat)) → (RelB (mci MM) 8 w N) → WP G d mX2_lines 15 [some (dR 2), some (dI e), some (dR 54), some (dI i)] [] (mP MM q) Q := by
      intro t
      induction t using Nat.strongRecOn with
      | _ t ih =>
        intro q i MM w ht i0 h0 hw hr hD hBw
        have hX1 := hX.dr hD
        have r2' : msh MM 2 = some (2, 0) := hX1.1.1.1.1
        have c5' : mcr MM 2 5 = some 8 := hX1.1.1.2.1.2.2.2.2.2.1
        have hD42 : Dr M10 MM 42 168 := hD.le (by omega) (by omega)
        have hs := skB_r (tp := tp) h0.2
        have go : ∀ P : Int, 0 ≤ P ∧ P ≤ e → i < 14 → rBench tp e v = rBch tp e (16 - i).toNat P i w → WP G d mX2_lines 25 [some (dR 2), some (dI e), some (dR 54), some (dI i)] [] (mP MM (skB tp e P)) Q := by
          intro P hP hi14 hr2
          have hPs := skB_r (tp := tp) hP.2
          have hPw := wdB_r (tp := tp) hPs.2
          have hPi : skB tp e (skB tp e P) = skB tp e P := skB_i _ rfl
          rw [show (16 - i).toNat = (16 - (i + 1)).toNat + 1 by omega, rBch_s, if_pos hi14] at hr2
          rcases hl : rLin tp e (skB tp e P) (wdB tp e (skB tp e P)) w with f | y
          · rw [hl] at hr2
            dsimp only at hr2
            refine x_aload_n dX2_lines_25 rfl rfl ?_
            refine g_callNX (vs := [_]) (d' := d - 1) rfl (s_X2_line (by omega) hX1 (by omega) hPi hBw hw) dX2_lines_26 kX2_142 (by omega) (by decide) rfl (Nat.le_of_ble_eq_true rfl) (rcv_o (by first | assumption | first | assumption | (simp (disch := omega) only [shI, shR, shL, shC, shD, shW, sh_V, shN_e, shN_n, crI, crL, crC, crW, crV, crR_e, crR_n, crN_e, crN_n, ciR, ciL, ciD, ciN_e, ciN_n, rdI_e, rdI_n, rdC_i, rdC_o, rdW, rdU_e, rdU_n, rdLW, clI, clR, clC, clD, clW, clV, clN_e, clN_n, clL_e, clL_n]; done) | (simp (disch := omega) only [shI, shR, shL, shC, shD, shW, sh_V, shN_e, shN_n, crI, crL, crC, crW, crV, crR_e, crR_n, crN_e, crN_n, ciR, ciL, ciD, ciN_e, ciN_n, rdI_e, rdI_n, rdC_i, rdC_o, rdW, rdU_e, rdU_n, rdLW, clI, clR, clC, clD, clW, clV, clN_e, clN_n, clL_e, clL_n] <;> first | assumption | rfl | omega)) rfl) (fun M26 h26 => ?_) (fun a26 E26 M26 h26 => ?_)
            · obtain ⟨y, M', q2, hy, -⟩ := h26
              rw [hl] at hy
              cases hy
              skip
            · obtain ⟨f', hf, g1, g2, g3, g4⟩ := h26
              rw [hl] at hf
              cases hf
              have g42 : Dr M10 M26 42 168 := (hD.trans g3).le (by omega) (by omega)
              exact th_nil rfl (hQ _ _ (Or.inr ⟨_, _, rfl, _, hr2, g1, g2, g4, CO.tr hCr (hC10.dr g42)⟩))
          · rw [hl] at hr2
            dsimp only at hr2
            have hok := rLin_ok hPw.2 hl hw
            refine x_aload_n dX2_lines_25 rfl rfl ?_
            refine g_callNX (vs := [_]) (d' := d - 1) rfl (s_X2_line (by omega) hX1 (by omega) hPi hBw hw) dX2_lines_26 kX2_142 (by omega) (by decide) rfl (Nat.le_of_ble_eq_true rfl) (rcv_o (by first | assumption | first | assumption | (simp (disch := omega) only [shI, shR, shL, shC, shD, shW, sh_V, shN_e, shN_n, crI, crL, crC, crW, crV, crR_e, crR_n, crN_e, crN_n, ciR, ciL, ciD, ciN_e, ciN_n, rdI_e, rdI_n, rdC_i, rdC_o, rdW, rdU_e, rdU_n, rdLW, clI, clR, clC, clD, clW, clV, clN_e, clN_n, clL_e, clL_n]; done) | (simp (disch := omega) only [shI, shR, shL, shC, shD, shW, sh_V, shN_e, shN_n, crI, crL, crC, crW, crV, crR_e, crR_n, crN_e, crN_n, ciR, ciL, ciD, ciN_e, ciN_n, rdI_e, rdI_n, rdC_i, rdC_o, rdW, rdU_e, rdU_n, rdLW, clI, clR, clC, clD, clW, clV, clN_e, clN_n, clL_e, clL_n] <;> first | assumption | rfl | omega)) rfl) (fun M26 h26 => ?_) (fun a26 E26 M26 h26 => ?_)
            · obtain ⟨y', M', q2, hy, hM, hq2, hsk, hD2, hB2⟩ := h26
              rw [hl] at hy
              cases hy
              subst hM
              first | refine x_iincN (L' := [some _, some _, some _, some _]) dX2_lines_29 rfl (by decide) (by unfold i32; omega) rfl ?_ | refine x_iinc (L' := [some _, some _, some _, some _]) dX2_lines_29 rfl (by decide) rfl ?_
              refine x_goto (tgt := 15) dX2_lines_32 (by decide) ?_
              exact ih _ (by omega) q2 (i + 1) M' y.2 rfl (by omega) hq2 hok.1 (by rw [hsk, if_neg (show ¬ i + 1 = 0 by omega)]; exact hr2) ((hD.trans hD2).le (by omega) (by omega)) hB2
            · obtain ⟨f', hf, -⟩ := h26
              rw [hl] at hf
              cases hf
        by_cases hbe : skB tp e q < e
        · rw [if_neg (by omega)] at hr
          by_cases hi0 : i = 0
          · rw [if_pos hi0] at hr
            have hm : moreR tp e q i 14 = .inr (1, skB tp e q) := by
              unfold moreR
              rw [if_pos hbe, if_neg (by omega)]
            refine x_aload_n dX2_lines_15 rfl rfl ?_
            refine x_iload_n dX2_lines_16 rfl rfl ?_
            refine x_bipush dX2_lines_17 rfl ?_
            refine g_callIX (vs := [_, _, _]) (d' := d - 1) rfl (s_X2_more (by omega) hX1.1 h0 (by omega) (by omega)) dX2_lines_19 kX2_138 (by omega) (by decide) rfl (Nat.le_of_ble_eq_true rfl) (rcv_o (by first | assumption | first | assumption | (simp (disch := omega) only [shI, shR, shL, shC, shD, shW, sh_V, shN_e, shN_n, crI, crL, crC, crW, crV, crR_e, crR_n, crN_e, crN_n, ciR, ciL, ciD, ciN_e, ciN_n, rdI_e, rdI_n, rdC_i, rdC_o, rdW, rdU_e, rdU_n, rdLW, clI, clR, clC, clD, clW, clV, clN_e, clN_n, clL_e, clL_n]; done) | (simp (disch := omega) only [shI, shR, shL, shC, shD, shW, sh_V, shN_e, shN_n, crI, crL, crC, crW, crV, crR_e, crR_n, crN_e, crN_n, ciR, ciL, ciD, ciN_e, ciN_n, rdI_e, rdI_n, rdC_i, rdC_o, rdW, rdU_e, rdU_n, rdLW, clI, clR, clC, clD, clW, clV, clN_e, clN_n, clL_e, clL_n] <;> first | assumption | rfl | omega)) rfl) (fun x19 M19 h19 => ?_) (fun a19 E19 M19 h19 => ?_)
            · obtain ⟨q2, hq2, hM⟩ := h19
              rw [hm] at hq2
              cases hq2
              subst hM
              refine x_if_eq (tgt := 35) dX2_lines_22 (by decide) (fun h22 => ?_) (fun h22 => ?_)
              · simp at h22
              · exact go q h0 (by omega) (by rw [hr, hi0]; first | done | rfl)
            · obtain ⟨f', hf, -⟩ := h19
              rw [hm] at hf
              cases hf
          · rw [if_neg hi0] at hr
            by_cases h59 : tp (skB tp e q) = 59
            · rw [if_pos h59] at hr
              by_cases h14 : i = 14
              · have hm : moreR tp e q i 14 = .inl (skB tp e (skB tp e q + 1)) := by
                  unfold moreR
                  rw [if_pos hbe, if_pos (by omega), if_pos h59, if_pos h14]
                rw [show (16 - i).toNat = 1 + 1 by omega, rBch_s, if_neg (by omega)] at hr
                refine x_aload_n dX2_lines_15 rfl rfl ?_
                refine x_iload_n dX2_lines_16 rfl rfl ?_
                refine x_bipush dX2_lines_17 rfl ?_
                refine g_callIX (vs := [_, _, _]) (d' := d - 1) rfl (s_X2_more (by omega) hX1.1 h0 (by omega) (by omega)) dX2_lines_19 kX2_138 (by omega) (by decide) rfl (Nat.le_of_ble_eq_true rfl) (rcv_o (by first | assumption | first | assumption | (simp (disch := omega) only [shI, shR, shL, shC, shD, shW, sh_V, shN_e, shN_n, crI, crL, crC, crW, crV, crR_e, crR_n, crN_e, crN_n, ciR, ciL, ciD, ciN_e, ciN_n, rdI_e, rdI_n, rdC_i, rdC_o, rdW, rdU_e, rdU_n, rdLW, clI, clR, clC, clD, clW, clV, clN_e, clN_n, clL_e, clL_n]; done) | (simp (disch := omega) only [shI, shR, shL, shC, shD, shW, sh_V, shN_e, shN_n, crI, crL, crC, crW, crV, crR_e, crR_n, crN_e, crN_n, ciR, ciL, ciD, ciN_e, ciN_n, rdI_e, rdI_n, rdC_i, rdC_o, rdW, rdU_e, rdU_n, rdLW, clI, clR, clC, clD, clW, clV, clN_e, clN_n, clL_e, clL_n] <;> first | assumption | rfl | omega)) rfl) (fun x19 M19 h19 => ?_) (fun a19 E19 M19 h19 => ?_)
                · obtain ⟨q2, hq2, -⟩ := h19
                  rw [hm] at hq2
                  cases hq2
                  skip
                · obtain ⟨f', hf, hx⟩ := h19
                  rw [hm] at hf
                  cases hf
                  obtain ⟨g1, g2, g3, g4⟩ := hx.d hD42 (Nat.le_refl _) (Nat.le_refl _) rfl
                  exact th_nil rfl (hQ _ _ (Or.inr ⟨_, _, rfl, _, hr, g1, g2, g4, CO.tr hCr (hC10.dr g3)⟩))
              · have hm : moreR tp e q i 14 = .inr (1, skB tp e (skB tp e q + 1)) := by
                  unfold moreR
                  rw [if_pos hbe, if_pos (by omega), if_pos h59, if_neg h14]
                refine x_aload_n dX2_lines_15 rfl rfl ?_
                refine x_iload_n dX2_lines_16 rfl rfl ?_
                refine x_bipush dX2_lines_17 rfl ?_
                refine g_callIX (vs := [_, _, _]) (d' := d - 1) rfl (s_X2_more (by omega) hX1.1 h0 (by omega) (by omega)) dX2_lines_19 kX2_138 (by omega) (by decide) rfl (Nat.le_of_ble_eq_true rfl) (rcv_o (by first | assumption | first | assumption | (simp (disch := omega) only [shI, shR, shL, shC, shD, shW, sh_V, shN_e, shN_n, crI, crL, crC, crW, crV, crR_e, crR_n, crN_e, crN_n, ciR, ciL, ciD, ciN_e, ciN_n, rdI_e, rdI_n, rdC_i, rdC_o, rdW, rdU_e, rdU_n, rdLW, clI, clR, clC, clD, clW, clV, clN_e, clN_n, clL_e, clL_n]; done) | (simp (disch := omega) only [shI, shR, shL, shC, shD, shW, sh_V, shN_e, shN_n, crI, crL, crC, crW, crV, crR_e, crR_n, crN_e, crN_n, ciR, ciL, ciD, ciN_e, ciN_n, rdI_e, rdI_n, rdC_i, rdC_o, rdW, rdU_e, rdU_n, rdLW, clI, clR, clC, clD, clW, clV, clN_e, clN_n, clL_e, clL_n] <;> first | assumption | rfl | omega)) rfl) (fun x19 M19 h19 => ?_) (fun a19 E19 M19 h19 => ?_)
                · obtain ⟨q2, hq2, hM⟩ := h19
                  rw [hm] at hq2
                  cases hq2
                  subst hM
                  refine x_if_eq (tgt := 35) dX2_lines_22 (by decide) (fun h22 => ?_) (fun h22 => ?_)
                  · simp at h22
                  · exact go _ (by omega) (by omega) hr
                · obtain ⟨f', hf, -⟩ := h19
                  rw [hm] at hf
                  cases hf
            · rw [if_neg h59] at hr
              have hm : moreR tp e q i 14 = .inl (skB tp e q) := by
                unfold moreR
                rw [if_pos hbe, if_pos (by omega), if_neg h59]
              refine x_aload_n dX2_lines_15 rfl rfl ?_
              refine x_iload_n dX2_lines_16 rfl rfl ?_
              refine x_bipush dX2_lines_17 rfl ?_
              refine g_callIX (vs := [_, _, _]) (d' := d - 1) rfl (s_X2_more (by omega) hX1.1 h0 (by omega) (by omega)) dX2_lines_19 kX2_138 (by omega) (by decide) rfl (Nat.le_of_ble_eq_true rfl) (rcv_o (by first | assumption | first | assumption | (simp (disch := omega) only [shI, shR, shL, shC, shD, shW, sh_V, shN_e, shN_n, crI, crL, crC, crW, crV, crR_e, crR_n, crN_e, crN_n, ciR, ciL, ciD, ciN_e, ciN_n, rdI_e, rdI_n, rdC_i, rdC_o, rdW, rdU_e, rdU_n, rdLW, clI, clR, clC, clD, clW, clV, clN_e, clN_n, clL_e, clL_n]; done) | (simp (disch := omega) only [shI, shR, shL, shC, shD, shW, sh_V, shN_e, shN_n, crI, crL, crC, crW, crV, crR_e, crR_n, crN_e, crN_n, ciR, ciL, ciD, ciN_e, ciN_n, rdI_e, rdI_n, rdC_i, rdC_o, rdW, rdU_e, rdU_n, rdLW, clI, clR, clC, clD, clW, clV, clN_e, clN_n, clL_e, clL_n] <;> first | assumption | rfl | omega)) rfl) (fun x19 M19 h19 => ?_) (fun a19 E19 M19 h19 => ?_)
              · obtain ⟨q2, hq2, -⟩ := h19
                rw [hm] at hq2
                cases hq2
                skip
              · obtain ⟨f', hf, hx⟩ := h19
                rw [hm] at hf
                cases hf
                obtain ⟨g1, g2, g3, g4⟩ := hx.d hD42 (Nat.le_refl _) (Nat.le_refl _) rfl
                exact th_nil rfl (hQ _ _ (Or.inr ⟨_, _, rfl, _, hr, g1, g2, g4, CO.tr hCr (hC10.dr g3)⟩))
        · rw [if_pos (by omega)] at hr
          have hm : moreR tp e q i 14 = .inr (0, skB tp e q) := by
            unfold moreR
            rw [if_neg hbe]
          refine x_aload_n dX2_lines_15 rfl rfl ?_
          refine x_iload_n dX2_lines_16 rfl rfl ?_
          refine x_bipush dX2_lines_17 rfl ?_
          refine g_callIX (vs := [_, _, _]) (d' := d - 1) rfl (s_X2_more (by omega) hX1.1 h0 (by omega) (by omega)) dX2_lines_19 kX2_138 (by omega) (by decide) rfl (Nat.le_of_ble_eq_true rfl) (rcv_o (by first | assumption | first | assumption | (simp (disch := omega) only [shI, shR, shL, shC, shD, shW, sh_V, shN_e, shN_n, crI, crL, crC, crW, crV, crR_e, crR_n, crN_e, crN_n, ciR, ciL, ciD, ciN_e, ciN_n, rdI_e, rdI_n, rdC_i, rdC_o, rdW, rdU_e, rdU_n, rdLW, clI, clR, clC, clD, clW, clV, clN_e, clN_n, clL_e, clL_n]; done) | (simp (disch := omega) only [shI, shR, shL, shC, shD, shW, sh_V, shN_e, shN_n, crI, crL, crC, crW, crV, crR_e, crR_n, crN_e, crN_n, ciR, ciL, ciD, ciN_e, ciN_n, rdI_e, rdI_n, rdC_i, rdC_o, rdW, rdU_e, rdU_n, rdLW, clI, clR, clC, clD, clW, clV, clN_e, clN_n, clL_e, clL_n] <;> first | assumption | rfl | omega)) rfl) (fun x19 M19 h19 => ?_) (fun a19 E19 M19 h19 => ?_)
          · obtain ⟨q2, hq2, hM⟩ := h19
            rw [hm] at hq2
            cases hq2
            subst hM
            refine x_if_eq (tgt := 35) dX2_lines_22 (by decide) (fun h22 => ?_) (fun h22 => ?_)
            · refine x_aload_n dX2_lines_35 rfl rfl ?_
              refine g_getR (kI := 5) rfl dX2_lines_36 fX2_77_2 (by first | assumption | first | assumption | (simp (disch := omega) only [shI, shR, shL, shC, shD, shW, sh_V, shN_e, shN_n, crI, crL, crC, crW, crV, crR_e, crR_n, crN_e, crN_n, ciR, ciL, ciD, ciN_e, ciN_n, rdI_e, rdI_n, rdC_i, rdC_o, rdW, rdU_e, rdU_n, rdLW, clI, clR, clC, clD, clW, clV, clN_e, clN_n, clL_e, clL_n]; done) | (simp (disch := omega) only [shI, shR, shL, shC, shD, shW, sh_V, shN_e, shN_n, crI, crL, crC, crW, crV, crR_e, crR_n, crN_e, crN_n, ciR, ciL, ciD, ciN_e, ciN_n, rdI_e, rdI_n, rdC_i, rdC_o, rdW, rdU_e, rdU_n, rdLW, clI, clR, clC, clD, clW, clV, clN_e, clN_n, clL_e, clL_n] <;> first | assumption | rfl | omega)) (by first | assumption | first | assumption | (simp (disch := omega) only [shI, shR, shL, shC, shD, shW, sh_V, shN_e, shN_n, crI, crL, crC, crW, crV, crR_e, crR_n, crN_e, crN_n, ciR, ciL, ciD, ciN_e, ciN_n, rdI_e, rdI_n, rdC_i, rdC_o, rdW, rdU_e, rdU_n, rdLW, clI, clR, clC, clD, clW, clV, clN_e, clN_n, clL_e, clL_n]; done) | (simp (disch := omega) only [shI, shR, shL, shC, shD, shW, sh_V, shN_e, shN_n, crI, crL, crC, crW, crV, crR_e, crR_n, crN_e, crN_n, ciR, ciL, ciD, ciN_e, ciN_n, rdI_e, rdI_n, rdC_i, rdC_o, rdW, rdU_e, rdU_n, rdLW, clI, clR, clC, clD, clW, clV, clN_e, clN_n, clL_e, clL_n] <;> first | assumption | rfl | omega)) ?_
              refine x_areturn rfl (by first | exact Or.inl ⟨_, rfl⟩ | exact Or.inr ⟨_, rfl⟩) dX2_lines_39 ?_
              exact hQ _ _ (Or.inl ⟨_, rfl, rfl, _, hr, ends _ _ _ hw hD42 hBw⟩)
            · simp at h22
          · obtain ⟨f', hf, -⟩ := h19
            rw [hm] at hf
            cases hf
    have hok := hS10.1.1
    refine x_iconst dX2_lines_13 rfl ?_
    refine x_istore_n (L' := [some _, some _, some _, some _]) dX2_lines_14 rfl (by decide) rfl ?_
    refine WP.mem (M1 := mP M10 0) (by rw [← e29]; exact mP_z.symm) ?_
    refine lp _ 0 0 M10 v rfl (by omega) (by omega) hok ?_ Dr.rfl hBd
    unfold rBench
    first
    | rfl
    | rw [if_pos (show (0 : Int) = 0 from rfl)]
  refine x_aload_n dX2_lines_0 rfl rfl ?_
  refine x_iload_n dX2_lines_1 rfl rfl ?_
  refine g_callN (vs := [_, _]) (d' := d - 1) rfl (s_X2_begins (by omega) r2) dX2_lines_2 kX2_131 (by omega) (by decide) rfl (Nat.le_of_ble_eq_true rfl) (rcv_o (by first | assumption | first | assumption | (simp (disch := omega) only [shI, shR, shL, shC, shD, shW, sh_V, shN_e, shN_n, crI, crL, crC, crW, crV, crR_e, crR_n, crN_e, crN_n, ciR, ciL, ciD, ciN_e, ciN_n, rdI_e, rdI_n, rdC_i, rdC_o, rdW, rdU_e, rdU_n, rdLW, clI, clR, clC, clD, clW, clV, clN_e, clN_n, clL_e, clL_n]; done) | (simp (disch := omega) only [shI, shR, shL, shC, shD, shW, sh_V, shN_e, shN_n, crI, crL, crC, crW, crV, crR_e, crR_n, crN_e, crN_n, ciR, ciL, ciD, ciN_e, ciN_n, rdI_e, rdI_n, rdC_i, rdC_o, rdW, rdU_e, rdU_n, rdLW, clI, clR, clC, clD, clW, clV, clN_e, clN_n, clL_e, clL_n] <;> first | assumption | rfl | omega)) rfl) (fun M2 h2 => ?_)
  subst h2
  have hb := hC.rd (g := mci (mI (mI (mI M 2 8 e) 2 9 0) 2 10 0)) (tp' := tp) (sz' := sz) (fa' := fa) (fun b k q1 q2 q3 => (rdI_n (by omega)).trans ((rdI_n (by omega)).trans (rdI_n (by omega)))) ((funext fun k => (rdI_n (by omega)).trans ((rdI_n (by omega)).trans (rdI_n (by omega)))).trans htp) ((rdI_n (by omega)).trans ((rdI_n (by omega)).trans ((rdI_n (by omega)).trans hsz))) hsz2 ((rdI_n (by omega)).trans ((rdI_n (by omega)).trans ((rdI_n (by omega)).trans hfa)))
  have b28 : mci (mI (mI (mI M 2 8 e) 2 9 0) 2 10 0) 2 8 = e := (rdI_n (by omega)).trans ((rdI_n (by omega)).trans (rdI_e ⟨rfl, rfl⟩))
  have b29 : mci (mI (mI (mI M 2 8 e) 2 9 0) 2 10 0) 2 9 = 0 := (rdI_n (by omega)).trans (rdI_e ⟨rfl, rfl⟩)
  have hb' : CO M v n A hi vi tp sz fa N 0 0 (mI (mI (mI M 2 8 e) 2 9 0) 2 10 0) := hb
  clear hb
  generalize mI (mI (mI M 2 8 e) 2 9 0) 2 10 0 = MB at hb' b28 b29 ⊢
  obtain ⟨hCB, hCrB⟩ := hb'
  obtain ⟨hB1, hB54, -, -⟩ := id hCB
  have r2' : msh MB 2 = some (2, 0) := hB1.1.2.2.2.2.2.2.2.2.1.1
  have c5' : mcr MB 2 5 = some 8 := hB1.1.2.2.2.2.2.2.2.2.2.1.2.2.2.2.2.1
  have s8' : msh MB 8 = some (3, 0) := (hB1.1.2.2.2.1 8 (by unfold SB; omega)).2.1
  refine x_aload_n dX2_lines_5 rfl rfl ?_
  refine g_getR (kI := 5) rfl dX2_lines_6 fX2_77_2 (by first | assumption | first | assumption | (simp (disch := omega) only [shI, shR, shL, shC, shD, shW, sh_V, shN_e, shN_n, crI, crL, crC, crW, crV, crR_e, crR_n, crN_e, crN_n, ciR, ciL, ciD, ciN_e, ciN_n, rdI_e, rdI_n, rdC_i, rdC_o, rdW, rdU_e, rdU_n, rdLW, clI, clR, clC, clD, clW, clV, clN_e, clN_n, clL_e, clL_n]; done) | (simp (disch := omega) only [shI, shR, shL, shC, shD, shW, sh_V, shN_e, shN_n, crI, crL, crC, crW, crV, crR_e, crR_n, crN_e, crN_n, ciR, ciL, ciD, ciN_e, ciN_n, rdI_e, rdI_n, rdC_i, rdC_o, rdW, rdU_e, rdU_n, rdLW, clI, clR, clC, clD, clW, clV, clN_e, clN_n, clL_e, clL_n] <;> first | assumption | rfl | omega)) (by first | assumption | first | assumption | (simp (disch := omega) only [shI, shR, shL, shC, shD, shW, sh_V, shN_e, shN_n, crI, crL, crC, crW, crV, crR_e, crR_n, crN_e, crN_n, ciR, ciL, ciD, ciN_e, ciN_n, rdI_e, rdI_n, rdC_i, rdC_o, rdW, rdU_e, rdU_n, rdLW, clI, clR, clC, clD, clW, clV, clN_e, clN_n, clL_e, clL_n]; done) | (simp (disch := omega) only [shI, shR, shL, shC, shD, shW, sh_V, shN_e, shN_n, crI, crL, crC, crW, crV, crR_e, crR_n, crN_e, crN_n, ciR, ciL, ciD, ciN_e, ciN_n, rdI_e, rdI_n, rdC_i, rdC_o, rdW, rdU_e, rdU_n, rdLW, clI, clR, clC, clD, clW, clV, clN_e, clN_n, clL_e, clL_n] <;> first | assumption | rfl | omega)) ?_
  refine x_aload_n dX2_lines_9 rfl rfl ?_
  refine g_callN (vs := [_, _]) (d' := d - 1) rfl (be_ok (p := 8) (o := 54) (by omega) hB1 (by unfold SB; omega) (by unfold SB; omega) (by omega) hB54) dX2_lines_10 kX2_134 (by omega) (by decide) rfl (Nat.le_of_ble_eq_true rfl) (rcv_o (by first | assumption | first | assumption | (simp (disch := omega) only [shI, shR, shL, shC, shD, shW, sh_V, shN_e, shN_n, crI, crL, crC, crW, crV, crR_e, crR_n, crN_e, crN_n, ciR, ciL, ciD, ciN_e, ciN_n, rdI_e, rdI_n, rdC_i, rdC_o, rdW, rdU_e, rdU_n, rdLW, clI, clR, clC, clD, clW, clV, clN_e, clN_n, clL_e, clL_n]; done) | (simp (disch := omega) only [shI, shR, shL, shC, shD, shW, sh_V, shN_e, shN_n, crI, crL, crC, crW, crV, crR_e, crR_n, crN_e, crN_n, ciR, ciL, ciD, ciN_e, ciN_n, rdI_e, rdI_n, rdC_i, rdC_o, rdW, rdU_e, rdU_n, rdLW, clI, clR, clC, clD, clW, clV, clN_e, clN_n, clL_e, clL_n] <;> first | assumption | rfl | omega)) rfl) (fun M10 h10 => ?_)
  obtain ⟨hM10, f10, q10, y10, z10⟩ := h10
  have hx := CO.bex8 hCB hM10 f10 q10 z10
  exact fin _ (CO.tr hCrB hx) y10 ((f10 _ _ (by omega)).trans b28) ((f10 _ _ (by omega)).trans b29)
end X2

