/-! GuestView: rests, most -/
section X1
variable {G : GW} {d : Nat} {M M1 : Mem} {a b c e k n x y op w st hi sz fa N i p T s : Int} {v vi : Vw} {A : Int → Vw} {tp : Int → Int}
theorem s_X1_guestHas (hd : 42 ≤ d) (hC : CI M v n A hi vi tp sz fa N) (ho : 0 ≤ op ∧ op < v 0) (ha : a = 0 ∨ a = 1) (hb : b = 0 ∨ b = 1) : CS G d mX1_guestHas [dR 0, dI op, dI a, dI b] M (postI fun y M1 => y = ghV v op a b ∧ CO M v n A hi vi tp sz fa N 0 0 M1) := by
  obtain ⟨hC1, hC54, hCA, hCR⟩ := id hC; obtain ⟨hS, hTab, hTx, hLn, hSk, hnx⟩ := id hC1; obtain ⟨hA, hL, hR⟩ := id hC54; obtain ⟨⟨s0, s199, s200, s201, s202, s203⟩, ⟨c0, c1, c2, c3, c4, c5, c6, c7, c8, c9, c10, c11, c12⟩, c203, hSt, m189, m191, g193, g196, ⟨⟨r2, r3, r4, r5, r6, r7, r53⟩, ⟨w0, w1, w2, w3, w4, w5, w6⟩, wx1, wx2, wx3⟩⟩ := id hS; have hv := hA.1; have hv8 := hv.n8; have hv0 := hv.1.1; have hv3 := hv.2.2.2.1; have hs54 := hSt 54 (by unfold SB; omega); obtain ⟨p0, p1, ⟨d0, d1, d2, d3, d4, d5, d6, d7⟩, ⟨t1, t2, t3, t4, t5, t6⟩, p5, p6, p7⟩ := id hs54; have t7 : msh M (54 + 7) = some (4, 0) := p5.2.1; have t10 : msh M (54 + 10) = some (4, 0) := p6.2.1; obtain ⟨hB, hW, hLw⟩ := id hR.1; obtain ⟨b1, b2, b3, b4, b5, b6, b7, b8, b9, b10, b11, b12, b13, b14, b15⟩ := id hB; obtain ⟨hn, hn2, hat, hAc⟩ := id hCA; obtain ⟨⟨hki, hhi⟩, hIm, ⟨htp, hsz, hsz2⟩, hfa⟩ := id hCR
  have hO := b14 op ho.1 ho.2
  have ra1 := hO.1
  have oa := hv.op op ho.1 ho.2
  have hG := oa.1
  obtain ⟨wa1, wa2⟩ := p7 op ho.1 (by omega)
  obtain ⟨o0, o1, o2, o3, o4, o5, o6, o7⟩ := id wa2
  refine CS.mkQ (by decide) (Nat.le_of_ble_eq_true rfl) fun Q hQ => ?_
  refine x_iload_n dX1_guestHas_0 rfl rfl ?_
  refine x_iconst dX1_guestHas_1 rfl ?_
  refine x_icmp_ne (tgt := 9) dX1_guestHas_2 (by decide) (fun h2 => ?_) (fun h2 => ?_)
  · refine x_iload_n dX1_guestHas_9 rfl rfl ?_
    refine x_if_ne (tgt := 25) dX1_guestHas_10 (by decide) (fun h10 => ?_) (fun h10 => ?_)
    · refine x_aload_n dX1_guestHas_25 rfl rfl ?_
      refine g_getR (kI := 1) rfl dX1_guestHas_26 fX1_22_1 (by first | assumption | first | assumption | (simp (disch := omega) only [shI, shR, shL, shC, shD, shW, sh_V, shN_e, shN_n, crI, crL, crC, crW, crV, crR_e, crR_n, crN_e, crN_n, ciR, ciL, ciD, ciN_e, ciN_n, rdI_e, rdI_n, rdC_i, rdC_o, rdW, rdU_e, rdU_n, rdLW, clI, clR, clC, clD, clW, clV, clN_e, clN_n, clL_e, clL_n]; done) | (simp (disch := omega) only [shI, shR, shL, shC, shD, shW, sh_V, shN_e, shN_n, crI, crL, crC, crW, crV, crR_e, crR_n, crN_e, crN_n, ciR, ciL, ciD, ciN_e, ciN_n, rdI_e, rdI_n, rdC_i, rdC_o, rdW, rdU_e, rdU_n, rdLW, clI, clR, clC, clD, clW, clV, clN_e, clN_n, clL_e, clL_n] <;> first | assumption | rfl | omega)) (by first | assumption | first | assumption | (simp (disch := omega) only [shI, shR, shL, shC, shD, shW, sh_V, shN_e, shN_n, crI, crL, crC, crW, crV, crR_e, crR_n, crN_e, crN_n, ciR, ciL, ciD, ciN_e, ciN_n, rdI_e, rdI_n, rdC_i, rdC_o, rdW, rdU_e, rdU_n, rdLW, clI, clR, clC, clD, clW, clV, clN_e, clN_n, clL_e, clL_n]; done) | (simp (disch := omega) only [shI, shR, shL, shC, shD, shW, sh_V, shN_e, shN_n, crI, crL, crC, crW, crV, crR_e, crR_n, crN_e, crN_n, ciR, ciL, ciD, ciN_e, ciN_n, rdI_e, rdI_n, rdC_i, rdC_o, rdW, rdU_e, rdU_n, rdLW, clI, clR, clC, clD, clW, clV, clN_e, clN_n, clL_e, clL_n] <;> first | assumption | rfl | omega)) ?_
      refine g_getR (kI := 0) rfl dX1_guestHas_29 fX1_112_3 (by first | assumption | first | assumption | (simp (disch := omega) only [shI, shR, shL, shC, shD, shW, sh_V, shN_e, shN_n, crI, crL, crC, crW, crV, crR_e, crR_n, crN_e, crN_n, ciR, ciL, ciD, ciN_e, ciN_n, rdI_e, rdI_n, rdC_i, rdC_o, rdW, rdU_e, rdU_n, rdLW, clI, clR, clC, clD, clW, clV, clN_e, clN_n, clL_e, clL_n]; done) | (simp (disch := omega) only [shI, shR, shL, shC, shD, shW, sh_V, shN_e, shN_n, crI, crL, crC, crW, crV, crR_e, crR_n, crN_e, crN_n, ciR, ciL, ciD, ciN_e, ciN_n, rdI_e, rdI_n, rdC_i, rdC_o, rdW, rdU_e, rdU_n, rdLW, clI, clR, clC, clD, clW, clV, clN_e, clN_n, clL_e, clL_n] <;> first | assumption | rfl | omega)) (by first | assumption | first | assumption | (simp (disch := omega) only [shI, shR, shL, shC, shD, shW, sh_V, shN_e, shN_n, crI, crL, crC, crW, crV, crR_e, crR_n, crN_e, crN_n, ciR, ciL, ciD, ciN_e, ciN_n, rdI_e, rdI_n, rdC_i, rdC_o, rdW, rdU_e, rdU_n, rdLW, clI, clR, clC, clD, clW, clV, clN_e, clN_n, clL_e, clL_n]; done) | (simp (disch := omega) only [shI, shR, shL, shC, shD, shW, sh_V, shN_e, shN_n, crI, crL, crC, crW, crV, crR_e, crR_n, crN_e, crN_n, ciR, ciL, ciD, ciN_e, ciN_n, rdI_e, rdI_n, rdC_i, rdC_o, rdW, rdU_e, rdU_n, rdLW, clI, clR, clC, clD, clW, clV, clN_e, clN_n, clL_e, clL_n] <;> first | assumption | rfl | omega)) ?_
      refine x_iload_n dX1_guestHas_32 rfl rfl ?_
      refine x_aald (t := 126) rfl (by decide) dX1_guestHas_33 (by first | assumption | first | assumption | (simp (disch := omega) only [shI, shR, shL, shC, shD, shW, sh_V, shN_e, shN_n, crI, crL, crC, crW, crV, crR_e, crR_n, crN_e, crN_n, ciR, ciL, ciD, ciN_e, ciN_n, rdI_e, rdI_n, rdC_i, rdC_o, rdW, rdU_e, rdU_n, rdLW, clI, clR, clC, clD, clW, clV, clN_e, clN_n, clL_e, clL_n]; done) | (simp (disch := omega) only [shI, shR, shL, shC, shD, shW, sh_V, shN_e, shN_n, crI, crL, crC, crW, crV, crR_e, crR_n, crN_e, crN_n, ciR, ciL, ciD, ciN_e, ciN_n, rdI_e, rdI_n, rdC_i, rdC_o, rdW, rdU_e, rdU_n, rdLW, clI, clR, clC, clD, clW, clV, clN_e, clN_n, clL_e, clL_n] <;> first | assumption | rfl | omega)) (by omega) (by omega) (by first | assumption | first | assumption | (simp (disch := omega) only [shI, shR, shL, shC, shD, shW, sh_V, shN_e, shN_n, crI, crL, crC, crW, crV, crR_e, crR_n, crN_e, crN_n, ciR, ciL, ciD, ciN_e, ciN_n, rdI_e, rdI_n, rdC_i, rdC_o, rdW, rdU_e, rdU_n, rdLW, clI, clR, clC, clD, clW, clV, clN_e, clN_n, clL_e, clL_n]; done) | (simp (disch := omega) only [shI, shR, shL, shC, shD, shW, sh_V, shN_e, shN_n, crI, crL, crC, crW, crV, crR_e, crR_n, crN_e, crN_n, ciR, ciL, ciD, ciN_e, ciN_n, rdI_e, rdI_n, rdC_i, rdC_o, rdW, rdU_e, rdU_n, rdLW, clI, clR, clC, clD, clW, clV, clN_e, clN_n, clL_e, clL_n] <;> first | assumption | rfl | omega)) ?_
      refine g_getI (kI := 3) rfl dX1_guestHas_34 fX1_252_6 (by first | assumption | first | assumption | (simp (disch := omega) only [shI, shR, shL, shC, shD, shW, sh_V, shN_e, shN_n, crI, crL, crC, crW, crV, crR_e, crR_n, crN_e, crN_n, ciR, ciL, ciD, ciN_e, ciN_n, rdI_e, rdI_n, rdC_i, rdC_o, rdW, rdU_e, rdU_n, rdLW, clI, clR, clC, clD, clW, clV, clN_e, clN_n, clL_e, clL_n]; done) | (simp (disch := omega) only [shI, shR, shL, shC, shD, shW, sh_V, shN_e, shN_n, crI, crL, crC, crW, crV, crR_e, crR_n, crN_e, crN_n, ciR, ciL, ciD, ciN_e, ciN_n, rdI_e, rdI_n, rdC_i, rdC_o, rdW, rdU_e, rdU_n, rdLW, clI, clR, clC, clD, clW, clV, clN_e, clN_n, clL_e, clL_n] <;> first | assumption | rfl | omega)) ?_
      try simp (disch := omega) only [rdI_e, rdI_n, rdC_i, rdC_o, rdW, rdR, rdU_e, rdU_n, rdLW, Int.add_zero, ra1]
      refine x_ireturn rfl dX1_guestHas_37 ?_
      first
      | (refine hQ _ _ ⟨_, rfl, ?_, CO.r hC⟩
         unfold ghV
         rw [if_pos h2])
      | (refine hQ _ _ ⟨_, rfl, ?_, CO.f57 hC f18⟩
         unfold ghV
         rw [if_neg h2, if_pos h10, e18.1])
      | (refine hQ _ _ ⟨_, rfl, ?_, CO.r hC⟩
         unfold ghV
         rw [if_neg h2, if_neg h10])
    · refine x_aload_n dX1_guestHas_13 rfl rfl ?_
      refine g_getR (kI := 1) rfl dX1_guestHas_14 fX1_22_1 (by first | assumption | first | assumption | (simp (disch := omega) only [shI, shR, shL, shC, shD, shW, sh_V, shN_e, shN_n, crI, crL, crC, crW, crV, crR_e, crR_n, crN_e, crN_n, ciR, ciL, ciD, ciN_e, ciN_n, rdI_e, rdI_n, rdC_i, rdC_o, rdW, rdU_e, rdU_n, rdLW, clI, clR, clC, clD, clW, clV, clN_e, clN_n, clL_e, clL_n]; done) | (simp (disch := omega) only [shI, shR, shL, shC, shD, shW, sh_V, shN_e, shN_n, crI, crL, crC, crW, crV, crR_e, crR_n, crN_e, crN_n, ciR, ciL, ciD, ciN_e, ciN_n, rdI_e, rdI_n, rdC_i, rdC_o, rdW, rdU_e, rdU_n, rdLW, clI, clR, clC, clD, clW, clV, clN_e, clN_n, clL_e, clL_n] <;> first | assumption | rfl | omega)) (by first | assumption | first | assumption | (simp (disch := omega) only [shI, shR, shL, shC, shD, shW, sh_V, shN_e, shN_n, crI, crL, crC, crW, crV, crR_e, crR_n, crN_e, crN_n, ciR, ciL, ciD, ciN_e, ciN_n, rdI_e, rdI_n, rdC_i, rdC_o, rdW, rdU_e, rdU_n, rdLW, clI, clR, clC, clD, clW, clV, clN_e, clN_n, clL_e, clL_n]; done) | (simp (disch := omega) only [shI, shR, shL, shC, shD, shW, sh_V, shN_e, shN_n, crI, crL, crC, crW, crV, crR_e, crR_n, crN_e, crN_n, ciR, ciL, ciD, ciN_e, ciN_n, rdI_e, rdI_n, rdC_i, rdC_o, rdW, rdU_e, rdU_n, rdLW, clI, clR, clC, clD, clW, clV, clN_e, clN_n, clL_e, clL_n] <;> first | assumption | rfl | omega)) ?_
      refine x_iload_n dX1_guestHas_17 rfl rfl ?_
      refine g_callI (vs := [_, _]) (d' := d - 1) rfl (s_X3_blame (by omega) hs54 hB hv hW hLw (by omega) ho) dX1_guestHas_18 kX1_263 (by omega) (by decide) rfl (Nat.le_of_ble_eq_true rfl) (rcv_o (by first | assumption | first | assumption | (simp (disch := omega) only [shI, shR, shL, shC, shD, shW, sh_V, shN_e, shN_n, crI, crL, crC, crW, crV, crR_e, crR_n, crN_e, crN_n, ciR, ciL, ciD, ciN_e, ciN_n, rdI_e, rdI_n, rdC_i, rdC_o, rdW, rdU_e, rdU_n, rdLW, clI, clR, clC, clD, clW, clV, clN_e, clN_n, clL_e, clL_n]; done) | (simp (disch := omega) only [shI, shR, shL, shC, shD, shW, sh_V, shN_e, shN_n, crI, crL, crC, crW, crV, crR_e, crR_n, crN_e, crN_n, ciR, ciL, ciD, ciN_e, ciN_n, rdI_e, rdI_n, rdC_i, rdC_o, rdW, rdU_e, rdU_n, rdLW, clI, clR, clC, clD, clW, clV, clN_e, clN_n, clL_e, clL_n] <;> first | assumption | rfl | omega)) rfl) (fun x18 M18 h18 => ?_)
      obtain ⟨g18, hM18, e18, f18⟩ := h18
      subst hM18
      first | refine x_inegN dX1_guestHas_21 (by unfold i32; omega) ?_ | refine x_ineg dX1_guestHas_21 ?_
      refine x_goto (tgt := 37) dX1_guestHas_22 (by decide) ?_
      refine x_ireturn rfl dX1_guestHas_37 ?_
      first
      | (refine hQ _ _ ⟨_, rfl, ?_, CO.r hC⟩
         unfold ghV
         rw [if_pos h2])
      | (refine hQ _ _ ⟨_, rfl, ?_, CO.f57 hC f18⟩
         unfold ghV
         rw [if_neg h2, if_pos h10, e18.1])
      | (refine hQ _ _ ⟨_, rfl, ?_, CO.r hC⟩
         unfold ghV
         rw [if_neg h2, if_neg h10])
  · refine x_iconst dX1_guestHas_5 rfl ?_
    refine x_goto (tgt := 37) dX1_guestHas_6 (by decide) ?_
    refine x_ireturn rfl dX1_guestHas_37 ?_
    first
    | (refine hQ _ _ ⟨_, rfl, ?_, CO.r hC⟩
       unfold ghV
       rw [if_pos h2])
    | (refine hQ _ _ ⟨_, rfl, ?_, CO.f57 hC f18⟩
       unfold ghV
       rw [if_neg h2, if_pos h10, e18.1])
    | (refine hQ _ _ ⟨_, rfl, ?_, CO.r hC⟩
       unfold ghV
       rw [if_neg h2, if_neg h10])
theorem s_X1_hostHas (hd : 42 ≤ d) (hC : CI M v n A hi vi tp sz fa N) (ho : 0 ≤ op ∧ op < v 0) (ha : a = 0 ∨ a = 1) (hb : b = 0 ∨ b = 1) : CS G d mX1_hostHas [dR 0, dI op, dI a, dI b] M (postI fun y M1 => y = hhV v op a b ∧ CO M v n A hi vi tp sz fa N 0 0 M1) := by
  obtain ⟨hC1, hC54, hCA, hCR⟩ := id hC; obtain ⟨hS, hTab, hTx, hLn, hSk, hnx⟩ := id hC1; obtain ⟨hA, hL, hR⟩ := id hC54; obtain ⟨⟨s0, s199, s200, s201, s202, s203⟩, ⟨c0, c1, c2, c3, c4, c5, c6, c7, c8, c9, c10, c11, c12⟩, c203, hSt, m189, m191, g193, g196, ⟨⟨r2, r3, r4, r5, r6, r7, r53⟩, ⟨w0, w1, w2, w3, w4, w5, w6⟩, wx1, wx2, wx3⟩⟩ := id hS; have hv := hA.1; have hv8 := hv.n8; have hv0 := hv.1.1; have hv3 := hv.2.2.2.1; have hs54 := hSt 54 (by unfold SB; omega); obtain ⟨p0, p1, ⟨d0, d1, d2, d3, d4, d5, d6, d7⟩, ⟨t1, t2, t3, t4, t5, t6⟩, p5, p6, p7⟩ := id hs54; have t7 : msh M (54 + 7) = some (4, 0) := p5.2.1; have t10 : msh M (54 + 10) = some (4, 0) := p6.2.1; obtain ⟨hB, hW, hLw⟩ := id hR.1; obtain ⟨b1, b2, b3, b4, b5, b6, b7, b8, b9, b10, b11, b12, b13, b14, b15⟩ := id hB; obtain ⟨hn, hn2, hat, hAc⟩ := id hCA; obtain ⟨⟨hki, hhi⟩, hIm, ⟨htp, hsz, hsz2⟩, hfa⟩ := id hCR
  refine CS.mkQ (by decide) (Nat.le_of_ble_eq_true rfl) fun Q hQ => ?_
  refine x_iload_n dX1_hostHas_0 rfl rfl ?_
  refine x_if_ne (tgt := 29) dX1_hostHas_1 (by decide) (fun h1 => ?_) (fun h1 => ?_)
  · refine x_iload_n dX1_hostHas_29 rfl rfl ?_
    refine x_if_ne (tgt := 37) dX1_hostHas_30 (by decide) (fun h30 => ?_) (fun h30 => ?_)
    · refine x_iconst dX1_hostHas_37 rfl ?_
      refine x_ireturn rfl dX1_hostHas_38 ?_
      first
      | (refine hQ _ _ ⟨_, rfl, ?_, CO.f57 hC f13⟩
         unfold hhV
         rw [if_neg (by omega), if_pos h5, e13.1])
      | (refine hQ _ _ ⟨_, rfl, ?_, CO.f57 hC f24⟩
         unfold hhV
         rw [if_neg (by omega), if_neg h5, e24.1])
      | (refine hQ _ _ ⟨_, rfl, ?_, CO.r hC⟩
         unfold hhV
         rw [if_pos (by omega), if_pos h30])
      | (refine hQ _ _ ⟨_, rfl, ?_, CO.r hC⟩
         unfold hhV
         rw [if_pos (by omega), if_neg h30])
    · refine x_iconst dX1_hostHas_33 rfl ?_
      refine x_goto (tgt := 38) dX1_hostHas_34 (by decide) ?_
      refine x_ireturn rfl dX1_hostHas_38 ?_
      first
      | (refine hQ _ _ ⟨_, rfl, ?_, CO.f57 hC f13⟩
         unfold hhV
         rw [if_neg (by omega), if_pos h5, e13.1])
      | (refine hQ _ _ ⟨_, rfl, ?_, CO.f57 hC f24⟩
         unfold hhV
         rw [if_neg (by omega), if_neg h5, e24.1])
      | (refine hQ _ _ ⟨_, rfl, ?_, CO.r hC⟩
         unfold hhV
         rw [if_pos (by omega), if_pos h30])
      | (refine hQ _ _ ⟨_, rfl, ?_, CO.r hC⟩
         unfold hhV
         rw [if_pos (by omega), if_neg h30])
  · refine x_iload_n dX1_hostHas_4 rfl rfl ?_
    refine x_if_ne (tgt := 19) dX1_hostHas_5 (by decide) (fun h5 => ?_) (fun h5 => ?_)
    · refine x_aload_n dX1_hostHas_19 rfl rfl ?_
      refine g_getR (kI := 1) rfl dX1_hostHas_20 fX1_22_1 (by first | assumption | first | assumption | (simp (disch := omega) only [shI, shR, shL, shC, shD, shW, sh_V, shN_e, shN_n, crI, crL, crC, crW, crV, crR_e, crR_n, crN_e, crN_n, ciR, ciL, ciD, ciN_e, ciN_n, rdI_e, rdI_n, rdC_i, rdC_o, rdW, rdU_e, rdU_n, rdLW, clI, clR, clC, clD, clW, clV, clN_e, clN_n, clL_e, clL_n]; done) | (simp (disch := omega) only [shI, shR, shL, shC, shD, shW, sh_V, shN_e, shN_n, crI, crL, crC, crW, crV, crR_e, crR_n, crN_e, crN_n, ciR, ciL, ciD, ciN_e, ciN_n, rdI_e, rdI_n, rdC_i, rdC_o, rdW, rdU_e, rdU_n, rdLW, clI, clR, clC, clD, clW, clV, clN_e, clN_n, clL_e, clL_n] <;> first | assumption | rfl | omega)) (by first | assumption | first | assumption | (simp (disch := omega) only [shI, shR, shL, shC, shD, shW, sh_V, shN_e, shN_n, crI, crL, crC, crW, crV, crR_e, crR_n, crN_e, crN_n, ciR, ciL, ciD, ciN_e, ciN_n, rdI_e, rdI_n, rdC_i, rdC_o, rdW, rdU_e, rdU_n, rdLW, clI, clR, clC, clD, clW, clV, clN_e, clN_n, clL_e, clL_n]; done) | (simp (disch := omega) only [shI, shR, shL, shC, shD, shW, sh_V, shN_e, shN_n, crI, crL, crC, crW, crV, crR_e, crR_n, crN_e, crN_n, ciR, ciL, ciD, ciN_e, ciN_n, rdI_e, rdI_n, rdC_i, rdC_o, rdW, rdU_e, rdU_n, rdLW, clI, clR, clC, clD, clW, clV, clN_e, clN_n, clL_e, clL_n] <;> first | assumption | rfl | omega)) ?_
      refine x_iload_n dX1_hostHas_23 rfl rfl ?_
      refine g_callI (vs := [_, _]) (d' := d - 1) rfl (s_X3_emulation (by omega) hs54 hB hv hW hLw (by omega) ho) dX1_hostHas_24 kX1_260 (by omega) (by decide) rfl (Nat.le_of_ble_eq_true rfl) (rcv_o (by first | assumption | first | assumption | (simp (disch := omega) only [shI, shR, shL, shC, shD, shW, sh_V, shN_e, shN_n, crI, crL, crC, crW, crV, crR_e, crR_n, crN_e, crN_n, ciR, ciL, ciD, ciN_e, ciN_n, rdI_e, rdI_n, rdC_i, rdC_o, rdW, rdU_e, rdU_n, rdLW, clI, clR, clC, clD, clW, clV, clN_e, clN_n, clL_e, clL_n]; done) | (simp (disch := omega) only [shI, shR, shL, shC, shD, shW, sh_V, shN_e, shN_n, crI, crL, crC, crW, crV, crR_e, crR_n, crN_e, crN_n, ciR, ciL, ciD, ciN_e, ciN_n, rdI_e, rdI_n, rdC_i, rdC_o, rdW, rdU_e, rdU_n, rdLW, clI, clR, clC, clD, clW, clV, clN_e, clN_n, clL_e, clL_n] <;> first | assumption | rfl | omega)) rfl) (fun x24 M24 h24 => ?_)
      obtain ⟨g24, hM24, e24, f24⟩ := h24
      subst hM24
      first | refine x_inegN dX1_hostHas_27 (by unfold i32; omega) ?_ | refine x_ineg dX1_hostHas_27 ?_
      refine x_ireturn rfl dX1_hostHas_28 ?_
      first
      | (refine hQ _ _ ⟨_, rfl, ?_, CO.f57 hC f13⟩
         unfold hhV
         rw [if_neg (by omega), if_pos h5, e13.1])
      | (refine hQ _ _ ⟨_, rfl, ?_, CO.f57 hC f24⟩
         unfold hhV
         rw [if_neg (by omega), if_neg h5, e24.1])
      | (refine hQ _ _ ⟨_, rfl, ?_, CO.r hC⟩
         unfold hhV
         rw [if_pos (by omega), if_pos h30])
      | (refine hQ _ _ ⟨_, rfl, ?_, CO.r hC⟩
         unfold hhV
         rw [if_pos (by omega), if_neg h30])
    · refine x_aload_n dX1_hostHas_8 rfl rfl ?_
      refine g_getR (kI := 1) rfl dX1_hostHas_9 fX1_22_1 (by first | assumption | first | assumption | (simp (disch := omega) only [shI, shR, shL, shC, shD, shW, sh_V, shN_e, shN_n, crI, crL, crC, crW, crV, crR_e, crR_n, crN_e, crN_n, ciR, ciL, ciD, ciN_e, ciN_n, rdI_e, rdI_n, rdC_i, rdC_o, rdW, rdU_e, rdU_n, rdLW, clI, clR, clC, clD, clW, clV, clN_e, clN_n, clL_e, clL_n]; done) | (simp (disch := omega) only [shI, shR, shL, shC, shD, shW, sh_V, shN_e, shN_n, crI, crL, crC, crW, crV, crR_e, crR_n, crN_e, crN_n, ciR, ciL, ciD, ciN_e, ciN_n, rdI_e, rdI_n, rdC_i, rdC_o, rdW, rdU_e, rdU_n, rdLW, clI, clR, clC, clD, clW, clV, clN_e, clN_n, clL_e, clL_n] <;> first | assumption | rfl | omega)) (by first | assumption | first | assumption | (simp (disch := omega) only [shI, shR, shL, shC, shD, shW, sh_V, shN_e, shN_n, crI, crL, crC, crW, crV, crR_e, crR_n, crN_e, crN_n, ciR, ciL, ciD, ciN_e, ciN_n, rdI_e, rdI_n, rdC_i, rdC_o, rdW, rdU_e, rdU_n, rdLW, clI, clR, clC, clD, clW, clV, clN_e, clN_n, clL_e, clL_n]; done) | (simp (disch := omega) only [shI, shR, shL, shC, shD, shW, sh_V, shN_e, shN_n, crI, crL, crC, crW, crV, crR_e, crR_n, crN_e, crN_n, ciR, ciL, ciD, ciN_e, ciN_n, rdI_e, rdI_n, rdC_i, rdC_o, rdW, rdU_e, rdU_n, rdLW, clI, clR, clC, clD, clW, clV, clN_e, clN_n, clL_e, clL_n] <;> first | assumption | rfl | omega)) ?_
      refine x_iload_n dX1_hostHas_12 rfl rfl ?_
      refine g_callI (vs := [_, _]) (d' := d - 1) rfl (s_X3_worth (by omega) hs54 hB hv hW hLw (by omega) ho) dX1_hostHas_13 kX1_266 (by omega) (by decide) rfl (Nat.le_of_ble_eq_true rfl) (rcv_o (by first | assumption | first | assumption | (simp (disch := omega) only [shI, shR, shL, shC, shD, shW, sh_V, shN_e, shN_n, crI, crL, crC, crW, crV, crR_e, crR_n, crN_e, crN_n, ciR, ciL, ciD, ciN_e, ciN_n, rdI_e, rdI_n, rdC_i, rdC_o, rdW, rdU_e, rdU_n, rdLW, clI, clR, clC, clD, clW, clV, clN_e, clN_n, clL_e, clL_n]; done) | (simp (disch := omega) only [shI, shR, shL, shC, shD, shW, sh_V, shN_e, shN_n, crI, crL, crC, crW, crV, crR_e, crR_n, crN_e, crN_n, ciR, ciL, ciD, ciN_e, ciN_n, rdI_e, rdI_n, rdC_i, rdC_o, rdW, rdU_e, rdU_n, rdLW, clI, clR, clC, clD, clW, clV, clN_e, clN_n, clL_e, clL_n] <;> first | assumption | rfl | omega)) rfl) (fun x13 M13 h13 => ?_)
      obtain ⟨g13, hM13, e13, f13⟩ := h13
      subst hM13
      refine x_goto (tgt := 28) dX1_hostHas_16 (by decide) ?_
      refine x_ireturn rfl dX1_hostHas_28 ?_
      first
      | (refine hQ _ _ ⟨_, rfl, ?_, CO.f57 hC f13⟩
         unfold hhV
         rw [if_neg (by omega), if_pos h5, e13.1])
      | (refine hQ _ _ ⟨_, rfl, ?_, CO.f57 hC f24⟩
         unfold hhV
         rw [if_neg (by omega), if_neg h5, e24.1])
      | (refine hQ _ _ ⟨_, rfl, ?_, CO.r hC⟩
         unfold hhV
         rw [if_pos (by omega), if_pos h30])
      | (refine hQ _ _ ⟨_, rfl, ?_, CO.r hC⟩
         unfold hhV
         rw [if_pos (by omega), if_neg h30])
theorem s_X1_rests (hd : 46 ≤ d) (hC0 : CI M v n A hi vi tp sz fa N) : CS G d mX1_rests [dR 0, dI op] M (orT (postI fun y M1 => (0 ≤ op ∧ op < v 0) ∧ y = restAns v op ∧ CO M v n A hi vi tp sz fa N 0 0 M1) (fun a E M1 => CO M v n A hi vi tp sz fa N 1 6 M1 ∧ ¬ (0 ≤ op ∧ op < v 0) ∧ E = "java/lang/IndexOutOfBoundsException")) := by
  have hC := hC0
  have s0 : msh M 0 = some (1, 0) := hC.1.1.1.1
  refine CS.mkQ (by decide) (Nat.le_of_ble_eq_true rfl) fun Q hQ => ?_
  have lp : ∀ (t : Nat) (k x : Int) (M' : Mem), (4 - k).toNat = t → (0 ≤ k ∧ k ≤ 4) → (0 ≤ op ∧ op < v 0) → (x = numR (fun k => restC v op (k / 2) (k % 2)) k.toNat) → (CO M v n A hi vi tp sz fa N 0 0 M') → WP G d mX1_rests 10 [some (dR 0), some (dI op), some (dI x), some (dI k), none, none] [] (M') Q := by
    intro t
    induction t using Nat.strongRecOn with
    | _ t ih =>
      intro k x M' ht k0 ho hx hCO
      have s0 : msh M' 0 = some (1, 0) := hCO.1.1.1.1.1
      have hr := num_r (fun k => restC v op (k / 2) (k % 2)) k.toNat
      have h8 := pw_mono (a := k.toNat) (b := 4) (by omega)
      have h83 : pw ((4 : Nat) : Int) = 16 := rfl
      rw [show ((k.toNat : Nat) : Int) = k by omega] at hr h8
      have hs := restN v op (k := 0) (t := k) (by omega)
      rw [← hx] at hs hr
      by_cases hk : k < 4
      · have hk2 : 0 ≤ k / 2 ∧ k / 2 < 2 := by omega
        have hk3 : 0 ≤ k % 2 ∧ k % 2 < 2 := by omega
        have nx : ∀ (x' : Int) (M4 : Mem) (o1 o2 : Option DV), x' = numR (fun k => restC v op (k / 2) (k % 2)) (k + 1).toNat → CO M v n A hi vi tp sz fa N 0 0 M4 → WP G d mX1_rests 10 [some (dR 0), some (dI op), some (dI x'), some (dI (k + 1)), o1, o2] [] M4 Q := fun x' M4 o1 o2 q1 q2 => x_fgt (L' := [some (dR 0), some (dI op), some (dI x'), some (dI (k + 1)), none, none]) (by repeat (first | exact trivial | refine ⟨rfl, ?_⟩)) (ih _ (by omega) (k + 1) x' M4 rfl (by omega) ho q1 q2)
        generalize hkd : k / 2 = kd at hk2 hs
        generalize hkm : k % 2 = km at hk3 hs
        refine x_iload_n dX1_rests_10 rfl rfl ?_
        refine x_iconst dX1_rests_11 rfl ?_
        refine x_icmp_ge (tgt := 87) dX1_rests_12 (by decide) (fun h12 => ?_) (fun h12 => ?_)
        · omega
        · refine x_iload_n dX1_rests_15 rfl rfl ?_
          refine x_iconst dX1_rests_16 rfl ?_
          first | refine x_idivN dX1_rests_17 (by omega) (by omega) ?_ | refine x_idiv dX1_rests_17 (by omega) ?_
          rw [show k / 2 = kd from hkd]
          refine x_istore (L' := [some _, some _, some _, some _, some _, none]) dX1_rests_18 (by decide) rfl ?_
          refine x_iload_n dX1_rests_20 rfl rfl ?_
          refine x_iconst dX1_rests_21 rfl ?_
          first | refine x_iremN dX1_rests_22 (by omega) (by omega) ?_ | refine x_irem dX1_rests_22 (by omega) ?_
          rw [show k % 2 = km from hkm]
          refine x_istore (L' := [some _, some _, some _, some _, some _, some _]) dX1_rests_23 (by decide) rfl ?_
          refine x_iload_n dX1_rests_25 rfl rfl ?_
          refine x_aload_n dX1_rests_26 rfl rfl ?_
          refine x_iload_n dX1_rests_27 rfl rfl ?_
          refine x_iconst dX1_rests_28 rfl ?_
          refine x_iload dX1_rests_29 rfl ?_
          first | refine x_isubN dX1_rests_31 (by unfold i32; omega) ?_ | refine x_isub dX1_rests_31 ?_
          refine x_iload dX1_rests_32 rfl ?_
          refine g_callI (vs := [_, _, _, _]) (d' := d - 1) rfl (s_X1_guestHas (by omega) hCO.1 ho (by omega) (by omega)) dX1_rests_34 kX1_418 (by omega) (by decide) rfl (Nat.le_of_ble_eq_true rfl) (rcv_o (by first | assumption | first | assumption | (simp (disch := omega) only [shI, shR, shL, shC, shD, shW, sh_V, shN_e, shN_n, crI, crL, crC, crW, crV, crR_e, crR_n, crN_e, crN_n, ciR, ciL, ciD, ciN_e, ciN_n, rdI_e, rdI_n, rdC_i, rdC_o, rdW, rdU_e, rdU_n, rdLW, clI, clR, clC, clD, clW, clV, clN_e, clN_n, clL_e, clL_n]; done) | (simp (disch := omega) only [shI, shR, shL, shC, shD, shW, sh_V, shN_e, shN_n, crI, crL, crC, crW, crV, crR_e, crR_n, crN_e, crN_n, ciR, ciL, ciD, ciN_e, ciN_n, rdI_e, rdI_n, rdC_i, rdC_o, rdW, rdU_e, rdU_n, rdLW, clI, clR, clC, clD, clW, clV, clN_e, clN_n, clL_e, clL_n] <;> first | assumption | rfl | omega)) rfl) (fun x34 M34 h34 => ?_)
          obtain ⟨e34, f34⟩ := h34
          subst e34
          have s0 : msh M34 0 = some (1, 0) := f34.1.1.1.1.1
          refine x_aload_n dX1_rests_37 rfl rfl ?_
          refine x_iload_n dX1_rests_38 rfl rfl ?_
          refine x_iload dX1_rests_39 rfl ?_
          refine x_iload dX1_rests_41 rfl ?_
          refine g_callI (vs := [_, _, _, _]) (d' := d - 1) rfl (s_X1_guestHas (by omega) f34.1 ho (by omega) (by omega)) dX1_rests_43 kX1_418 (by omega) (by decide) rfl (Nat.le_of_ble_eq_true rfl) (rcv_o (by first | assumption | first | assumption | (simp (disch := omega) only [shI, shR, shL, shC, shD, shW, sh_V, shN_e, shN_n, crI, crL, crC, crW, crV, crR_e, crR_n, crN_e, crN_n, ciR, ciL, ciD, ciN_e, ciN_n, rdI_e, rdI_n, rdC_i, rdC_o, rdW, rdU_e, rdU_n, rdLW, clI, clR, clC, clD, clW, clV, clN_e, clN_n, clL_e, clL_n]; done) | (simp (disch := omega) only [shI, shR, shL, shC, shD, shW, sh_V, shN_e, shN_n, crI, crL, crC, crW, crV, crR_e, crR_n, crN_e, crN_n, ciR, ciL, ciD, ciN_e, ciN_n, rdI_e, rdI_n, rdC_i, rdC_o, rdW, rdU_e, rdU_n, rdLW, clI, clR, clC, clD, clW, clV, clN_e, clN_n, clL_e, clL_n] <;> first | assumption | rfl | omega)) rfl) (fun x43 M43 h43 => ?_)
          obtain ⟨e43, f43⟩ := h43
          subst e43
          have s0 : msh M43 0 = some (1, 0) := f43.1.1.1.1.1
          have fA : CO M v n A hi vi tp sz fa N 0 0 M43 := CO.tr hCO.2 (CO.tr f34.2 f43)
          refine x_icmp_gt (tgt := 78) dX1_rests_46 (by decide) (fun h46 => ?_) (fun h46 => ?_)
          · refine x_iconst dX1_rests_78 rfl ?_
            refine x_ior dX1_rests_79 ?_
            first
            | rw [jshl_1 (by omega), jor_lt (by omega) hr]
            | rw [jor_z (by omega)]
            refine x_istore_n (L' := [some _, some _, some _, some _, some _, some _]) dX1_rests_80 rfl (by decide) rfl ?_
            first | refine x_iincN (L' := [some _, some _, some _, some _, some _, some _]) dX1_rests_81 rfl (by decide) (by unfold i32; omega) rfl ?_ | refine x_iinc (L' := [some _, some _, some _, some _, some _, some _]) dX1_rests_81 rfl (by decide) rfl ?_
            refine x_goto (tgt := 10) dX1_rests_84 (by decide) ?_
            first
            | (rw [if_pos (show restC v op kd km from And.intro (by omega) (by omega))] at hs
               exact nx _ _ _ _ hs.symm fB)
            | (rw [if_neg (show ¬ restC v op kd km from fun q => absurd q.2 (by omega)), Int.add_zero] at hs
               exact nx _ _ _ _ hs.symm fB)
            | (rw [if_neg (show ¬ restC v op kd km from fun q => absurd q.1 (by omega)), Int.add_zero] at hs
               exact nx _ _ _ _ hs.symm fA)
          · refine x_aload_n dX1_rests_49 rfl rfl ?_
            refine x_iload_n dX1_rests_50 rfl rfl ?_
            refine x_iload dX1_rests_51 rfl ?_
            refine x_iconst dX1_rests_53 rfl ?_
            refine x_iload dX1_rests_54 rfl ?_
            first | refine x_isubN dX1_rests_56 (by unfold i32; omega) ?_ | refine x_isub dX1_rests_56 ?_
            refine g_callI (vs := [_, _, _, _]) (d' := d - 1) rfl (s_X1_hostHas (by omega) f43.1 ho (by omega) (by omega)) dX1_rests_57 kX1_421 (by omega) (by decide) rfl (Nat.le_of_ble_eq_true rfl) (rcv_o (by first | assumption | first | assumption | (simp (disch := omega) only [shI, shR, shL, shC, shD, shW, sh_V, shN_e, shN_n, crI, crL, crC, crW, crV, crR_e, crR_n, crN_e, crN_n, ciR, ciL, ciD, ciN_e, ciN_n, rdI_e, rdI_n, rdC_i, rdC_o, rdW, rdU_e, rdU_n, rdLW, clI, clR, clC, clD, clW, clV, clN_e, clN_n, clL_e, clL_n]; done) | (simp (disch := omega) only [shI, shR, shL, shC, shD, shW, sh_V, shN_e, shN_n, crI, crL, crC, crW, crV, crR_e, crR_n, crN_e, crN_n, ciR, ciL, ciD, ciN_e, ciN_n, rdI_e, rdI_n, rdC_i, rdC_o, rdW, rdU_e, rdU_n, rdLW, clI, clR, clC, clD, clW, clV, clN_e, clN_n, clL_e, clL_n] <;> first | assumption | rfl | omega)) rfl) (fun x57 M57 h57 => ?_)
            obtain ⟨e57, f57⟩ := h57
            subst e57
            have s0 : msh M57 0 = some (1, 0) := f57.1.1.1.1.1
            refine x_aload_n dX1_rests_60 rfl rfl ?_
            refine x_iload_n dX1_rests_61 rfl rfl ?_
            refine x_iload dX1_rests_62 rfl ?_
            refine x_iload dX1_rests_64 rfl ?_
            refine g_callI (vs := [_, _, _, _]) (d' := d - 1) rfl (s_X1_hostHas (by omega) f57.1 ho (by omega) (by omega)) dX1_rests_66 kX1_421 (by omega) (by decide) rfl (Nat.le_of_ble_eq_true rfl) (rcv_o (by first | assumption | first | assumption | (simp (disch := omega) only [shI, shR, shL, shC, shD, shW, sh_V, shN_e, shN_n, crI, crL, crC, crW, crV, crR_e, crR_n, crN_e, crN_n, ciR, ciL, ciD, ciN_e, ciN_n, rdI_e, rdI_n, rdC_i, rdC_o, rdW, rdU_e, rdU_n, rdLW, clI, clR, clC, clD, clW, clV, clN_e, clN_n, clL_e, clL_n]; done) | (simp (disch := omega) only [shI, shR, shL, shC, shD, shW, sh_V, shN_e, shN_n, crI, crL, crC, crW, crV, crR_e, crR_n, crN_e, crN_n, ciR, ciL, ciD, ciN_e, ciN_n, rdI_e, rdI_n, rdC_i, rdC_o, rdW, rdU_e, rdU_n, rdLW, clI, clR, clC, clD, clW, clV, clN_e, clN_n, clL_e, clL_n] <;> first | assumption | rfl | omega)) rfl) (fun x66 M66 h66 => ?_)
            obtain ⟨e66, f66⟩ := h66
            subst e66
            have fB : CO M v n A hi vi tp sz fa N 0 0 M66 := CO.tr fA.2 (CO.tr f57.2 f66)
            refine x_icmp_gt (tgt := 78) dX1_rests_69 (by decide) (fun h69 => ?_) (fun h69 => ?_)
            · refine x_iconst dX1_rests_78 rfl ?_
              refine x_ior dX1_rests_79 ?_
              first
              | rw [jshl_1 (by omega), jor_lt (by omega) hr]
              | rw [jor_z (by omega)]
              refine x_istore_n (L' := [some _, some _, some _, some _, some _, some _]) dX1_rests_80 rfl (by decide) rfl ?_
              first | refine x_iincN (L' := [some _, some _, some _, some _, some _, some _]) dX1_rests_81 rfl (by decide) (by unfold i32; omega) rfl ?_ | refine x_iinc (L' := [some _, some _, some _, some _, some _, some _]) dX1_rests_81 rfl (by decide) rfl ?_
              refine x_goto (tgt := 10) dX1_rests_84 (by decide) ?_
              first
              | (rw [if_pos (show restC v op kd km from And.intro (by omega) (by omega))] at hs
                 exact nx _ _ _ _ hs.symm fB)
              | (rw [if_neg (show ¬ restC v op kd km from fun q => absurd q.2 (by omega)), Int.add_zero] at hs
                 exact nx _ _ _ _ hs.symm fB)
              | (rw [if_neg (show ¬ restC v op kd km from fun q => absurd q.1 (by omega)), Int.add_zero] at hs
                 exact nx _ _ _ _ hs.symm fA)
            · refine x_iconst dX1_rests_72 rfl ?_
              refine x_iload_n dX1_rests_73 rfl rfl ?_
              refine x_ishl dX1_rests_74 ?_
              refine x_goto (tgt := 79) dX1_rests_75 (by decide) ?_
              refine x_ior dX1_rests_79 ?_
              first
              | rw [jshl_1 (by omega), jor_lt (by omega) hr]
              | rw [jor_z (by omega)]
              refine x_istore_n (L' := [some _, some _, some _, some _, some _, some _]) dX1_rests_80 rfl (by decide) rfl ?_
              first | refine x_iincN (L' := [some _, some _, some _, some _, some _, some _]) dX1_rests_81 rfl (by decide) (by unfold i32; omega) rfl ?_ | refine x_iinc (L' := [some _, some _, some _, some _, some _, some _]) dX1_rests_81 rfl (by decide) rfl ?_
              refine x_goto (tgt := 10) dX1_rests_84 (by decide) ?_
              first
              | (rw [if_pos (show restC v op kd km from And.intro (by omega) (by omega))] at hs
                 exact nx _ _ _ _ hs.symm fB)
              | (rw [if_neg (show ¬ restC v op kd km from fun q => absurd q.2 (by omega)), Int.add_zero] at hs
                 exact nx _ _ _ _ hs.symm fB)
              | (rw [if_neg (show ¬ restC v op kd km from fun q => absurd q.1 (by omega)), Int.add_zero] at hs
                 exact nx _ _ _ _ hs.symm fA)
      · refine x_iload_n dX1_rests_10 rfl rfl ?_
        refine x_iconst dX1_rests_11 rfl ?_
        refine x_icmp_ge (tgt := 87) dX1_rests_12 (by decide) (fun h12 => ?_) (fun h12 => ?_)
        · refine x_iload_n dX1_rests_87 rfl rfl ?_
          refine x_ireturn rfl dX1_rests_88 ?_
          refine hQ _ _ (Or.inl ⟨_, rfl, ho, ?_, hCO⟩)
          unfold restAns
          rw [hx, show k.toNat = 4 by omega]
        · omega
  refine x_aload_n dX1_rests_0 rfl rfl ?_
  refine x_iload_n dX1_rests_1 rfl rfl ?_
  refine g_callRX (vs := [_, _]) (d' := d - 1) rfl (s_X1_opOf (by omega) hC) dX1_rests_2 kX1_240 (by omega) (by decide) rfl (Nat.le_of_ble_eq_true rfl) (rcv_o (by first | assumption | first | assumption | (simp (disch := omega) only [shI, shR, shL, shC, shD, shW, sh_V, shN_e, shN_n, crI, crL, crC, crW, crV, crR_e, crR_n, crN_e, crN_n, ciR, ciL, ciD, ciN_e, ciN_n, rdI_e, rdI_n, rdC_i, rdC_o, rdW, rdU_e, rdU_n, rdLW, clI, clR, clC, clD, clW, clV, clN_e, clN_n, clL_e, clL_n]; done) | (simp (disch := omega) only [shI, shR, shL, shC, shD, shW, sh_V, shN_e, shN_n, crI, crL, crC, crW, crV, crR_e, crR_n, crN_e, crN_n, ciR, ciL, ciD, ciN_e, ciN_n, rdI_e, rdI_n, rdC_i, rdC_o, rdW, rdU_e, rdU_n, rdLW, clI, clR, clC, clD, clW, clV, clN_e, clN_n, clL_e, clL_n] <;> first | assumption | rfl | omega)) rfl) (fun x2 M2 h2 => ?_) (fun a2 E2 M2 h2 => ?_)
  · obtain ⟨q2, e2, f2⟩ := h2
    subst e2
    subst f2
    refine x_pop dX1_rests_5 rfl ?_
    refine x_iconst dX1_rests_6 rfl ?_
    refine x_istore_n (L' := [some _, some _, some _, none, none, none]) dX1_rests_7 rfl (by decide) rfl ?_
    refine x_iconst dX1_rests_8 rfl ?_
    refine x_istore_n (L' := [some _, some _, some _, some _, none, none]) dX1_rests_9 rfl (by decide) rfl ?_
    exact x_fgt (by repeat (first | exact trivial | refine ⟨rfl, ?_⟩)) (lp _ 0 0 M rfl (by omega) q2 rfl (CO.r hC0))
  · obtain ⟨q2, eE2, eM2⟩ := h2
    subst eE2
    subst eM2
    exact th_nil rfl (hQ _ _ (Or.inr ⟨_, _, rfl, CO.xx hC, q2, rfl⟩))
theorem s_X1_valueOf (hd : 42 ≤ d) (hC : CI M v n A hi vi tp sz fa N) (ho : 0 ≤ op ∧ op < v 0) (hw : 0 ≤ w ∧ w ≤ 2) : CS G d mX1_valueOf [dR 0, dI w, dI op] M (postI fun y M1 => y = amtV v w op ∧ CO M v n A hi vi tp sz fa N 0 0 M1) := by
  obtain ⟨hC1, hC54, hCA, hCR⟩ := id hC; obtain ⟨hS, hTab, hTx, hLn, hSk, hnx⟩ := id hC1; obtain ⟨hA, hL, hR⟩ := id hC54; obtain ⟨⟨s0, s199, s200, s201, s202, s203⟩, ⟨c0, c1, c2, c3, c4, c5, c6, c7, c8, c9, c10, c11, c12⟩, c203, hSt, m189, m191, g193, g196, ⟨⟨r2, r3, r4, r5, r6, r7, r53⟩, ⟨w0, w1, w2, w3, w4, w5, w6⟩, wx1, wx2, wx3⟩⟩ := id hS; have hv := hA.1; have hv8 := hv.n8; have hv0 := hv.1.1; have hv3 := hv.2.2.2.1; have hs54 := hSt 54 (by unfold SB; omega); obtain ⟨p0, p1, ⟨d0, d1, d2, d3, d4, d5, d6, d7⟩, ⟨t1, t2, t3, t4, t5, t6⟩, p5, p6, p7⟩ := id hs54; have t7 : msh M (54 + 7) = some (4, 0) := p5.2.1; have t10 : msh M (54 + 10) = some (4, 0) := p6.2.1; obtain ⟨hB, hW, hLw⟩ := id hR.1; obtain ⟨b1, b2, b3, b4, b5, b6, b7, b8, b9, b10, b11, b12, b13, b14, b15⟩ := id hB; obtain ⟨hn, hn2, hat, hAc⟩ := id hCA; obtain ⟨⟨hki, hhi⟩, hIm, ⟨htp, hsz, hsz2⟩, hfa⟩ := id hCR
  have hO := b14 op ho.1 ho.2
  have ra1 := hO.1
  have oa := hv.op op ho.1 ho.2
  have hG := oa.1
  obtain ⟨wa1, wa2⟩ := p7 op ho.1 (by omega)
  obtain ⟨o0, o1, o2, o3, o4, o5, o6, o7⟩ := id wa2
  refine CS.mkQ (by decide) (Nat.le_of_ble_eq_true rfl) fun Q hQ => ?_
  refine x_iload_n dX1_valueOf_0 rfl rfl ?_
  refine x_if_ne (tgt := 19) dX1_valueOf_1 (by decide) (fun h1 => ?_) (fun h1 => ?_)
  · refine x_iload_n dX1_valueOf_19 rfl rfl ?_
    refine x_iconst dX1_valueOf_20 rfl ?_
    refine x_icmp_ne (tgt := 35) dX1_valueOf_21 (by decide) (fun h21 => ?_) (fun h21 => ?_)
    · refine x_aload_n dX1_valueOf_35 rfl rfl ?_
      refine g_getR (kI := 1) rfl dX1_valueOf_36 fX1_22_1 (by first | assumption | first | assumption | (simp (disch := omega) only [shI, shR, shL, shC, shD, shW, sh_V, shN_e, shN_n, crI, crL, crC, crW, crV, crR_e, crR_n, crN_e, crN_n, ciR, ciL, ciD, ciN_e, ciN_n, rdI_e, rdI_n, rdC_i, rdC_o, rdW, rdU_e, rdU_n, rdLW, clI, clR, clC, clD, clW, clV, clN_e, clN_n, clL_e, clL_n]; done) | (simp (disch := omega) only [shI, shR, shL, shC, shD, shW, sh_V, shN_e, shN_n, crI, crL, crC, crW, crV, crR_e, crR_n, crN_e, crN_n, ciR, ciL, ciD, ciN_e, ciN_n, rdI_e, rdI_n, rdC_i, rdC_o, rdW, rdU_e, rdU_n, rdLW, clI, clR, clC, clD, clW, clV, clN_e, clN_n, clL_e, clL_n] <;> first | assumption | rfl | omega)) (by first | assumption | first | assumption | (simp (disch := omega) only [shI, shR, shL, shC, shD, shW, sh_V, shN_e, shN_n, crI, crL, crC, crW, crV, crR_e, crR_n, crN_e, crN_n, ciR, ciL, ciD, ciN_e, ciN_n, rdI_e, rdI_n, rdC_i, rdC_o, rdW, rdU_e, rdU_n, rdLW, clI, clR, clC, clD, clW, clV, clN_e, clN_n, clL_e, clL_n]; done) | (simp (disch := omega) only [shI, shR, shL, shC, shD, shW, sh_V, shN_e, shN_n, crI, crL, crC, crW, crV, crR_e, crR_n, crN_e, crN_n, ciR, ciL, ciD, ciN_e, ciN_n, rdI_e, rdI_n, rdC_i, rdC_o, rdW, rdU_e, rdU_n, rdLW, clI, clR, clC, clD, clW, clV, clN_e, clN_n, clL_e, clL_n] <;> first | assumption | rfl | omega)) ?_
      refine x_iload_n dX1_valueOf_39 rfl rfl ?_
      refine g_callI (vs := [_, _]) (d' := d - 1) rfl (s_X3_uses (by omega) hs54 hB hv) dX1_valueOf_40 kX1_269 (by omega) (by decide) rfl (Nat.le_of_ble_eq_true rfl) (rcv_o (by first | assumption | first | assumption | (simp (disch := omega) only [shI, shR, shL, shC, shD, shW, sh_V, shN_e, shN_n, crI, crL, crC, crW, crV, crR_e, crR_n, crN_e, crN_n, ciR, ciL, ciD, ciN_e, ciN_n, rdI_e, rdI_n, rdC_i, rdC_o, rdW, rdU_e, rdU_n, rdLW, clI, clR, clC, clD, clW, clV, clN_e, clN_n, clL_e, clL_n]; done) | (simp (disch := omega) only [shI, shR, shL, shC, shD, shW, sh_V, shN_e, shN_n, crI, crL, crC, crW, crV, crR_e, crR_n, crN_e, crN_n, ciR, ciL, ciD, ciN_e, ciN_n, rdI_e, rdI_n, rdC_i, rdC_o, rdW, rdU_e, rdU_n, rdLW, clI, clR, clC, clD, clW, clV, clN_e, clN_n, clL_e, clL_n] <;> first | assumption | rfl | omega)) rfl) (fun x40 M40 h40 => ?_)
      obtain ⟨e40, f40⟩ := h40
      subst e40
      have f40' := f40.symm
      subst f40'
      refine x_ireturn rfl dX1_valueOf_43 ?_
      first
      | (refine hQ _ _ ⟨_, rfl, ?_, CO.f57 hC f29⟩
         unfold amtV
         rw [if_neg h1, if_pos h21, e29.1])
      | (refine hQ _ _ ⟨_, rfl, ?_, CO.r hC⟩
         unfold amtV
         rw [if_pos h1])
      | (refine hQ _ _ ⟨_, rfl, ?_, CO.r hC⟩
         unfold amtV
         rw [if_neg h1, if_neg h21])
    · refine x_aload_n dX1_valueOf_24 rfl rfl ?_
      refine g_getR (kI := 1) rfl dX1_valueOf_25 fX1_22_1 (by first | assumption | first | assumption | (simp (disch := omega) only [shI, shR, shL, shC, shD, shW, sh_V, shN_e, shN_n, crI, crL, crC, crW, crV, crR_e, crR_n, crN_e, crN_n, ciR, ciL, ciD, ciN_e, ciN_n, rdI_e, rdI_n, rdC_i, rdC_o, rdW, rdU_e, rdU_n, rdLW, clI, clR, clC, clD, clW, clV, clN_e, clN_n, clL_e, clL_n]; done) | (simp (disch := omega) only [shI, shR, shL, shC, shD, shW, sh_V, shN_e, shN_n, crI, crL, crC, crW, crV, crR_e, crR_n, crN_e, crN_n, ciR, ciL, ciD, ciN_e, ciN_n, rdI_e, rdI_n, rdC_i, rdC_o, rdW, rdU_e, rdU_n, rdLW, clI, clR, clC, clD, clW, clV, clN_e, clN_n, clL_e, clL_n] <;> first | assumption | rfl | omega)) (by first | assumption | first | assumption | (simp (disch := omega) only [shI, shR, shL, shC, shD, shW, sh_V, shN_e, shN_n, crI, crL, crC, crW, crV, crR_e, crR_n, crN_e, crN_n, ciR, ciL, ciD, ciN_e, ciN_n, rdI_e, rdI_n, rdC_i, rdC_o, rdW, rdU_e, rdU_n, rdLW, clI, clR, clC, clD, clW, clV, clN_e, clN_n, clL_e, clL_n]; done) | (simp (disch := omega) only [shI, shR, shL, shC, shD, shW, sh_V, shN_e, shN_n, crI, crL, crC, crW, crV, crR_e, crR_n, crN_e, crN_n, ciR, ciL, ciD, ciN_e, ciN_n, rdI_e, rdI_n, rdC_i, rdC_o, rdW, rdU_e, rdU_n, rdLW, clI, clR, clC, clD, clW, clV, clN_e, clN_n, clL_e, clL_n] <;> first | assumption | rfl | omega)) ?_
      refine x_iload_n dX1_valueOf_28 rfl rfl ?_
      refine g_callI (vs := [_, _]) (d' := d - 1) rfl (s_X3_emulation (by omega) hs54 hB hv hW hLw (by omega) ho) dX1_valueOf_29 kX1_260 (by omega) (by decide) rfl (Nat.le_of_ble_eq_true rfl) (rcv_o (by first | assumption | first | assumption | (simp (disch := omega) only [shI, shR, shL, shC, shD, shW, sh_V, shN_e, shN_n, crI, crL, crC, crW, crV, crR_e, crR_n, crN_e, crN_n, ciR, ciL, ciD, ciN_e, ciN_n, rdI_e, rdI_n, rdC_i, rdC_o, rdW, rdU_e, rdU_n, rdLW, clI, clR, clC, clD, clW, clV, clN_e, clN_n, clL_e, clL_n]; done) | (simp (disch := omega) only [shI, shR, shL, shC, shD, shW, sh_V, shN_e, shN_n, crI, crL, crC, crW, crV, crR_e, crR_n, crN_e, crN_n, ciR, ciL, ciD, ciN_e, ciN_n, rdI_e, rdI_n, rdC_i, rdC_o, rdW, rdU_e, rdU_n, rdLW, clI, clR, clC, clD, clW, clV, clN_e, clN_n, clL_e, clL_n] <;> first | assumption | rfl | omega)) rfl) (fun x29 M29 h29 => ?_)
      obtain ⟨g29, hM29, e29, f29⟩ := h29
      subst hM29
      refine x_goto (tgt := 43) dX1_valueOf_32 (by decide) ?_
      refine x_ireturn rfl dX1_valueOf_43 ?_
      first
      | (refine hQ _ _ ⟨_, rfl, ?_, CO.f57 hC f29⟩
         unfold amtV
         rw [if_neg h1, if_pos h21, e29.1])
      | (refine hQ _ _ ⟨_, rfl, ?_, CO.r hC⟩
         unfold amtV
         rw [if_pos h1])
      | (refine hQ _ _ ⟨_, rfl, ?_, CO.r hC⟩
         unfold amtV
         rw [if_neg h1, if_neg h21])
  · refine x_aload_n dX1_valueOf_4 rfl rfl ?_
    refine g_getR (kI := 1) rfl dX1_valueOf_5 fX1_22_1 (by first | assumption | first | assumption | (simp (disch := omega) only [shI, shR, shL, shC, shD, shW, sh_V, shN_e, shN_n, crI, crL, crC, crW, crV, crR_e, crR_n, crN_e, crN_n, ciR, ciL, ciD, ciN_e, ciN_n, rdI_e, rdI_n, rdC_i, rdC_o, rdW, rdU_e, rdU_n, rdLW, clI, clR, clC, clD, clW, clV, clN_e, clN_n, clL_e, clL_n]; done) | (simp (disch := omega) only [shI, shR, shL, shC, shD, shW, sh_V, shN_e, shN_n, crI, crL, crC, crW, crV, crR_e, crR_n, crN_e, crN_n, ciR, ciL, ciD, ciN_e, ciN_n, rdI_e, rdI_n, rdC_i, rdC_o, rdW, rdU_e, rdU_n, rdLW, clI, clR, clC, clD, clW, clV, clN_e, clN_n, clL_e, clL_n] <;> first | assumption | rfl | omega)) (by first | assumption | first | assumption | (simp (disch := omega) only [shI, shR, shL, shC, shD, shW, sh_V, shN_e, shN_n, crI, crL, crC, crW, crV, crR_e, crR_n, crN_e, crN_n, ciR, ciL, ciD, ciN_e, ciN_n, rdI_e, rdI_n, rdC_i, rdC_o, rdW, rdU_e, rdU_n, rdLW, clI, clR, clC, clD, clW, clV, clN_e, clN_n, clL_e, clL_n]; done) | (simp (disch := omega) only [shI, shR, shL, shC, shD, shW, sh_V, shN_e, shN_n, crI, crL, crC, crW, crV, crR_e, crR_n, crN_e, crN_n, ciR, ciL, ciD, ciN_e, ciN_n, rdI_e, rdI_n, rdC_i, rdC_o, rdW, rdU_e, rdU_n, rdLW, clI, clR, clC, clD, clW, clV, clN_e, clN_n, clL_e, clL_n] <;> first | assumption | rfl | omega)) ?_
    refine g_getR (kI := 0) rfl dX1_valueOf_8 fX1_112_3 (by first | assumption | first | assumption | (simp (disch := omega) only [shI, shR, shL, shC, shD, shW, sh_V, shN_e, shN_n, crI, crL, crC, crW, crV, crR_e, crR_n, crN_e, crN_n, ciR, ciL, ciD, ciN_e, ciN_n, rdI_e, rdI_n, rdC_i, rdC_o, rdW, rdU_e, rdU_n, rdLW, clI, clR, clC, clD, clW, clV, clN_e, clN_n, clL_e, clL_n]; done) | (simp (disch := omega) only [shI, shR, shL, shC, shD, shW, sh_V, shN_e, shN_n, crI, crL, crC, crW, crV, crR_e, crR_n, crN_e, crN_n, ciR, ciL, ciD, ciN_e, ciN_n, rdI_e, rdI_n, rdC_i, rdC_o, rdW, rdU_e, rdU_n, rdLW, clI, clR, clC, clD, clW, clV, clN_e, clN_n, clL_e, clL_n] <;> first | assumption | rfl | omega)) (by first | assumption | first | assumption | (simp (disch := omega) only [shI, shR, shL, shC, shD, shW, sh_V, shN_e, shN_n, crI, crL, crC, crW, crV, crR_e, crR_n, crN_e, crN_n, ciR, ciL, ciD, ciN_e, ciN_n, rdI_e, rdI_n, rdC_i, rdC_o, rdW, rdU_e, rdU_n, rdLW, clI, clR, clC, clD, clW, clV, clN_e, clN_n, clL_e, clL_n]; done) | (simp (disch := omega) only [shI, shR, shL, shC, shD, shW, sh_V, shN_e, shN_n, crI, crL, crC, crW, crV, crR_e, crR_n, crN_e, crN_n, ciR, ciL, ciD, ciN_e, ciN_n, rdI_e, rdI_n, rdC_i, rdC_o, rdW, rdU_e, rdU_n, rdLW, clI, clR, clC, clD, clW, clV, clN_e, clN_n, clL_e, clL_n] <;> first | assumption | rfl | omega)) ?_
    refine x_iload_n dX1_valueOf_11 rfl rfl ?_
    refine x_aald (t := 126) rfl (by decide) dX1_valueOf_12 (by first | assumption | first | assumption | (simp (disch := omega) only [shI, shR, shL, shC, shD, shW, sh_V, shN_e, shN_n, crI, crL, crC, crW, crV, crR_e, crR_n, crN_e, crN_n, ciR, ciL, ciD, ciN_e, ciN_n, rdI_e, rdI_n, rdC_i, rdC_o, rdW, rdU_e, rdU_n, rdLW, clI, clR, clC, clD, clW, clV, clN_e, clN_n, clL_e, clL_n]; done) | (simp (disch := omega) only [shI, shR, shL, shC, shD, shW, sh_V, shN_e, shN_n, crI, crL, crC, crW, crV, crR_e, crR_n, crN_e, crN_n, ciR, ciL, ciD, ciN_e, ciN_n, rdI_e, rdI_n, rdC_i, rdC_o, rdW, rdU_e, rdU_n, rdLW, clI, clR, clC, clD, clW, clV, clN_e, clN_n, clL_e, clL_n] <;> first | assumption | rfl | omega)) (by omega) (by omega) (by first | assumption | first | assumption | (simp (disch := omega) only [shI, shR, shL, shC, shD, shW, sh_V, shN_e, shN_n, crI, crL, crC, crW, crV, crR_e, crR_n, crN_e, crN_n, ciR, ciL, ciD, ciN_e, ciN_n, rdI_e, rdI_n, rdC_i, rdC_o, rdW, rdU_e, rdU_n, rdLW, clI, clR, clC, clD, clW, clV, clN_e, clN_n, clL_e, clL_n]; done) | (simp (disch := omega) only [shI, shR, shL, shC, shD, shW, sh_V, shN_e, shN_n, crI, crL, crC, crW, crV, crR_e, crR_n, crN_e, crN_n, ciR, ciL, ciD, ciN_e, ciN_n, rdI_e, rdI_n, rdC_i, rdC_o, rdW, rdU_e, rdU_n, rdLW, clI, clR, clC, clD, clW, clV, clN_e, clN_n, clL_e, clL_n] <;> first | assumption | rfl | omega)) ?_
    refine g_getI (kI := 3) rfl dX1_valueOf_13 fX1_252_6 (by first | assumption | first | assumption | (simp (disch := omega) only [shI, shR, shL, shC, shD, shW, sh_V, shN_e, shN_n, crI, crL, crC, crW, crV, crR_e, crR_n, crN_e, crN_n, ciR, ciL, ciD, ciN_e, ciN_n, rdI_e, rdI_n, rdC_i, rdC_o, rdW, rdU_e, rdU_n, rdLW, clI, clR, clC, clD, clW, clV, clN_e, clN_n, clL_e, clL_n]; done) | (simp (disch := omega) only [shI, shR, shL, shC, shD, shW, sh_V, shN_e, shN_n, crI, crL, crC, crW, crV, crR_e, crR_n, crN_e, crN_n, ciR, ciL, ciD, ciN_e, ciN_n, rdI_e, rdI_n, rdC_i, rdC_o, rdW, rdU_e, rdU_n, rdLW, clI, clR, clC, clD, clW, clV, clN_e, clN_n, clL_e, clL_n] <;> first | assumption | rfl | omega)) ?_
    try simp (disch := omega) only [rdI_e, rdI_n, rdC_i, rdC_o, rdW, rdR, rdU_e, rdU_n, rdLW, Int.add_zero, ra1]
    refine x_goto (tgt := 43) dX1_valueOf_16 (by decide) ?_
    refine x_ireturn rfl dX1_valueOf_43 ?_
    first
    | (refine hQ _ _ ⟨_, rfl, ?_, CO.f57 hC f29⟩
       unfold amtV
       rw [if_neg h1, if_pos h21, e29.1])
    | (refine hQ _ _ ⟨_, rfl, ?_, CO.r hC⟩
       unfold amtV
       rw [if_pos h1])
    | (refine hQ _ _ ⟨_, rfl, ?_, CO.r hC⟩
       unfold amtV
       rw [if_neg h1, if_neg h21])
theorem s_X1_most (hd : 46 ≤ d) (hC0 : CI M v n A hi vi tp sz fa N) : CS G d mX1_most [dR 0, dI w] M (orT (postI fun y M1 => (0 ≤ w ∧ w ≤ 2) ∧ y = mostAns v w ∧ CO M v n A hi vi tp sz fa N 0 0 M1) (fun a E M1 => CO M v n A hi vi tp sz fa N 1 6 M1 ∧ ¬ (0 ≤ w ∧ w ≤ 2) ∧ E = "java/util/NoSuchElementException")) := by
  have hC := hC0
  have s0 : msh M 0 = some (1, 0) := hC.1.1.1.1
  refine CS.mkQ (by decide) (Nat.le_of_ble_eq_true rfl) fun Q hQ => ?_
  have lp : ∀ (t : Nat) (p x : Int) (M' : Mem), (v 0 - p).toNat = t → (0 ≤ p ∧ p ≤ v 0) → (0 ≤ w ∧ w ≤ 2) → (x = mostR v w p.toNat) → (CO M v n A hi vi tp sz fa N 0 0 M') → WP G d mX1_most 13 [some (dR 0), some (dI w), some (dI x), some (dI p)] [] (M') Q := by
    intro t
    induction t using Nat.strongRecOn with
    | _ t ih =>
      intro p x M' ht z0 hw hx hCO
      have hC := hCO.1
      obtain ⟨hC1, hC54, hCA, hCR⟩ := id hC; obtain ⟨hS, hTab, hTx, hLn, hSk, hnx⟩ := id hC1; obtain ⟨hA, hL, hR⟩ := id hC54; obtain ⟨⟨s0, s199, s200, s201, s202, s203⟩, ⟨c0, c1, c2, c3, c4, c5, c6, c7, c8, c9, c10, c11, c12⟩, c203, hSt, m189, m191, g193, g196, ⟨⟨r2, r3, r4, r5, r6, r7, r53⟩, ⟨w0, w1, w2, w3, w4, w5, w6⟩, wx1, wx2, wx3⟩⟩ := id hS; have hv := hA.1; have hv8 := hv.n8; have hv0 := hv.1.1; have hv3 := hv.2.2.2.1; have hs54 := hSt 54 (by unfold SB; omega); obtain ⟨p0, p1, ⟨d0, d1, d2, d3, d4, d5, d6, d7⟩, ⟨t1, t2, t3, t4, t5, t6⟩, p5, p6, p7⟩ := id hs54; have t7 : msh (M') (54 + 7) = some (4, 0) := p5.2.1; have t10 : msh (M') (54 + 10) = some (4, 0) := p6.2.1; obtain ⟨hB, hW, hLw⟩ := id hR.1; obtain ⟨b1, b2, b3, b4, b5, b6, b7, b8, b9, b10, b11, b12, b13, b14, b15⟩ := id hB; obtain ⟨hn, hn2, hat, hAc⟩ := id hCA; obtain ⟨⟨hki, hhi⟩, hIm, ⟨htp, hsz, hsz2⟩, hfa⟩ := id hCR
      have hxr := mostR_r v w p.toNat
      rw [← hx] at hxr
      have es : mostR v w (p + 1).toNat = if x = -1 ∨ amtV v w p > amtV v w x then p else x := by
        rw [show (p + 1).toNat = p.toNat + 1 by omega, mostR_s, hx, show ((p.toNat : Nat) : Int) = p by omega]
      have nx : ∀ (x' : Int) (M4 : Mem), x' = mostR v w (p + 1).toNat → CO M v n A hi vi tp sz fa N 0 0 M4 → p < v 0 → WP G d mX1_most 13 [some (dR 0), some (dI w), some (dI x'), some (dI (p + 1))] [] M4 Q := fun x' M4 q1 q2 q3 => ih _ (by omega) (p + 1) x' M4 rfl (by omega) hw q1 q2
      refine x_iload_n dX1_most_13 rfl rfl ?_
      refine x_aload_n dX1_most_14 rfl rfl ?_
      refine g_getR (kI := 1) rfl dX1_most_15 fX1_22_1 (by first | assumption | first | assumption | (simp (disch := omega) only [shI, shR, shL, shC, shD, shW, sh_V, shN_e, shN_n, crI, crL, crC, crW, crV, crR_e, crR_n, crN_e, crN_n, ciR, ciL, ciD, ciN_e, ciN_n, rdI_e, rdI_n, rdC_i, rdC_o, rdW, rdU_e, rdU_n, rdLW, clI, clR, clC, clD, clW, clV, clN_e, clN_n, clL_e, clL_n]; done) | (simp (disch := omega) only [shI, shR, shL, shC, shD, shW, sh_V, shN_e, shN_n, crI, crL, crC, crW, crV, crR_e, crR_n, crN_e, crN_n, ciR, ciL, ciD, ciN_e, ciN_n, rdI_e, rdI_n, rdC_i, rdC_o, rdW, rdU_e, rdU_n, rdLW, clI, clR, clC, clD, clW, clV, clN_e, clN_n, clL_e, clL_n] <;> first | assumption | rfl | omega)) (by first | assumption | first | assumption | (simp (disch := omega) only [shI, shR, shL, shC, shD, shW, sh_V, shN_e, shN_n, crI, crL, crC, crW, crV, crR_e, crR_n, crN_e, crN_n, ciR, ciL, ciD, ciN_e, ciN_n, rdI_e, rdI_n, rdC_i, rdC_o, rdW, rdU_e, rdU_n, rdLW, clI, clR, clC, clD, clW, clV, clN_e, clN_n, clL_e, clL_n]; done) | (simp (disch := omega) only [shI, shR, shL, shC, shD, shW, sh_V, shN_e, shN_n, crI, crL, crC, crW, crV, crR_e, crR_n, crN_e, crN_n, ciR, ciL, ciD, ciN_e, ciN_n, rdI_e, rdI_n, rdC_i, rdC_o, rdW, rdU_e, rdU_n, rdLW, clI, clR, clC, clD, clW, clV, clN_e, clN_n, clL_e, clL_n] <;> first | assumption | rfl | omega)) ?_
      refine g_getI (kI := 8) rfl dX1_most_18 fX1_101_3 (by first | assumption | first | assumption | (simp (disch := omega) only [shI, shR, shL, shC, shD, shW, sh_V, shN_e, shN_n, crI, crL, crC, crW, crV, crR_e, crR_n, crN_e, crN_n, ciR, ciL, ciD, ciN_e, ciN_n, rdI_e, rdI_n, rdC_i, rdC_o, rdW, rdU_e, rdU_n, rdLW, clI, clR, clC, clD, clW, clV, clN_e, clN_n, clL_e, clL_n]; done) | (simp (disch := omega) only [shI, shR, shL, shC, shD, shW, sh_V, shN_e, shN_n, crI, crL, crC, crW, crV, crR_e, crR_n, crN_e, crN_n, ciR, ciL, ciD, ciN_e, ciN_n, rdI_e, rdI_n, rdC_i, rdC_o, rdW, rdU_e, rdU_n, rdLW, clI, clR, clC, clD, clW, clV, clN_e, clN_n, clL_e, clL_n] <;> first | assumption | rfl | omega)) ?_
      try simp (disch := omega) only [rdI_e, rdI_n, rdC_i, rdC_o, rdW, rdR, rdU_e, rdU_n, rdLW, Int.add_zero, b1]
      refine x_icmp_ge (tgt := 52) dX1_most_21 (by decide) (fun h21 => ?_) (fun h21 => ?_)
      · refine x_iload_n dX1_most_52 rfl rfl ?_
        refine x_ireturn rfl dX1_most_53 ?_
        refine hQ _ _ (Or.inl ⟨_, rfl, hw, ?_, hCO⟩)
        unfold mostAns
        rw [hx, show p = v 0 by omega]
      · refine x_iload_n dX1_most_24 rfl rfl ?_
        refine x_iconst dX1_most_25 rfl ?_
        refine x_icmp_eq (tgt := 44) dX1_most_26 (by decide) (fun h26 => ?_) (fun h26 => ?_)
        · refine x_iload_n dX1_most_44 rfl rfl ?_
          refine x_istore_n (L' := [some _, some _, some _, some _]) dX1_most_45 rfl (by decide) rfl ?_
          first | refine x_iincN (L' := [some _, some _, some _, some _]) dX1_most_46 rfl (by decide) (by unfold i32; omega) rfl ?_ | refine x_iinc (L' := [some _, some _, some _, some _]) dX1_most_46 rfl (by decide) rfl ?_
          refine x_goto (tgt := 13) dX1_most_49 (by decide) ?_
          first
          | (rw [if_pos (Or.inl h26)] at es
             exact nx _ _ es.symm hCO (by omega))
          | (rw [if_pos (Or.inr (by omega))] at es
             exact nx _ _ es.symm (CO.tr hCO.2 (CO.tr f32.2 f38)) (by omega))
          | (rw [if_neg (by omega)] at es
             exact nx _ _ es.symm (CO.tr hCO.2 (CO.tr f32.2 f38)) (by omega))
        · refine x_aload_n dX1_most_29 rfl rfl ?_
          refine x_iload_n dX1_most_30 rfl rfl ?_
          refine x_iload_n dX1_most_31 rfl rfl ?_
          refine g_callI (vs := [_, _, _]) (d' := d - 1) rfl (s_X1_valueOf (by omega) hC (by omega) hw) dX1_most_32 kX1_428 (by omega) (by decide) rfl (Nat.le_of_ble_eq_true rfl) (rcv_o (by first | assumption | first | assumption | (simp (disch := omega) only [shI, shR, shL, shC, shD, shW, sh_V, shN_e, shN_n, crI, crL, crC, crW, crV, crR_e, crR_n, crN_e, crN_n, ciR, ciL, ciD, ciN_e, ciN_n, rdI_e, rdI_n, rdC_i, rdC_o, rdW, rdU_e, rdU_n, rdLW, clI, clR, clC, clD, clW, clV, clN_e, clN_n, clL_e, clL_n]; done) | (simp (disch := omega) only [shI, shR, shL, shC, shD, shW, sh_V, shN_e, shN_n, crI, crL, crC, crW, crV, crR_e, crR_n, crN_e, crN_n, ciR, ciL, ciD, ciN_e, ciN_n, rdI_e, rdI_n, rdC_i, rdC_o, rdW, rdU_e, rdU_n, rdLW, clI, clR, clC, clD, clW, clV, clN_e, clN_n, clL_e, clL_n] <;> first | assumption | rfl | omega)) rfl) (fun x32 M32 h32 => ?_)
          obtain ⟨e32, f32⟩ := h32
          subst e32
          have s0 : msh M32 0 = some (1, 0) := f32.1.1.1.1.1
          refine x_aload_n dX1_most_35 rfl rfl ?_
          refine x_iload_n dX1_most_36 rfl rfl ?_
          refine x_iload_n dX1_most_37 rfl rfl ?_
          refine g_callI (vs := [_, _, _]) (d' := d - 1) rfl (s_X1_valueOf (by omega) f32.1 (by omega) hw) dX1_most_38 kX1_428 (by omega) (by decide) rfl (Nat.le_of_ble_eq_true rfl) (rcv_o (by first | assumption | first | assumption | (simp (disch := omega) only [shI, shR, shL, shC, shD, shW, sh_V, shN_e, shN_n, crI, crL, crC, crW, crV, crR_e, crR_n, crN_e, crN_n, ciR, ciL, ciD, ciN_e, ciN_n, rdI_e, rdI_n, rdC_i, rdC_o, rdW, rdU_e, rdU_n, rdLW, clI, clR, clC, clD, clW, clV, clN_e, clN_n, clL_e, clL_n]; done) | (simp (disch := omega) only [shI, shR, shL, shC, shD, shW, sh_V, shN_e, shN_n, crI, crL, crC, crW, crV, crR_e, crR_n, crN_e, crN_n, ciR, ciL, ciD, ciN_e, ciN_n, rdI_e, rdI_n, rdC_i, rdC_o, rdW, rdU_e, rdU_n, rdLW, clI, clR, clC, clD, clW, clV, clN_e, clN_n, clL_e, clL_n] <;> first | assumption | rfl | omega)) rfl) (fun x38 M38 h38 => ?_)
          obtain ⟨e38, f38⟩ := h38
          subst e38
          refine x_icmp_le (tgt := 46) dX1_most_41 (by decide) (fun h41 => ?_) (fun h41 => ?_)
          · first | refine x_iincN (L' := [some _, some _, some _, some _]) dX1_most_46 rfl (by decide) (by unfold i32; omega) rfl ?_ | refine x_iinc (L' := [some _, some _, some _, some _]) dX1_most_46 rfl (by decide) rfl ?_
            refine x_goto (tgt := 13) dX1_most_49 (by decide) ?_
            first
            | (rw [if_pos (Or.inl h26)] at es
               exact nx _ _ es.symm hCO (by omega))
            | (rw [if_pos (Or.inr (by omega))] at es
               exact nx _ _ es.symm (CO.tr hCO.2 (CO.tr f32.2 f38)) (by omega))
            | (rw [if_neg (by omega)] at es
               exact nx _ _ es.symm (CO.tr hCO.2 (CO.tr f32.2 f38)) (by omega))
          · refine x_iload_n dX1_most_44 rfl rfl ?_
            refine x_istore_n (L' := [some _, some _, some _, some _]) dX1_most_45 rfl (by decide) rfl ?_
            first | refine x_iincN (L' := [some _, some _, some _, some _]) dX1_most_46 rfl (by decide) (by unfold i32; omega) rfl ?_ | refine x_iinc (L' := [some _, some _, some _, some _]) dX1_most_46 rfl (by decide) rfl ?_
            refine x_goto (tgt := 13) dX1_most_49 (by decide) ?_
            first
            | (rw [if_pos (Or.inl h26)] at es
               exact nx _ _ es.symm hCO (by omega))
            | (rw [if_pos (Or.inr (by omega))] at es
               exact nx _ _ es.symm (CO.tr hCO.2 (CO.tr f32.2 f38)) (by omega))
            | (rw [if_neg (by omega)] at es
               exact nx _ _ es.symm (CO.tr hCO.2 (CO.tr f32.2 f38)) (by omega))
  refine x_iload_n dX1_most_0 rfl rfl ?_
  refine x_iconst dX1_most_1 rfl ?_
  refine x_iconst dX1_most_2 rfl ?_
  refine g_callI (vs := [_, _, _]) (d' := d - 1) rfl (s_X1_isIn (by omega)) dX1_most_3 kX1_104 (by omega) (by decide) rfl (Nat.le_of_ble_eq_true rfl) (rcv_n) (fun x3 M3 h3 => ?_)
  obtain ⟨e3, f3⟩ := h3
  have f3' := f3.symm
  subst f3'
  subst e3
  refine g_callNX (vs := [_]) (d' := d - 1) rfl (s_X1_thereIs (by omega) (by first | omega | exact vP_r _)) dX1_most_6 kX1_281 (by omega) (by decide) rfl (Nat.le_of_ble_eq_true rfl) (rcv_n) (fun M6 h6 => ?_) (fun a6 E6 M6 h6 => ?_)
  · obtain ⟨q6, e6⟩ := h6
    subst e6
    try simp only [vP_0, vP_1, vP_n0, vP_n1, Classical.not_not] at q6
    refine x_iconst dX1_most_9 rfl ?_
    refine x_istore_n (L' := [some _, some _, some _, none]) dX1_most_10 rfl (by decide) rfl ?_
    refine x_iconst dX1_most_11 rfl ?_
    refine x_istore_n (L' := [some _, some _, some _, some _]) dX1_most_12 rfl (by decide) rfl ?_
    exact lp _ 0 (-1) M rfl (by have := hC0.2.1.1.1.1.1; omega) q6 rfl (CO.r hC0)
  · obtain ⟨q6, eE6, eM6⟩ := h6
    subst eE6
    subst eM6
    rw [vP_0] at q6
    exact th_nil rfl (hQ _ _ (Or.inr ⟨_, _, rfl, CO.xx hC, q6, rfl⟩))
end X1

