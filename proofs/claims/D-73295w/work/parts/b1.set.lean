/-! GuestView: clashes, twins, sets in peace -/
theorem tchE {f : Ci} {o p kind n : Int} {v : Vw} (h : RelO f o v p) : vP (tch (f o 3) (f (o + 1)) (f (o + 2)) kind n) = vP (tch (opN v p) (opK v p) (opX v p) kind n) := by
  obtain ⟨h1, h2, h3, h4⟩ := h
  refine vP_c ⟨?_, ?_⟩
  · rintro ⟨i, i0, i1, i2, i3⟩
    rw [h1] at i1
    exact ⟨i, i0, i1, (h4 i i0 i1).1.symm.trans i2, (h4 i i0 i1).2.symm.trans i3⟩
  · rintro ⟨i, i0, i1, i2, i3⟩
    exact ⟨i, i0, by rw [h1]; exact i1, (h4 i i0 i1).1.trans i2, (h4 i i0 i1).2.trans i3⟩
section X1
variable {G : GW} {d : Nat} {M M1 : Mem} {a b c e k n x y op w st hi sz fa N i p T s : Int} {v vi : Vw} {A : Int → Vw} {tp : Int → Int}
theorem s_X1_areClashing (hd : 12 ≤ d) (hC : CI M v n A hi vi tp sz fa N) (ha : 0 ≤ a ∧ a < v 0) (hb : 0 ≤ b ∧ b < v 0) : CS G d mX1_areClashing [dR 0, dI a, dI b] M (pur M (vP (clashV v a b))) := by
  obtain ⟨hC1, hC54, hCA, hCR⟩ := id hC; obtain ⟨hS, hTab, hTx, hLn, hSk, hnx⟩ := id hC1; obtain ⟨hA, hL, hR⟩ := id hC54; obtain ⟨⟨s0, s199, s200, s201, s202, s203⟩, ⟨c0, c1, c2, c3, c4, c5, c6, c7, c8, c9, c10, c11, c12⟩, c203, hSt, m189, m191, g193, g196, ⟨⟨r2, r3, r4, r5, r6, r7, r53⟩, ⟨w0, w1, w2, w3, w4, w5, w6⟩, wx1, wx2, wx3⟩⟩ := id hS; have hv := hA.1; have hv8 := hv.n8; have hv0 := hv.1.1; have hv3 := hv.2.2.2.1; have hs54 := hSt 54 (by unfold SB; omega); obtain ⟨p0, p1, ⟨d0, d1, d2, d3, d4, d5, d6, d7⟩, ⟨t1, t2, t3, t4, t5, t6⟩, p5, p6, p7⟩ := id hs54; have t7 : msh M (54 + 7) = some (4, 0) := p5.2.1; have t10 : msh M (54 + 10) = some (4, 0) := p6.2.1; obtain ⟨hB, hW, hLw⟩ := id hR.1; obtain ⟨b1, b2, b3, b4, b5, b6, b7, b8, b9, b10, b11, b12, b13, b14, b15⟩ := id hB; obtain ⟨hn, hn2, hat, hAc⟩ := id hCA; obtain ⟨⟨hki, hhi⟩, hIm, ⟨htp, hsz, hsz2⟩, hfa⟩ := id hCR
  obtain ⟨wa1, wa2⟩ := p7 a ha.1 (by omega)
  obtain ⟨wb1, wb2⟩ := p7 b hb.1 (by omega)
  have wa3 := wa2.2.1
  have wb3 := wb2.2.1
  have hRa := b14 a ha.1 ha.2
  have hRb := b14 b hb.1 hb.2
  have ra1 := hRa.1
  have rb1 := hRb.1
  have oa := (hv.op a ha.1 ha.2).1
  have ob := (hv.op b hb.1 hb.2).1
  refine CS.mkQ (by decide) (Nat.le_of_ble_eq_true rfl) fun Q hQ => ?_
  have loop : ∀ (t : Nat) (k y : Int), (8 - k).toNat = t → (0 ≤ k) → (k ≤ 8) → (y = vP (clK v a b k)) → WP G d mX1_areClashing 5 [some (dR 0), some (dI a), some (dI b), some (dI y), some (dI k), none, none] [] (M) Q := by
    intro t
    induction t using Nat.strongRecOn with
    | _ t ih =>
      intro k y ht h0 h1 hy
      have hy01 : y = 0 ∨ y = 1 := by rw [hy]; exact vP_r _
      refine x_iload dX1_areClashing_5 rfl ?_
      refine x_bipush dX1_areClashing_7 rfl ?_
      refine x_icmp_ge (tgt := 116) dX1_areClashing_9 (by decide) (fun h9 => ?_) (fun h9 => ?_)
      · refine x_iload_n dX1_areClashing_116 rfl rfl ?_
        refine x_zreturn (by exact hy01) rfl dX1_areClashing_117 ?_
        refine hQ _ _ ⟨_, rfl, ?_, rfl⟩
        rw [hy, show k = 8 by omega]
        rfl
      · refine x_aload_n dX1_areClashing_12 rfl rfl ?_
        refine g_getR (kI := 1) rfl dX1_areClashing_13 fX1_22_1 (by first | assumption | first | assumption | (simp (disch := omega) only [shI, shR, shL, shC, shD, shW, sh_V, shN_e, shN_n, crI, crL, crC, crW, crV, crR_e, crR_n, crN_e, crN_n, ciR, ciL, ciD, ciN_e, ciN_n, rdI_e, rdI_n, rdC_i, rdC_o, rdW, rdU_e, rdU_n, rdLW, clI, clR, clC, clD, clW, clV, clN_e, clN_n, clL_e, clL_n]; done) | (simp (disch := omega) only [shI, shR, shL, shC, shD, shW, sh_V, shN_e, shN_n, crI, crL, crC, crW, crV, crR_e, crR_n, crN_e, crN_n, ciR, ciL, ciD, ciN_e, ciN_n, rdI_e, rdI_n, rdC_i, rdC_o, rdW, rdU_e, rdU_n, rdLW, clI, clR, clC, clD, clW, clV, clN_e, clN_n, clL_e, clL_n] <;> first | assumption | rfl | omega)) (by first | assumption | first | assumption | (simp (disch := omega) only [shI, shR, shL, shC, shD, shW, sh_V, shN_e, shN_n, crI, crL, crC, crW, crV, crR_e, crR_n, crN_e, crN_n, ciR, ciL, ciD, ciN_e, ciN_n, rdI_e, rdI_n, rdC_i, rdC_o, rdW, rdU_e, rdU_n, rdLW, clI, clR, clC, clD, clW, clV, clN_e, clN_n, clL_e, clL_n]; done) | (simp (disch := omega) only [shI, shR, shL, shC, shD, shW, sh_V, shN_e, shN_n, crI, crL, crC, crW, crV, crR_e, crR_n, crN_e, crN_n, ciR, ciL, ciD, ciN_e, ciN_n, rdI_e, rdI_n, rdC_i, rdC_o, rdW, rdU_e, rdU_n, rdLW, clI, clR, clC, clD, clW, clV, clN_e, clN_n, clL_e, clL_n] <;> first | assumption | rfl | omega)) ?_
        refine g_getR (kI := 0) rfl dX1_areClashing_16 fX1_112_3 (by first | assumption | first | assumption | (simp (disch := omega) only [shI, shR, shL, shC, shD, shW, sh_V, shN_e, shN_n, crI, crL, crC, crW, crV, crR_e, crR_n, crN_e, crN_n, ciR, ciL, ciD, ciN_e, ciN_n, rdI_e, rdI_n, rdC_i, rdC_o, rdW, rdU_e, rdU_n, rdLW, clI, clR, clC, clD, clW, clV, clN_e, clN_n, clL_e, clL_n]; done) | (simp (disch := omega) only [shI, shR, shL, shC, shD, shW, sh_V, shN_e, shN_n, crI, crL, crC, crW, crV, crR_e, crR_n, crN_e, crN_n, ciR, ciL, ciD, ciN_e, ciN_n, rdI_e, rdI_n, rdC_i, rdC_o, rdW, rdU_e, rdU_n, rdLW, clI, clR, clC, clD, clW, clV, clN_e, clN_n, clL_e, clL_n] <;> first | assumption | rfl | omega)) (by first | assumption | first | assumption | (simp (disch := omega) only [shI, shR, shL, shC, shD, shW, sh_V, shN_e, shN_n, crI, crL, crC, crW, crV, crR_e, crR_n, crN_e, crN_n, ciR, ciL, ciD, ciN_e, ciN_n, rdI_e, rdI_n, rdC_i, rdC_o, rdW, rdU_e, rdU_n, rdLW, clI, clR, clC, clD, clW, clV, clN_e, clN_n, clL_e, clL_n]; done) | (simp (disch := omega) only [shI, shR, shL, shC, shD, shW, sh_V, shN_e, shN_n, crI, crL, crC, crW, crV, crR_e, crR_n, crN_e, crN_n, ciR, ciL, ciD, ciN_e, ciN_n, rdI_e, rdI_n, rdC_i, rdC_o, rdW, rdU_e, rdU_n, rdLW, clI, clR, clC, clD, clW, clV, clN_e, clN_n, clL_e, clL_n] <;> first | assumption | rfl | omega)) ?_
        refine x_iload_n dX1_areClashing_19 rfl rfl ?_
        refine x_aald (t := 126) rfl (by decide) dX1_areClashing_20 (by first | assumption | first | assumption | (simp (disch := omega) only [shI, shR, shL, shC, shD, shW, sh_V, shN_e, shN_n, crI, crL, crC, crW, crV, crR_e, crR_n, crN_e, crN_n, ciR, ciL, ciD, ciN_e, ciN_n, rdI_e, rdI_n, rdC_i, rdC_o, rdW, rdU_e, rdU_n, rdLW, clI, clR, clC, clD, clW, clV, clN_e, clN_n, clL_e, clL_n]; done) | (simp (disch := omega) only [shI, shR, shL, shC, shD, shW, sh_V, shN_e, shN_n, crI, crL, crC, crW, crV, crR_e, crR_n, crN_e, crN_n, ciR, ciL, ciD, ciN_e, ciN_n, rdI_e, rdI_n, rdC_i, rdC_o, rdW, rdU_e, rdU_n, rdLW, clI, clR, clC, clD, clW, clV, clN_e, clN_n, clL_e, clL_n] <;> first | assumption | rfl | omega)) (by omega) (by omega) (by first | assumption | first | assumption | (simp (disch := omega) only [shI, shR, shL, shC, shD, shW, sh_V, shN_e, shN_n, crI, crL, crC, crW, crV, crR_e, crR_n, crN_e, crN_n, ciR, ciL, ciD, ciN_e, ciN_n, rdI_e, rdI_n, rdC_i, rdC_o, rdW, rdU_e, rdU_n, rdLW, clI, clR, clC, clD, clW, clV, clN_e, clN_n, clL_e, clL_n]; done) | (simp (disch := omega) only [shI, shR, shL, shC, shD, shW, sh_V, shN_e, shN_n, crI, crL, crC, crW, crV, crR_e, crR_n, crN_e, crN_n, ciR, ciL, ciD, ciN_e, ciN_n, rdI_e, rdI_n, rdC_i, rdC_o, rdW, rdU_e, rdU_n, rdLW, clI, clR, clC, clD, clW, clV, clN_e, clN_n, clL_e, clL_n] <;> first | assumption | rfl | omega)) ?_
        refine x_iconst dX1_areClashing_21 rfl ?_
        refine x_iload dX1_areClashing_22 rfl ?_
        refine g_callI (vs := [_, _, _]) (d' := d - 1) rfl (s_X6_touches (by omega) wa2 (by omega)) dX1_areClashing_24 kX1_381 (by omega) (by decide) rfl (Nat.le_of_ble_eq_true rfl) (rcv_o (by first | assumption | first | assumption | (simp (disch := omega) only [shI, shR, shL, shC, shD, shW, sh_V, shN_e, shN_n, crI, crL, crC, crW, crV, crR_e, crR_n, crN_e, crN_n, ciR, ciL, ciD, ciN_e, ciN_n, rdI_e, rdI_n, rdC_i, rdC_o, rdW, rdU_e, rdU_n, rdLW, clI, clR, clC, clD, clW, clV, clN_e, clN_n, clL_e, clL_n]; done) | (simp (disch := omega) only [shI, shR, shL, shC, shD, shW, sh_V, shN_e, shN_n, crI, crL, crC, crW, crV, crR_e, crR_n, crN_e, crN_n, ciR, ciL, ciD, ciN_e, ciN_n, rdI_e, rdI_n, rdC_i, rdC_o, rdW, rdU_e, rdU_n, rdLW, clI, clR, clC, clD, clW, clV, clN_e, clN_n, clL_e, clL_n] <;> first | assumption | rfl | omega)) rfl) (fun x24 M24 h24 => ?_)
        obtain ⟨e24, f24⟩ := h24
        have f24' := f24.symm
        subst f24'
        rw [tchE hRa] at e24
        subst e24
        refine x_istore (L' := [some _, some _, some _, some _, some _, some _, none]) dX1_areClashing_27 (by decide) rfl ?_
        refine x_aload_n dX1_areClashing_29 rfl rfl ?_
        refine g_getR (kI := 1) rfl dX1_areClashing_30 fX1_22_1 (by first | assumption | first | assumption | (simp (disch := omega) only [shI, shR, shL, shC, shD, shW, sh_V, shN_e, shN_n, crI, crL, crC, crW, crV, crR_e, crR_n, crN_e, crN_n, ciR, ciL, ciD, ciN_e, ciN_n, rdI_e, rdI_n, rdC_i, rdC_o, rdW, rdU_e, rdU_n, rdLW, clI, clR, clC, clD, clW, clV, clN_e, clN_n, clL_e, clL_n]; done) | (simp (disch := omega) only [shI, shR, shL, shC, shD, shW, sh_V, shN_e, shN_n, crI, crL, crC, crW, crV, crR_e, crR_n, crN_e, crN_n, ciR, ciL, ciD, ciN_e, ciN_n, rdI_e, rdI_n, rdC_i, rdC_o, rdW, rdU_e, rdU_n, rdLW, clI, clR, clC, clD, clW, clV, clN_e, clN_n, clL_e, clL_n] <;> first | assumption | rfl | omega)) (by first | assumption | first | assumption | (simp (disch := omega) only [shI, shR, shL, shC, shD, shW, sh_V, shN_e, shN_n, crI, crL, crC, crW, crV, crR_e, crR_n, crN_e, crN_n, ciR, ciL, ciD, ciN_e, ciN_n, rdI_e, rdI_n, rdC_i, rdC_o, rdW, rdU_e, rdU_n, rdLW, clI, clR, clC, clD, clW, clV, clN_e, clN_n, clL_e, clL_n]; done) | (simp (disch := omega) only [shI, shR, shL, shC, shD, shW, sh_V, shN_e, shN_n, crI, crL, crC, crW, crV, crR_e, crR_n, crN_e, crN_n, ciR, ciL, ciD, ciN_e, ciN_n, rdI_e, rdI_n, rdC_i, rdC_o, rdW, rdU_e, rdU_n, rdLW, clI, clR, clC, clD, clW, clV, clN_e, clN_n, clL_e, clL_n] <;> first | assumption | rfl | omega)) ?_
        refine g_getR (kI := 0) rfl dX1_areClashing_33 fX1_112_3 (by first | assumption | first | assumption | (simp (disch := omega) only [shI, shR, shL, shC, shD, shW, sh_V, shN_e, shN_n, crI, crL, crC, crW, crV, crR_e, crR_n, crN_e, crN_n, ciR, ciL, ciD, ciN_e, ciN_n, rdI_e, rdI_n, rdC_i, rdC_o, rdW, rdU_e, rdU_n, rdLW, clI, clR, clC, clD, clW, clV, clN_e, clN_n, clL_e, clL_n]; done) | (simp (disch := omega) only [shI, shR, shL, shC, shD, shW, sh_V, shN_e, shN_n, crI, crL, crC, crW, crV, crR_e, crR_n, crN_e, crN_n, ciR, ciL, ciD, ciN_e, ciN_n, rdI_e, rdI_n, rdC_i, rdC_o, rdW, rdU_e, rdU_n, rdLW, clI, clR, clC, clD, clW, clV, clN_e, clN_n, clL_e, clL_n] <;> first | assumption | rfl | omega)) (by first | assumption | first | assumption | (simp (disch := omega) only [shI, shR, shL, shC, shD, shW, sh_V, shN_e, shN_n, crI, crL, crC, crW, crV, crR_e, crR_n, crN_e, crN_n, ciR, ciL, ciD, ciN_e, ciN_n, rdI_e, rdI_n, rdC_i, rdC_o, rdW, rdU_e, rdU_n, rdLW, clI, clR, clC, clD, clW, clV, clN_e, clN_n, clL_e, clL_n]; done) | (simp (disch := omega) only [shI, shR, shL, shC, shD, shW, sh_V, shN_e, shN_n, crI, crL, crC, crW, crV, crR_e, crR_n, crN_e, crN_n, ciR, ciL, ciD, ciN_e, ciN_n, rdI_e, rdI_n, rdC_i, rdC_o, rdW, rdU_e, rdU_n, rdLW, clI, clR, clC, clD, clW, clV, clN_e, clN_n, clL_e, clL_n] <;> first | assumption | rfl | omega)) ?_
        refine x_iload_n dX1_areClashing_36 rfl rfl ?_
        refine x_aald (t := 126) rfl (by decide) dX1_areClashing_37 (by first | assumption | first | assumption | (simp (disch := omega) only [shI, shR, shL, shC, shD, shW, sh_V, shN_e, shN_n, crI, crL, crC, crW, crV, crR_e, crR_n, crN_e, crN_n, ciR, ciL, ciD, ciN_e, ciN_n, rdI_e, rdI_n, rdC_i, rdC_o, rdW, rdU_e, rdU_n, rdLW, clI, clR, clC, clD, clW, clV, clN_e, clN_n, clL_e, clL_n]; done) | (simp (disch := omega) only [shI, shR, shL, shC, shD, shW, sh_V, shN_e, shN_n, crI, crL, crC, crW, crV, crR_e, crR_n, crN_e, crN_n, ciR, ciL, ciD, ciN_e, ciN_n, rdI_e, rdI_n, rdC_i, rdC_o, rdW, rdU_e, rdU_n, rdLW, clI, clR, clC, clD, clW, clV, clN_e, clN_n, clL_e, clL_n] <;> first | assumption | rfl | omega)) (by omega) (by omega) (by first | assumption | first | assumption | (simp (disch := omega) only [shI, shR, shL, shC, shD, shW, sh_V, shN_e, shN_n, crI, crL, crC, crW, crV, crR_e, crR_n, crN_e, crN_n, ciR, ciL, ciD, ciN_e, ciN_n, rdI_e, rdI_n, rdC_i, rdC_o, rdW, rdU_e, rdU_n, rdLW, clI, clR, clC, clD, clW, clV, clN_e, clN_n, clL_e, clL_n]; done) | (simp (disch := omega) only [shI, shR, shL, shC, shD, shW, sh_V, shN_e, shN_n, crI, crL, crC, crW, crV, crR_e, crR_n, crN_e, crN_n, ciR, ciL, ciD, ciN_e, ciN_n, rdI_e, rdI_n, rdC_i, rdC_o, rdW, rdU_e, rdU_n, rdLW, clI, clR, clC, clD, clW, clV, clN_e, clN_n, clL_e, clL_n] <;> first | assumption | rfl | omega)) ?_
        refine x_iconst dX1_areClashing_38 rfl ?_
        refine x_iload dX1_areClashing_39 rfl ?_
        refine g_callI (vs := [_, _, _]) (d' := d - 1) rfl (s_X6_touches (by omega) wb2 (by omega)) dX1_areClashing_41 kX1_381 (by omega) (by decide) rfl (Nat.le_of_ble_eq_true rfl) (rcv_o (by first | assumption | first | assumption | (simp (disch := omega) only [shI, shR, shL, shC, shD, shW, sh_V, shN_e, shN_n, crI, crL, crC, crW, crV, crR_e, crR_n, crN_e, crN_n, ciR, ciL, ciD, ciN_e, ciN_n, rdI_e, rdI_n, rdC_i, rdC_o, rdW, rdU_e, rdU_n, rdLW, clI, clR, clC, clD, clW, clV, clN_e, clN_n, clL_e, clL_n]; done) | (simp (disch := omega) only [shI, shR, shL, shC, shD, shW, sh_V, shN_e, shN_n, crI, crL, crC, crW, crV, crR_e, crR_n, crN_e, crN_n, ciR, ciL, ciD, ciN_e, ciN_n, rdI_e, rdI_n, rdC_i, rdC_o, rdW, rdU_e, rdU_n, rdLW, clI, clR, clC, clD, clW, clV, clN_e, clN_n, clL_e, clL_n] <;> first | assumption | rfl | omega)) rfl) (fun x41 M41 h41 => ?_)
        obtain ⟨e41, f41⟩ := h41
        have f41' := f41.symm
        subst f41'
        rw [tchE hRb] at e41
        subst e41
        refine x_istore (L' := [some _, some _, some _, some _, some _, some _, some _]) dX1_areClashing_44 (by decide) rfl ?_
        refine x_iload_n dX1_areClashing_46 rfl rfl ?_
        refine x_iload dX1_areClashing_47 rfl ?_
        refine x_if_eq (tgt := 57) dX1_areClashing_49 (by decide) (fun h49 => ?_) (fun h49 => ?_)
        · try simp only [vP_0, vP_1, vP_n0, vP_n1, Classical.not_not] at h49
          refine x_iload dX1_areClashing_57 rfl ?_
          refine x_if_eq (tgt := 80) dX1_areClashing_59 (by decide) (fun h59 => ?_) (fun h59 => ?_)
          · try simp only [vP_0, vP_1, vP_n0, vP_n1, Classical.not_not] at h59
            refine x_iload dX1_areClashing_80 rfl ?_
            refine x_if_eq (tgt := 107) dX1_areClashing_82 (by decide) (fun h82 => ?_) (fun h82 => ?_)
            · try simp only [vP_0, vP_1, vP_n0, vP_n1, Classical.not_not] at h82
              refine x_iconst dX1_areClashing_107 rfl ?_
              refine x_ior dX1_areClashing_108 ?_
              rw [hy, jor_01 (vP_r _) (by first | exact Or.inl rfl | exact Or.inr rfl)]
              refine x_istore_n (L' := [some _, some _, some _, some _, some _, some _, some _]) dX1_areClashing_109 rfl (by decide) rfl ?_
              first | refine x_iincN (L' := [some _, some _, some _, some _, some _, some _, some _]) dX1_areClashing_110 rfl (by decide) (by unfold i32; omega) rfl ?_ | refine x_iinc (L' := [some _, some _, some _, some _, some _, some _, some _]) dX1_areClashing_110 rfl (by decide) rfl ?_
              refine x_goto (tgt := 5) dX1_areClashing_113 (by decide) ?_
              refine x_fgt (by repeat (first | exact trivial | refine ⟨rfl, ?_⟩)) (ih _ (by omega) (k + 1) _ rfl (by omega) (by omega) ?_)
              first
              | exact vP_c (p := vP (clK v a b k) = 1 ∨ (1 : Int) = 1) ⟨fun _ => (clK_s h0).mpr (Or.inr (Or.inl ⟨h49, h54⟩)), fun _ => Or.inr rfl⟩
              | exact vP_c (p := vP (clK v a b k) = 1 ∨ (1 : Int) = 1) ⟨fun _ => (clK_s h0).mpr (Or.inr (Or.inr (Or.inl ⟨h59, h77⟩))), fun _ => Or.inr rfl⟩
              | exact vP_c (p := vP (clK v a b k) = 1 ∨ (1 : Int) = 1) ⟨fun _ => (clK_s h0).mpr (Or.inr (Or.inr (Or.inr ⟨h82, h100⟩))), fun _ => Or.inr rfl⟩
              | (refine vP_c ⟨fun q => (clK_s h0).mpr (Or.inl (q.elim (fun z => vP_1.mp z) fun z => absurd z (by decide))), fun q => Or.inl (vP_1.mpr ?_)⟩
                 rcases (clK_s h0).mp q with q | q
                 · exact q
                 · rcases q with q | q | q
                   · first | exact absurd q.1 h49 | exact absurd q.2 h54
                   · first | exact absurd q.1 h59 | exact absurd q.2 h77
                   · first | exact absurd q.1 h82 | exact absurd q.2 h100)
            · try simp only [vP_0, vP_1, vP_n0, vP_n1, Classical.not_not] at h82
              refine x_aload_n dX1_areClashing_85 rfl rfl ?_
              refine g_getR (kI := 1) rfl dX1_areClashing_86 fX1_22_1 (by first | assumption | first | assumption | (simp (disch := omega) only [shI, shR, shL, shC, shD, shW, sh_V, shN_e, shN_n, crI, crL, crC, crW, crV, crR_e, crR_n, crN_e, crN_n, ciR, ciL, ciD, ciN_e, ciN_n, rdI_e, rdI_n, rdC_i, rdC_o, rdW, rdU_e, rdU_n, rdLW, clI, clR, clC, clD, clW, clV, clN_e, clN_n, clL_e, clL_n]; done) | (simp (disch := omega) only [shI, shR, shL, shC, shD, shW, sh_V, shN_e, shN_n, crI, crL, crC, crW, crV, crR_e, crR_n, crN_e, crN_n, ciR, ciL, ciD, ciN_e, ciN_n, rdI_e, rdI_n, rdC_i, rdC_o, rdW, rdU_e, rdU_n, rdLW, clI, clR, clC, clD, clW, clV, clN_e, clN_n, clL_e, clL_n] <;> first | assumption | rfl | omega)) (by first | assumption | first | assumption | (simp (disch := omega) only [shI, shR, shL, shC, shD, shW, sh_V, shN_e, shN_n, crI, crL, crC, crW, crV, crR_e, crR_n, crN_e, crN_n, ciR, ciL, ciD, ciN_e, ciN_n, rdI_e, rdI_n, rdC_i, rdC_o, rdW, rdU_e, rdU_n, rdLW, clI, clR, clC, clD, clW, clV, clN_e, clN_n, clL_e, clL_n]; done) | (simp (disch := omega) only [shI, shR, shL, shC, shD, shW, sh_V, shN_e, shN_n, crI, crL, crC, crW, crV, crR_e, crR_n, crN_e, crN_n, ciR, ciL, ciD, ciN_e, ciN_n, rdI_e, rdI_n, rdC_i, rdC_o, rdW, rdU_e, rdU_n, rdLW, clI, clR, clC, clD, clW, clV, clN_e, clN_n, clL_e, clL_n] <;> first | assumption | rfl | omega)) ?_
              refine g_getR (kI := 0) rfl dX1_areClashing_89 fX1_112_3 (by first | assumption | first | assumption | (simp (disch := omega) only [shI, shR, shL, shC, shD, shW, sh_V, shN_e, shN_n, crI, crL, crC, crW, crV, crR_e, crR_n, crN_e, crN_n, ciR, ciL, ciD, ciN_e, ciN_n, rdI_e, rdI_n, rdC_i, rdC_o, rdW, rdU_e, rdU_n, rdLW, clI, clR, clC, clD, clW, clV, clN_e, clN_n, clL_e, clL_n]; done) | (simp (disch := omega) only [shI, shR, shL, shC, shD, shW, sh_V, shN_e, shN_n, crI, crL, crC, crW, crV, crR_e, crR_n, crN_e, crN_n, ciR, ciL, ciD, ciN_e, ciN_n, rdI_e, rdI_n, rdC_i, rdC_o, rdW, rdU_e, rdU_n, rdLW, clI, clR, clC, clD, clW, clV, clN_e, clN_n, clL_e, clL_n] <;> first | assumption | rfl | omega)) (by first | assumption | first | assumption | (simp (disch := omega) only [shI, shR, shL, shC, shD, shW, sh_V, shN_e, shN_n, crI, crL, crC, crW, crV, crR_e, crR_n, crN_e, crN_n, ciR, ciL, ciD, ciN_e, ciN_n, rdI_e, rdI_n, rdC_i, rdC_o, rdW, rdU_e, rdU_n, rdLW, clI, clR, clC, clD, clW, clV, clN_e, clN_n, clL_e, clL_n]; done) | (simp (disch := omega) only [shI, shR, shL, shC, shD, shW, sh_V, shN_e, shN_n, crI, crL, crC, crW, crV, crR_e, crR_n, crN_e, crN_n, ciR, ciL, ciD, ciN_e, ciN_n, rdI_e, rdI_n, rdC_i, rdC_o, rdW, rdU_e, rdU_n, rdLW, clI, clR, clC, clD, clW, clV, clN_e, clN_n, clL_e, clL_n] <;> first | assumption | rfl | omega)) ?_
              refine x_iload_n dX1_areClashing_92 rfl rfl ?_
              refine x_aald (t := 126) rfl (by decide) dX1_areClashing_93 (by first | assumption | first | assumption | (simp (disch := omega) only [shI, shR, shL, shC, shD, shW, sh_V, shN_e, shN_n, crI, crL, crC, crW, crV, crR_e, crR_n, crN_e, crN_n, ciR, ciL, ciD, ciN_e, ciN_n, rdI_e, rdI_n, rdC_i, rdC_o, rdW, rdU_e, rdU_n, rdLW, clI, clR, clC, clD, clW, clV, clN_e, clN_n, clL_e, clL_n]; done) | (simp (disch := omega) only [shI, shR, shL, shC, shD, shW, sh_V, shN_e, shN_n, crI, crL, crC, crW, crV, crR_e, crR_n, crN_e, crN_n, ciR, ciL, ciD, ciN_e, ciN_n, rdI_e, rdI_n, rdC_i, rdC_o, rdW, rdU_e, rdU_n, rdLW, clI, clR, clC, clD, clW, clV, clN_e, clN_n, clL_e, clL_n] <;> first | assumption | rfl | omega)) (by omega) (by omega) (by first | assumption | first | assumption | (simp (disch := omega) only [shI, shR, shL, shC, shD, shW, sh_V, shN_e, shN_n, crI, crL, crC, crW, crV, crR_e, crR_n, crN_e, crN_n, ciR, ciL, ciD, ciN_e, ciN_n, rdI_e, rdI_n, rdC_i, rdC_o, rdW, rdU_e, rdU_n, rdLW, clI, clR, clC, clD, clW, clV, clN_e, clN_n, clL_e, clL_n]; done) | (simp (disch := omega) only [shI, shR, shL, shC, shD, shW, sh_V, shN_e, shN_n, crI, crL, crC, crW, crV, crR_e, crR_n, crN_e, crN_n, ciR, ciL, ciD, ciN_e, ciN_n, rdI_e, rdI_n, rdC_i, rdC_o, rdW, rdU_e, rdU_n, rdLW, clI, clR, clC, clD, clW, clV, clN_e, clN_n, clL_e, clL_n] <;> first | assumption | rfl | omega)) ?_
              refine x_iconst dX1_areClashing_94 rfl ?_
              refine x_iload dX1_areClashing_95 rfl ?_
              refine g_callI (vs := [_, _, _]) (d' := d - 1) rfl (s_X6_touches (by omega) wa2 (by omega)) dX1_areClashing_97 kX1_381 (by omega) (by decide) rfl (Nat.le_of_ble_eq_true rfl) (rcv_o (by first | assumption | first | assumption | (simp (disch := omega) only [shI, shR, shL, shC, shD, shW, sh_V, shN_e, shN_n, crI, crL, crC, crW, crV, crR_e, crR_n, crN_e, crN_n, ciR, ciL, ciD, ciN_e, ciN_n, rdI_e, rdI_n, rdC_i, rdC_o, rdW, rdU_e, rdU_n, rdLW, clI, clR, clC, clD, clW, clV, clN_e, clN_n, clL_e, clL_n]; done) | (simp (disch := omega) only [shI, shR, shL, shC, shD, shW, sh_V, shN_e, shN_n, crI, crL, crC, crW, crV, crR_e, crR_n, crN_e, crN_n, ciR, ciL, ciD, ciN_e, ciN_n, rdI_e, rdI_n, rdC_i, rdC_o, rdW, rdU_e, rdU_n, rdLW, clI, clR, clC, clD, clW, clV, clN_e, clN_n, clL_e, clL_n] <;> first | assumption | rfl | omega)) rfl) (fun x97 M97 h97 => ?_)
              obtain ⟨e97, f97⟩ := h97
              have f97' := f97.symm
              subst f97'
              rw [tchE hRa] at e97
              subst e97
              refine x_if_eq (tgt := 107) dX1_areClashing_100 (by decide) (fun h100 => ?_) (fun h100 => ?_)
              · try simp only [vP_0, vP_1, vP_n0, vP_n1, Classical.not_not] at h100
                refine x_iconst dX1_areClashing_107 rfl ?_
                refine x_ior dX1_areClashing_108 ?_
                rw [hy, jor_01 (vP_r _) (by first | exact Or.inl rfl | exact Or.inr rfl)]
                refine x_istore_n (L' := [some _, some _, some _, some _, some _, some _, some _]) dX1_areClashing_109 rfl (by decide) rfl ?_
                first | refine x_iincN (L' := [some _, some _, some _, some _, some _, some _, some _]) dX1_areClashing_110 rfl (by decide) (by unfold i32; omega) rfl ?_ | refine x_iinc (L' := [some _, some _, some _, some _, some _, some _, some _]) dX1_areClashing_110 rfl (by decide) rfl ?_
                refine x_goto (tgt := 5) dX1_areClashing_113 (by decide) ?_
                refine x_fgt (by repeat (first | exact trivial | refine ⟨rfl, ?_⟩)) (ih _ (by omega) (k + 1) _ rfl (by omega) (by omega) ?_)
                first
                | exact vP_c (p := vP (clK v a b k) = 1 ∨ (1 : Int) = 1) ⟨fun _ => (clK_s h0).mpr (Or.inr (Or.inl ⟨h49, h54⟩)), fun _ => Or.inr rfl⟩
                | exact vP_c (p := vP (clK v a b k) = 1 ∨ (1 : Int) = 1) ⟨fun _ => (clK_s h0).mpr (Or.inr (Or.inr (Or.inl ⟨h59, h77⟩))), fun _ => Or.inr rfl⟩
                | exact vP_c (p := vP (clK v a b k) = 1 ∨ (1 : Int) = 1) ⟨fun _ => (clK_s h0).mpr (Or.inr (Or.inr (Or.inr ⟨h82, h100⟩))), fun _ => Or.inr rfl⟩
                | (refine vP_c ⟨fun q => (clK_s h0).mpr (Or.inl (q.elim (fun z => vP_1.mp z) fun z => absurd z (by decide))), fun q => Or.inl (vP_1.mpr ?_)⟩
                   rcases (clK_s h0).mp q with q | q
                   · exact q
                   · rcases q with q | q | q
                     · first | exact absurd q.1 h49 | exact absurd q.2 h54
                     · first | exact absurd q.1 h59 | exact absurd q.2 h77
                     · first | exact absurd q.1 h82 | exact absurd q.2 h100)
              · try simp only [vP_0, vP_1, vP_n0, vP_n1, Classical.not_not] at h100
                refine x_iconst dX1_areClashing_103 rfl ?_
                refine x_goto (tgt := 108) dX1_areClashing_104 (by decide) ?_
                refine x_ior dX1_areClashing_108 ?_
                rw [hy, jor_01 (vP_r _) (by first | exact Or.inl rfl | exact Or.inr rfl)]
                refine x_istore_n (L' := [some _, some _, some _, some _, some _, some _, some _]) dX1_areClashing_109 rfl (by decide) rfl ?_
                first | refine x_iincN (L' := [some _, some _, some _, some _, some _, some _, some _]) dX1_areClashing_110 rfl (by decide) (by unfold i32; omega) rfl ?_ | refine x_iinc (L' := [some _, some _, some _, some _, some _, some _, some _]) dX1_areClashing_110 rfl (by decide) rfl ?_
                refine x_goto (tgt := 5) dX1_areClashing_113 (by decide) ?_
                refine x_fgt (by repeat (first | exact trivial | refine ⟨rfl, ?_⟩)) (ih _ (by omega) (k + 1) _ rfl (by omega) (by omega) ?_)
                first
                | exact vP_c (p := vP (clK v a b k) = 1 ∨ (1 : Int) = 1) ⟨fun _ => (clK_s h0).mpr (Or.inr (Or.inl ⟨h49, h54⟩)), fun _ => Or.inr rfl⟩
                | exact vP_c (p := vP (clK v a b k) = 1 ∨ (1 : Int) = 1) ⟨fun _ => (clK_s h0).mpr (Or.inr (Or.inr (Or.inl ⟨h59, h77⟩))), fun _ => Or.inr rfl⟩
                | exact vP_c (p := vP (clK v a b k) = 1 ∨ (1 : Int) = 1) ⟨fun _ => (clK_s h0).mpr (Or.inr (Or.inr (Or.inr ⟨h82, h100⟩))), fun _ => Or.inr rfl⟩
                | (refine vP_c ⟨fun q => (clK_s h0).mpr (Or.inl (q.elim (fun z => vP_1.mp z) fun z => absurd z (by decide))), fun q => Or.inl (vP_1.mpr ?_)⟩
                   rcases (clK_s h0).mp q with q | q
                   · exact q
                   · rcases q with q | q | q
                     · first | exact absurd q.1 h49 | exact absurd q.2 h54
                     · first | exact absurd q.1 h59 | exact absurd q.2 h77
                     · first | exact absurd q.1 h82 | exact absurd q.2 h100)
          · try simp only [vP_0, vP_1, vP_n0, vP_n1, Classical.not_not] at h59
            refine x_aload_n dX1_areClashing_62 rfl rfl ?_
            refine g_getR (kI := 1) rfl dX1_areClashing_63 fX1_22_1 (by first | assumption | first | assumption | (simp (disch := omega) only [shI, shR, shL, shC, shD, shW, sh_V, shN_e, shN_n, crI, crL, crC, crW, crV, crR_e, crR_n, crN_e, crN_n, ciR, ciL, ciD, ciN_e, ciN_n, rdI_e, rdI_n, rdC_i, rdC_o, rdW, rdU_e, rdU_n, rdLW, clI, clR, clC, clD, clW, clV, clN_e, clN_n, clL_e, clL_n]; done) | (simp (disch := omega) only [shI, shR, shL, shC, shD, shW, sh_V, shN_e, shN_n, crI, crL, crC, crW, crV, crR_e, crR_n, crN_e, crN_n, ciR, ciL, ciD, ciN_e, ciN_n, rdI_e, rdI_n, rdC_i, rdC_o, rdW, rdU_e, rdU_n, rdLW, clI, clR, clC, clD, clW, clV, clN_e, clN_n, clL_e, clL_n] <;> first | assumption | rfl | omega)) (by first | assumption | first | assumption | (simp (disch := omega) only [shI, shR, shL, shC, shD, shW, sh_V, shN_e, shN_n, crI, crL, crC, crW, crV, crR_e, crR_n, crN_e, crN_n, ciR, ciL, ciD, ciN_e, ciN_n, rdI_e, rdI_n, rdC_i, rdC_o, rdW, rdU_e, rdU_n, rdLW, clI, clR, clC, clD, clW, clV, clN_e, clN_n, clL_e, clL_n]; done) | (simp (disch := omega) only [shI, shR, shL, shC, shD, shW, sh_V, shN_e, shN_n, crI, crL, crC, crW, crV, crR_e, crR_n, crN_e, crN_n, ciR, ciL, ciD, ciN_e, ciN_n, rdI_e, rdI_n, rdC_i, rdC_o, rdW, rdU_e, rdU_n, rdLW, clI, clR, clC, clD, clW, clV, clN_e, clN_n, clL_e, clL_n] <;> first | assumption | rfl | omega)) ?_
            refine g_getR (kI := 0) rfl dX1_areClashing_66 fX1_112_3 (by first | assumption | first | assumption | (simp (disch := omega) only [shI, shR, shL, shC, shD, shW, sh_V, shN_e, shN_n, crI, crL, crC, crW, crV, crR_e, crR_n, crN_e, crN_n, ciR, ciL, ciD, ciN_e, ciN_n, rdI_e, rdI_n, rdC_i, rdC_o, rdW, rdU_e, rdU_n, rdLW, clI, clR, clC, clD, clW, clV, clN_e, clN_n, clL_e, clL_n]; done) | (simp (disch := omega) only [shI, shR, shL, shC, shD, shW, sh_V, shN_e, shN_n, crI, crL, crC, crW, crV, crR_e, crR_n, crN_e, crN_n, ciR, ciL, ciD, ciN_e, ciN_n, rdI_e, rdI_n, rdC_i, rdC_o, rdW, rdU_e, rdU_n, rdLW, clI, clR, clC, clD, clW, clV, clN_e, clN_n, clL_e, clL_n] <;> first | assumption | rfl | omega)) (by first | assumption | first | assumption | (simp (disch := omega) only [shI, shR, shL, shC, shD, shW, sh_V, shN_e, shN_n, crI, crL, crC, crW, crV, crR_e, crR_n, crN_e, crN_n, ciR, ciL, ciD, ciN_e, ciN_n, rdI_e, rdI_n, rdC_i, rdC_o, rdW, rdU_e, rdU_n, rdLW, clI, clR, clC, clD, clW, clV, clN_e, clN_n, clL_e, clL_n]; done) | (simp (disch := omega) only [shI, shR, shL, shC, shD, shW, sh_V, shN_e, shN_n, crI, crL, crC, crW, crV, crR_e, crR_n, crN_e, crN_n, ciR, ciL, ciD, ciN_e, ciN_n, rdI_e, rdI_n, rdC_i, rdC_o, rdW, rdU_e, rdU_n, rdLW, clI, clR, clC, clD, clW, clV, clN_e, clN_n, clL_e, clL_n] <;> first | assumption | rfl | omega)) ?_
            refine x_iload_n dX1_areClashing_69 rfl rfl ?_
            refine x_aald (t := 126) rfl (by decide) dX1_areClashing_70 (by first | assumption | first | assumption | (simp (disch := omega) only [shI, shR, shL, shC, shD, shW, sh_V, shN_e, shN_n, crI, crL, crC, crW, crV, crR_e, crR_n, crN_e, crN_n, ciR, ciL, ciD, ciN_e, ciN_n, rdI_e, rdI_n, rdC_i, rdC_o, rdW, rdU_e, rdU_n, rdLW, clI, clR, clC, clD, clW, clV, clN_e, clN_n, clL_e, clL_n]; done) | (simp (disch := omega) only [shI, shR, shL, shC, shD, shW, sh_V, shN_e, shN_n, crI, crL, crC, crW, crV, crR_e, crR_n, crN_e, crN_n, ciR, ciL, ciD, ciN_e, ciN_n, rdI_e, rdI_n, rdC_i, rdC_o, rdW, rdU_e, rdU_n, rdLW, clI, clR, clC, clD, clW, clV, clN_e, clN_n, clL_e, clL_n] <;> first | assumption | rfl | omega)) (by omega) (by omega) (by first | assumption | first | assumption | (simp (disch := omega) only [shI, shR, shL, shC, shD, shW, sh_V, shN_e, shN_n, crI, crL, crC, crW, crV, crR_e, crR_n, crN_e, crN_n, ciR, ciL, ciD, ciN_e, ciN_n, rdI_e, rdI_n, rdC_i, rdC_o, rdW, rdU_e, rdU_n, rdLW, clI, clR, clC, clD, clW, clV, clN_e, clN_n, clL_e, clL_n]; done) | (simp (disch := omega) only [shI, shR, shL, shC, shD, shW, sh_V, shN_e, shN_n, crI, crL, crC, crW, crV, crR_e, crR_n, crN_e, crN_n, ciR, ciL, ciD, ciN_e, ciN_n, rdI_e, rdI_n, rdC_i, rdC_o, rdW, rdU_e, rdU_n, rdLW, clI, clR, clC, clD, clW, clV, clN_e, clN_n, clL_e, clL_n] <;> first | assumption | rfl | omega)) ?_
            refine x_iconst dX1_areClashing_71 rfl ?_
            refine x_iload dX1_areClashing_72 rfl ?_
            refine g_callI (vs := [_, _, _]) (d' := d - 1) rfl (s_X6_touches (by omega) wb2 (by omega)) dX1_areClashing_74 kX1_381 (by omega) (by decide) rfl (Nat.le_of_ble_eq_true rfl) (rcv_o (by first | assumption | first | assumption | (simp (disch := omega) only [shI, shR, shL, shC, shD, shW, sh_V, shN_e, shN_n, crI, crL, crC, crW, crV, crR_e, crR_n, crN_e, crN_n, ciR, ciL, ciD, ciN_e, ciN_n, rdI_e, rdI_n, rdC_i, rdC_o, rdW, rdU_e, rdU_n, rdLW, clI, clR, clC, clD, clW, clV, clN_e, clN_n, clL_e, clL_n]; done) | (simp (disch := omega) only [shI, shR, shL, shC, shD, shW, sh_V, shN_e, shN_n, crI, crL, crC, crW, crV, crR_e, crR_n, crN_e, crN_n, ciR, ciL, ciD, ciN_e, ciN_n, rdI_e, rdI_n, rdC_i, rdC_o, rdW, rdU_e, rdU_n, rdLW, clI, clR, clC, clD, clW, clV, clN_e, clN_n, clL_e, clL_n] <;> first | assumption | rfl | omega)) rfl) (fun x74 M74 h74 => ?_)
            obtain ⟨e74, f74⟩ := h74
            have f74' := f74.symm
            subst f74'
            rw [tchE hRb] at e74
            subst e74
            refine x_if_ne (tgt := 103) dX1_areClashing_77 (by decide) (fun h77 => ?_) (fun h77 => ?_)
            · try simp only [vP_0, vP_1, vP_n0, vP_n1, Classical.not_not] at h77
              refine x_iconst dX1_areClashing_103 rfl ?_
              refine x_goto (tgt := 108) dX1_areClashing_104 (by decide) ?_
              refine x_ior dX1_areClashing_108 ?_
              rw [hy, jor_01 (vP_r _) (by first | exact Or.inl rfl | exact Or.inr rfl)]
              refine x_istore_n (L' := [some _, some _, some _, some _, some _, some _, some _]) dX1_areClashing_109 rfl (by decide) rfl ?_
              first | refine x_iincN (L' := [some _, some _, some _, some _, some _, some _, some _]) dX1_areClashing_110 rfl (by decide) (by unfold i32; omega) rfl ?_ | refine x_iinc (L' := [some _, some _, some _, some _, some _, some _, some _]) dX1_areClashing_110 rfl (by decide) rfl ?_
              refine x_goto (tgt := 5) dX1_areClashing_113 (by decide) ?_
              refine x_fgt (by repeat (first | exact trivial | refine ⟨rfl, ?_⟩)) (ih _ (by omega) (k + 1) _ rfl (by omega) (by omega) ?_)
              first
              | exact vP_c (p := vP (clK v a b k) = 1 ∨ (1 : Int) = 1) ⟨fun _ => (clK_s h0).mpr (Or.inr (Or.inl ⟨h49, h54⟩)), fun _ => Or.inr rfl⟩
              | exact vP_c (p := vP (clK v a b k) = 1 ∨ (1 : Int) = 1) ⟨fun _ => (clK_s h0).mpr (Or.inr (Or.inr (Or.inl ⟨h59, h77⟩))), fun _ => Or.inr rfl⟩
              | exact vP_c (p := vP (clK v a b k) = 1 ∨ (1 : Int) = 1) ⟨fun _ => (clK_s h0).mpr (Or.inr (Or.inr (Or.inr ⟨h82, h100⟩))), fun _ => Or.inr rfl⟩
              | (refine vP_c ⟨fun q => (clK_s h0).mpr (Or.inl (q.elim (fun z => vP_1.mp z) fun z => absurd z (by decide))), fun q => Or.inl (vP_1.mpr ?_)⟩
                 rcases (clK_s h0).mp q with q | q
                 · exact q
                 · rcases q with q | q | q
                   · first | exact absurd q.1 h49 | exact absurd q.2 h54
                   · first | exact absurd q.1 h59 | exact absurd q.2 h77
                   · first | exact absurd q.1 h82 | exact absurd q.2 h100)
            · try simp only [vP_0, vP_1, vP_n0, vP_n1, Classical.not_not] at h77
              refine x_iload dX1_areClashing_80 rfl ?_
              refine x_if_eq (tgt := 107) dX1_areClashing_82 (by decide) (fun h82 => ?_) (fun h82 => ?_)
              · try simp only [vP_0, vP_1, vP_n0, vP_n1, Classical.not_not] at h82
                refine x_iconst dX1_areClashing_107 rfl ?_
                refine x_ior dX1_areClashing_108 ?_
                rw [hy, jor_01 (vP_r _) (by first | exact Or.inl rfl | exact Or.inr rfl)]
                refine x_istore_n (L' := [some _, some _, some _, some _, some _, some _, some _]) dX1_areClashing_109 rfl (by decide) rfl ?_
                first | refine x_iincN (L' := [some _, some _, some _, some _, some _, some _, some _]) dX1_areClashing_110 rfl (by decide) (by unfold i32; omega) rfl ?_ | refine x_iinc (L' := [some _, some _, some _, some _, some _, some _, some _]) dX1_areClashing_110 rfl (by decide) rfl ?_
                refine x_goto (tgt := 5) dX1_areClashing_113 (by decide) ?_
                refine x_fgt (by repeat (first | exact trivial | refine ⟨rfl, ?_⟩)) (ih _ (by omega) (k + 1) _ rfl (by omega) (by omega) ?_)
                first
                | exact vP_c (p := vP (clK v a b k) = 1 ∨ (1 : Int) = 1) ⟨fun _ => (clK_s h0).mpr (Or.inr (Or.inl ⟨h49, h54⟩)), fun _ => Or.inr rfl⟩
                | exact vP_c (p := vP (clK v a b k) = 1 ∨ (1 : Int) = 1) ⟨fun _ => (clK_s h0).mpr (Or.inr (Or.inr (Or.inl ⟨h59, h77⟩))), fun _ => Or.inr rfl⟩
                | exact vP_c (p := vP (clK v a b k) = 1 ∨ (1 : Int) = 1) ⟨fun _ => (clK_s h0).mpr (Or.inr (Or.inr (Or.inr ⟨h82, h100⟩))), fun _ => Or.inr rfl⟩
                | (refine vP_c ⟨fun q => (clK_s h0).mpr (Or.inl (q.elim (fun z => vP_1.mp z) fun z => absurd z (by decide))), fun q => Or.inl (vP_1.mpr ?_)⟩
                   rcases (clK_s h0).mp q with q | q
                   · exact q
                   · rcases q with q | q | q
                     · first | exact absurd q.1 h49 | exact absurd q.2 h54
                     · first | exact absurd q.1 h59 | exact absurd q.2 h77
                     · first | exact absurd q.1 h82 | exact absurd q.2 h100)
              · try simp only [vP_0, vP_1, vP_n0, vP_n1, Classical.not_not] at h82
                refine x_aload_n dX1_areClashing_85 rfl rfl ?_
                refine g_getR (kI := 1) rfl dX1_areClashing_86 fX1_22_1 (by first | assumption | first | assumption | (simp (disch := omega) only [shI, shR, shL, shC, shD, shW, sh_V, shN_e, shN_n, crI, crL, crC, crW, crV, crR_e, crR_n, crN_e, crN_n, ciR, ciL, ciD, ciN_e, ciN_n, rdI_e, rdI_n, rdC_i, rdC_o, rdW, rdU_e, rdU_n, rdLW, clI, clR, clC, clD, clW, clV, clN_e, clN_n, clL_e, clL_n]; done) | (simp (disch := omega) only [shI, shR, shL, shC, shD, shW, sh_V, shN_e, shN_n, crI, crL, crC, crW, crV, crR_e, crR_n, crN_e, crN_n, ciR, ciL, ciD, ciN_e, ciN_n, rdI_e, rdI_n, rdC_i, rdC_o, rdW, rdU_e, rdU_n, rdLW, clI, clR, clC, clD, clW, clV, clN_e, clN_n, clL_e, clL_n] <;> first | assumption | rfl | omega)) (by first | assumption | first | assumption | (simp (disch := omega) only [shI, shR, shL, shC, shD, shW, sh_V, shN_e, shN_n, crI, crL, crC, crW, crV, crR_e, crR_n, crN_e, crN_n, ciR, ciL, ciD, ciN_e, ciN_n, rdI_e, rdI_n, rdC_i, rdC_o, rdW, rdU_e, rdU_n, rdLW, clI, clR, clC, clD, clW, clV, clN_e, clN_n, clL_e, clL_n]; done) | (simp (disch := omega) only [shI, shR, shL, shC, shD, shW, sh_V, shN_e, shN_n, crI, crL, crC, crW, crV, crR_e, crR_n, crN_e, crN_n, ciR, ciL, ciD, ciN_e, ciN_n, rdI_e, rdI_n, rdC_i, rdC_o, rdW, rdU_e, rdU_n, rdLW, clI, clR, clC, clD, clW, clV, clN_e, clN_n, clL_e, clL_n] <;> first | assumption | rfl | omega)) ?_
                refine g_getR (kI := 0) rfl dX1_areClashing_89 fX1_112_3 (by first | assumption | first | assumption | (simp (disch := omega) only [shI, shR, shL, shC, shD, shW, sh_V, shN_e, shN_n, crI, crL, crC, crW, crV, crR_e, crR_n, crN_e, crN_n, ciR, ciL, ciD, ciN_e, ciN_n, rdI_e, rdI_n, rdC_i, rdC_o, rdW, rdU_e, rdU_n, rdLW, clI, clR, clC, clD, clW, clV, clN_e, clN_n, clL_e, clL_n]; done) | (simp (disch := omega) only [shI, shR, shL, shC, shD, shW, sh_V, shN_e, shN_n, crI, crL, crC, crW, crV, crR_e, crR_n, crN_e, crN_n, ciR, ciL, ciD, ciN_e, ciN_n, rdI_e, rdI_n, rdC_i, rdC_o, rdW, rdU_e, rdU_n, rdLW, clI, clR, clC, clD, clW, clV, clN_e, clN_n, clL_e, clL_n] <;> first | assumption | rfl | omega)) (by first | assumption | first | assumption | (simp (disch := omega) only [shI, shR, shL, shC, shD, shW, sh_V, shN_e, shN_n, crI, crL, crC, crW, crV, crR_e, crR_n, crN_e, crN_n, ciR, ciL, ciD, ciN_e, ciN_n, rdI_e, rdI_n, rdC_i, rdC_o, rdW, rdU_e, rdU_n, rdLW, clI, clR, clC, clD, clW, clV, clN_e, clN_n, clL_e, clL_n]; done) | (simp (disch := omega) only [shI, shR, shL, shC, shD, shW, sh_V, shN_e, shN_n, crI, crL, crC, crW, crV, crR_e, crR_n, crN_e, crN_n, ciR, ciL, ciD, ciN_e, ciN_n, rdI_e, rdI_n, rdC_i, rdC_o, rdW, rdU_e, rdU_n, rdLW, clI, clR, clC, clD, clW, clV, clN_e, clN_n, clL_e, clL_n] <;> first | assumption | rfl | omega)) ?_
                refine x_iload_n dX1_areClashing_92 rfl rfl ?_
                refine x_aald (t := 126) rfl (by decide) dX1_areClashing_93 (by first | assumption | first | assumption | (simp (disch := omega) only [shI, shR, shL, shC, shD, shW, sh_V, shN_e, shN_n, crI, crL, crC, crW, crV, crR_e, crR_n, crN_e, crN_n, ciR, ciL, ciD, ciN_e, ciN_n, rdI_e, rdI_n, rdC_i, rdC_o, rdW, rdU_e, rdU_n, rdLW, clI, clR, clC, clD, clW, clV, clN_e, clN_n, clL_e, clL_n]; done) | (simp (disch := omega) only [shI, shR, shL, shC, shD, shW, sh_V, shN_e, shN_n, crI, crL, crC, crW, crV, crR_e, crR_n, crN_e, crN_n, ciR, ciL, ciD, ciN_e, ciN_n, rdI_e, rdI_n, rdC_i, rdC_o, rdW, rdU_e, rdU_n, rdLW, clI, clR, clC, clD, clW, clV, clN_e, clN_n, clL_e, clL_n] <;> first | assumption | rfl | omega)) (by omega) (by omega) (by first | assumption | first | assumption | (simp (disch := omega) only [shI, shR, shL, shC, shD, shW, sh_V, shN_e, shN_n, crI, crL, crC, crW, crV, crR_e, crR_n, crN_e, crN_n, ciR, ciL, ciD, ciN_e, ciN_n, rdI_e, rdI_n, rdC_i, rdC_o, rdW, rdU_e, rdU_n, rdLW, clI, clR, clC, clD, clW, clV, clN_e, clN_n, clL_e, clL_n]; done) | (simp (disch := omega) only [shI, shR, shL, shC, shD, shW, sh_V, shN_e, shN_n, crI, crL, crC, crW, crV, crR_e, crR_n, crN_e, crN_n, ciR, ciL, ciD, ciN_e, ciN_n, rdI_e, rdI_n, rdC_i, rdC_o, rdW, rdU_e, rdU_n, rdLW, clI, clR, clC, clD, clW, clV, clN_e, clN_n, clL_e, clL_n] <;> first | assumption | rfl | omega)) ?_
                refine x_iconst dX1_areClashing_94 rfl ?_
                refine x_iload dX1_areClashing_95 rfl ?_
                refine g_callI (vs := [_, _, _]) (d' := d - 1) rfl (s_X6_touches (by omega) wa2 (by omega)) dX1_areClashing_97 kX1_381 (by omega) (by decide) rfl (Nat.le_of_ble_eq_true rfl) (rcv_o (by first | assumption | first | assumption | (simp (disch := omega) only [shI, shR, shL, shC, shD, shW, sh_V, shN_e, shN_n, crI, crL, crC, crW, crV, crR_e, crR_n, crN_e, crN_n, ciR, ciL, ciD, ciN_e, ciN_n, rdI_e, rdI_n, rdC_i, rdC_o, rdW, rdU_e, rdU_n, rdLW, clI, clR, clC, clD, clW, clV, clN_e, clN_n, clL_e, clL_n]; done) | (simp (disch := omega) only [shI, shR, shL, shC, shD, shW, sh_V, shN_e, shN_n, crI, crL, crC, crW, crV, crR_e, crR_n, crN_e, crN_n, ciR, ciL, ciD, ciN_e, ciN_n, rdI_e, rdI_n, rdC_i, rdC_o, rdW, rdU_e, rdU_n, rdLW, clI, clR, clC, clD, clW, clV, clN_e, clN_n, clL_e, clL_n] <;> first | assumption | rfl | omega)) rfl) (fun x97 M97 h97 => ?_)
                obtain ⟨e97, f97⟩ := h97
                have f97' := f97.symm
                subst f97'
                rw [tchE hRa] at e97
                subst e97
                refine x_if_eq (tgt := 107) dX1_areClashing_100 (by decide) (fun h100 => ?_) (fun h100 => ?_)
                · try simp only [vP_0, vP_1, vP_n0, vP_n1, Classical.not_not] at h100
                  refine x_iconst dX1_areClashing_107 rfl ?_
                  refine x_ior dX1_areClashing_108 ?_
                  rw [hy, jor_01 (vP_r _) (by first | exact Or.inl rfl | exact Or.inr rfl)]
                  refine x_istore_n (L' := [some _, some _, some _, some _, some _, some _, some _]) dX1_areClashing_109 rfl (by decide) rfl ?_
                  first | refine x_iincN (L' := [some _, some _, some _, some _, some _, some _, some _]) dX1_areClashing_110 rfl (by decide) (by unfold i32; omega) rfl ?_ | refine x_iinc (L' := [some _, some _, some _, some _, some _, some _, some _]) dX1_areClashing_110 rfl (by decide) rfl ?_
                  refine x_goto (tgt := 5) dX1_areClashing_113 (by decide) ?_
                  refine x_fgt (by repeat (first | exact trivial | refine ⟨rfl, ?_⟩)) (ih _ (by omega) (k + 1) _ rfl (by omega) (by omega) ?_)
                  first
                  | exact vP_c (p := vP (clK v a b k) = 1 ∨ (1 : Int) = 1) ⟨fun _ => (clK_s h0).mpr (Or.inr (Or.inl ⟨h49, h54⟩)), fun _ => Or.inr rfl⟩
                  | exact vP_c (p := vP (clK v a b k) = 1 ∨ (1 : Int) = 1) ⟨fun _ => (clK_s h0).mpr (Or.inr (Or.inr (Or.inl ⟨h59, h77⟩))), fun _ => Or.inr rfl⟩
                  | exact vP_c (p := vP (clK v a b k) = 1 ∨ (1 : Int) = 1) ⟨fun _ => (clK_s h0).mpr (Or.inr (Or.inr (Or.inr ⟨h82, h100⟩))), fun _ => Or.inr rfl⟩
                  | (refine vP_c ⟨fun q => (clK_s h0).mpr (Or.inl (q.elim (fun z => vP_1.mp z) fun z => absurd z (by decide))), fun q => Or.inl (vP_1.mpr ?_)⟩
                     rcases (clK_s h0).mp q with q | q
                     · exact q
                     · rcases q with q | q | q
                       · first | exact absurd q.1 h49 | exact absurd q.2 h54
                       · first | exact absurd q.1 h59 | exact absurd q.2 h77
                       · first | exact absurd q.1 h82 | exact absurd q.2 h100)
                · try simp only [vP_0, vP_1, vP_n0, vP_n1, Classical.not_not] at h100
                  refine x_iconst dX1_areClashing_103 rfl ?_
                  refine x_goto (tgt := 108) dX1_areClashing_104 (by decide) ?_
                  refine x_ior dX1_areClashing_108 ?_
                  rw [hy, jor_01 (vP_r _) (by first | exact Or.inl rfl | exact Or.inr rfl)]
                  refine x_istore_n (L' := [some _, some _, some _, some _, some _, some _, some _]) dX1_areClashing_109 rfl (by decide) rfl ?_
                  first | refine x_iincN (L' := [some _, some _, some _, some _, some _, some _, some _]) dX1_areClashing_110 rfl (by decide) (by unfold i32; omega) rfl ?_ | refine x_iinc (L' := [some _, some _, some _, some _, some _, some _, some _]) dX1_areClashing_110 rfl (by decide) rfl ?_
                  refine x_goto (tgt := 5) dX1_areClashing_113 (by decide) ?_
                  refine x_fgt (by repeat (first | exact trivial | refine ⟨rfl, ?_⟩)) (ih _ (by omega) (k + 1) _ rfl (by omega) (by omega) ?_)
                  first
                  | exact vP_c (p := vP (clK v a b k) = 1 ∨ (1 : Int) = 1) ⟨fun _ => (clK_s h0).mpr (Or.inr (Or.inl ⟨h49, h54⟩)), fun _ => Or.inr rfl⟩
                  | exact vP_c (p := vP (clK v a b k) = 1 ∨ (1 : Int) = 1) ⟨fun _ => (clK_s h0).mpr (Or.inr (Or.inr (Or.inl ⟨h59, h77⟩))), fun _ => Or.inr rfl⟩
                  | exact vP_c (p := vP (clK v a b k) = 1 ∨ (1 : Int) = 1) ⟨fun _ => (clK_s h0).mpr (Or.inr (Or.inr (Or.inr ⟨h82, h100⟩))), fun _ => Or.inr rfl⟩
                  | (refine vP_c ⟨fun q => (clK_s h0).mpr (Or.inl (q.elim (fun z => vP_1.mp z) fun z => absurd z (by decide))), fun q => Or.inl (vP_1.mpr ?_)⟩
                     rcases (clK_s h0).mp q with q | q
                     · exact q
                     · rcases q with q | q | q
                       · first | exact absurd q.1 h49 | exact absurd q.2 h54
                       · first | exact absurd q.1 h59 | exact absurd q.2 h77
                       · first | exact absurd q.1 h82 | exact absurd q.2 h100)
        · try simp only [vP_0, vP_1, vP_n0, vP_n1, Classical.not_not] at h49
          refine x_iload dX1_areClashing_52 rfl ?_
          refine x_if_ne (tgt := 103) dX1_areClashing_54 (by decide) (fun h54 => ?_) (fun h54 => ?_)
          · try simp only [vP_0, vP_1, vP_n0, vP_n1, Classical.not_not] at h54
            refine x_iconst dX1_areClashing_103 rfl ?_
            refine x_goto (tgt := 108) dX1_areClashing_104 (by decide) ?_
            refine x_ior dX1_areClashing_108 ?_
            rw [hy, jor_01 (vP_r _) (by first | exact Or.inl rfl | exact Or.inr rfl)]
            refine x_istore_n (L' := [some _, some _, some _, some _, some _, some _, some _]) dX1_areClashing_109 rfl (by decide) rfl ?_
            first | refine x_iincN (L' := [some _, some _, some _, some _, some _, some _, some _]) dX1_areClashing_110 rfl (by decide) (by unfold i32; omega) rfl ?_ | refine x_iinc (L' := [some _, some _, some _, some _, some _, some _, some _]) dX1_areClashing_110 rfl (by decide) rfl ?_
            refine x_goto (tgt := 5) dX1_areClashing_113 (by decide) ?_
            refine x_fgt (by repeat (first | exact trivial | refine ⟨rfl, ?_⟩)) (ih _ (by omega) (k + 1) _ rfl (by omega) (by omega) ?_)
            first
            | exact vP_c (p := vP (clK v a b k) = 1 ∨ (1 : Int) = 1) ⟨fun _ => (clK_s h0).mpr (Or.inr (Or.inl ⟨h49, h54⟩)), fun _ => Or.inr rfl⟩
            | exact vP_c (p := vP (clK v a b k) = 1 ∨ (1 : Int) = 1) ⟨fun _ => (clK_s h0).mpr (Or.inr (Or.inr (Or.inl ⟨h59, h77⟩))), fun _ => Or.inr rfl⟩
            | exact vP_c (p := vP (clK v a b k) = 1 ∨ (1 : Int) = 1) ⟨fun _ => (clK_s h0).mpr (Or.inr (Or.inr (Or.inr ⟨h82, h100⟩))), fun _ => Or.inr rfl⟩
            | (refine vP_c ⟨fun q => (clK_s h0).mpr (Or.inl (q.elim (fun z => vP_1.mp z) fun z => absurd z (by decide))), fun q => Or.inl (vP_1.mpr ?_)⟩
               rcases (clK_s h0).mp q with q | q
               · exact q
               · rcases q with q | q | q
                 · first | exact absurd q.1 h49 | exact absurd q.2 h54
                 · first | exact absurd q.1 h59 | exact absurd q.2 h77
                 · first | exact absurd q.1 h82 | exact absurd q.2 h100)
          · try simp only [vP_0, vP_1, vP_n0, vP_n1, Classical.not_not] at h54
            refine x_iload dX1_areClashing_57 rfl ?_
            refine x_if_eq (tgt := 80) dX1_areClashing_59 (by decide) (fun h59 => ?_) (fun h59 => ?_)
            · try simp only [vP_0, vP_1, vP_n0, vP_n1, Classical.not_not] at h59
              refine x_iload dX1_areClashing_80 rfl ?_
              refine x_if_eq (tgt := 107) dX1_areClashing_82 (by decide) (fun h82 => ?_) (fun h82 => ?_)
              · try simp only [vP_0, vP_1, vP_n0, vP_n1, Classical.not_not] at h82
                refine x_iconst dX1_areClashing_107 rfl ?_
                refine x_ior dX1_areClashing_108 ?_
                rw [hy, jor_01 (vP_r _) (by first | exact Or.inl rfl | exact Or.inr rfl)]
                refine x_istore_n (L' := [some _, some _, some _, some _, some _, some _, some _]) dX1_areClashing_109 rfl (by decide) rfl ?_
                first | refine x_iincN (L' := [some _, some _, some _, some _, some _, some _, some _]) dX1_areClashing_110 rfl (by decide) (by unfold i32; omega) rfl ?_ | refine x_iinc (L' := [some _, some _, some _, some _, some _, some _, some _]) dX1_areClashing_110 rfl (by decide) rfl ?_
                refine x_goto (tgt := 5) dX1_areClashing_113 (by decide) ?_
                refine x_fgt (by repeat (first | exact trivial | refine ⟨rfl, ?_⟩)) (ih _ (by omega) (k + 1) _ rfl (by omega) (by omega) ?_)
                first
                | exact vP_c (p := vP (clK v a b k) = 1 ∨ (1 : Int) = 1) ⟨fun _ => (clK_s h0).mpr (Or.inr (Or.inl ⟨h49, h54⟩)), fun _ => Or.inr rfl⟩
                | exact vP_c (p := vP (clK v a b k) = 1 ∨ (1 : Int) = 1) ⟨fun _ => (clK_s h0).mpr (Or.inr (Or.inr (Or.inl ⟨h59, h77⟩))), fun _ => Or.inr rfl⟩
                | exact vP_c (p := vP (clK v a b k) = 1 ∨ (1 : Int) = 1) ⟨fun _ => (clK_s h0).mpr (Or.inr (Or.inr (Or.inr ⟨h82, h100⟩))), fun _ => Or.inr rfl⟩
                | (refine vP_c ⟨fun q => (clK_s h0).mpr (Or.inl (q.elim (fun z => vP_1.mp z) fun z => absurd z (by decide))), fun q => Or.inl (vP_1.mpr ?_)⟩
                   rcases (clK_s h0).mp q with q | q
                   · exact q
                   · rcases q with q | q | q
                     · first | exact absurd q.1 h49 | exact absurd q.2 h54
                     · first | exact absurd q.1 h59 | exact absurd q.2 h77
                     · first | exact absurd q.1 h82 | exact absurd q.2 h100)
              · try simp only [vP_0, vP_1, vP_n0, vP_n1, Classical.not_not] at h82
                refine x_aload_n dX1_areClashing_85 rfl rfl ?_
                refine g_getR (kI := 1) rfl dX1_areClashing_86 fX1_22_1 (by first | assumption | first | assumption | (simp (disch := omega) only [shI, shR, shL, shC, shD, shW, sh_V, shN_e, shN_n, crI, crL, crC, crW, crV, crR_e, crR_n, crN_e, crN_n, ciR, ciL, ciD, ciN_e, ciN_n, rdI_e, rdI_n, rdC_i, rdC_o, rdW, rdU_e, rdU_n, rdLW, clI, clR, clC, clD, clW, clV, clN_e, clN_n, clL_e, clL_n]; done) | (simp (disch := omega) only [shI, shR, shL, shC, shD, shW, sh_V, shN_e, shN_n, crI, crL, crC, crW, crV, crR_e, crR_n, crN_e, crN_n, ciR, ciL, ciD, ciN_e, ciN_n, rdI_e, rdI_n, rdC_i, rdC_o, rdW, rdU_e, rdU_n, rdLW, clI, clR, clC, clD, clW, clV, clN_e, clN_n, clL_e, clL_n] <;> first | assumption | rfl | omega)) (by first | assumption | first | assumption | (simp (disch := omega) only [shI, shR, shL, shC, shD, shW, sh_V, shN_e, shN_n, crI, crL, crC, crW, crV, crR_e, crR_n, crN_e, crN_n, ciR, ciL, ciD, ciN_e, ciN_n, rdI_e, rdI_n, rdC_i, rdC_o, rdW, rdU_e, rdU_n, rdLW, clI, clR, clC, clD, clW, clV, clN_e, clN_n, clL_e, clL_n]; done) | (simp (disch := omega) only [shI, shR, shL, shC, shD, shW, sh_V, shN_e, shN_n, crI, crL, crC, crW, crV, crR_e, crR_n, crN_e, crN_n, ciR, ciL, ciD, ciN_e, ciN_n, rdI_e, rdI_n, rdC_i, rdC_o, rdW, rdU_e, rdU_n, rdLW, clI, clR, clC, clD, clW, clV, clN_e, clN_n, clL_e, clL_n] <;> first | assumption | rfl | omega)) ?_
                refine g_getR (kI := 0) rfl dX1_areClashing_89 fX1_112_3 (by first | assumption | first | assumption | (simp (disch := omega) only [shI, shR, shL, shC, shD, shW, sh_V, shN_e, shN_n, crI, crL, crC, crW, crV, crR_e, crR_n, crN_e, crN_n, ciR, ciL, ciD, ciN_e, ciN_n, rdI_e, rdI_n, rdC_i, rdC_o, rdW, rdU_e, rdU_n, rdLW, clI, clR, clC, clD, clW, clV, clN_e, clN_n, clL_e, clL_n]; done) | (simp (disch := omega) only [shI, shR, shL, shC, shD, shW, sh_V, shN_e, shN_n, crI, crL, crC, crW, crV, crR_e, crR_n, crN_e, crN_n, ciR, ciL, ciD, ciN_e, ciN_n, rdI_e, rdI_n, rdC_i, rdC_o, rdW, rdU_e, rdU_n, rdLW, clI, clR, clC, clD, clW, clV, clN_e, clN_n, clL_e, clL_n] <;> first | assumption | rfl | omega)) (by first | assumption | first | assumption | (simp (disch := omega) only [shI, shR, shL, shC, shD, shW, sh_V, shN_e, shN_n, crI, crL, crC, crW, crV, crR_e, crR_n, crN_e, crN_n, ciR, ciL, ciD, ciN_e, ciN_n, rdI_e, rdI_n, rdC_i, rdC_o, rdW, rdU_e, rdU_n, rdLW, clI, clR, clC, clD, clW, clV, clN_e, clN_n, clL_e, clL_n]; done) | (simp (disch := omega) only [shI, shR, shL, shC, shD, shW, sh_V, shN_e, shN_n, crI, crL, crC, crW, crV, crR_e, crR_n, crN_e, crN_n, ciR, ciL, ciD, ciN_e, ciN_n, rdI_e, rdI_n, rdC_i, rdC_o, rdW, rdU_e, rdU_n, rdLW, clI, clR, clC, clD, clW, clV, clN_e, clN_n, clL_e, clL_n] <;> first | assumption | rfl | omega)) ?_
                refine x_iload_n dX1_areClashing_92 rfl rfl ?_
                refine x_aald (t := 126) rfl (by decide) dX1_areClashing_93 (by first | assumption | first | assumption | (simp (disch := omega) only [shI, shR, shL, shC, shD, shW, sh_V, shN_e, shN_n, crI, crL, crC, crW, crV, crR_e, crR_n, crN_e, crN_n, ciR, ciL, ciD, ciN_e, ciN_n, rdI_e, rdI_n, rdC_i, rdC_o, rdW, rdU_e, rdU_n, rdLW, clI, clR, clC, clD, clW, clV, clN_e, clN_n, clL_e, clL_n]; done) | (simp (disch := omega) only [shI, shR, shL, shC, shD, shW, sh_V, shN_e, shN_n, crI, crL, crC, crW, crV, crR_e, crR_n, crN_e, crN_n, ciR, ciL, ciD, ciN_e, ciN_n, rdI_e, rdI_n, rdC_i, rdC_o, rdW, rdU_e, rdU_n, rdLW, clI, clR, clC, clD, clW, clV, clN_e, clN_n, clL_e, clL_n] <;> first | assumption | rfl | omega)) (by omega) (by omega) (by first | assumption | first | assumption | (simp (disch := omega) only [shI, shR, shL, shC, shD, shW, sh_V, shN_e, shN_n, crI, crL, crC, crW, crV, crR_e, crR_n, crN_e, crN_n, ciR, ciL, ciD, ciN_e, ciN_n, rdI_e, rdI_n, rdC_i, rdC_o, rdW, rdU_e, rdU_n, rdLW, clI, clR, clC, clD, clW, clV, clN_e, clN_n, clL_e, clL_n]; done) | (simp (disch := omega) only [shI, shR, shL, shC, shD, shW, sh_V, shN_e, shN_n, crI, crL, crC, crW, crV, crR_e, crR_n, crN_e, crN_n, ciR, ciL, ciD, ciN_e, ciN_n, rdI_e, rdI_n, rdC_i, rdC_o, rdW, rdU_e, rdU_n, rdLW, clI, clR, clC, clD, clW, clV, clN_e, clN_n, clL_e, clL_n] <;> first | assumption | rfl | omega)) ?_
                refine x_iconst dX1_areClashing_94 rfl ?_
                refine x_iload dX1_areClashing_95 rfl ?_
                refine g_callI (vs := [_, _, _]) (d' := d - 1) rfl (s_X6_touches (by omega) wa2 (by omega)) dX1_areClashing_97 kX1_381 (by omega) (by decide) rfl (Nat.le_of_ble_eq_true rfl) (rcv_o (by first | assumption | first | assumption | (simp (disch := omega) only [shI, shR, shL, shC, shD, shW, sh_V, shN_e, shN_n, crI, crL, crC, crW, crV, crR_e, crR_n, crN_e, crN_n, ciR, ciL, ciD, ciN_e, ciN_n, rdI_e, rdI_n, rdC_i, rdC_o, rdW, rdU_e, rdU_n, rdLW, clI, clR, clC, clD, clW, clV, clN_e, clN_n, clL_e, clL_n]; done) | (simp (disch := omega) only [shI, shR, shL, shC, shD, shW, sh_V, shN_e, shN_n, crI, crL, crC, crW, crV, crR_e, crR_n, crN_e, crN_n, ciR, ciL, ciD, ciN_e, ciN_n, rdI_e, rdI_n, rdC_i, rdC_o, rdW, rdU_e, rdU_n, rdLW, clI, clR, clC, clD, clW, clV, clN_e, clN_n, clL_e, clL_n] <;> first | assumption | rfl | omega)) rfl) (fun x97 M97 h97 => ?_)
                obtain ⟨e97, f97⟩ := h97
                have f97' := f97.symm
                subst f97'
                rw [tchE hRa] at e97
                subst e97
                refine x_if_eq (tgt := 107) dX1_areClashing_100 (by decide) (fun h100 => ?_) (fun h100 => ?_)
                · try simp only [vP_0, vP_1, vP_n0, vP_n1, Classical.not_not] at h100
                  refine x_iconst dX1_areClashing_107 rfl ?_
                  refine x_ior dX1_areClashing_108 ?_
                  rw [hy, jor_01 (vP_r _) (by first | exact Or.inl rfl | exact Or.inr rfl)]
                  refine x_istore_n (L' := [some _, some _, some _, some _, some _, some _, some _]) dX1_areClashing_109 rfl (by decide) rfl ?_
                  first | refine x_iincN (L' := [some _, some _, some _, some _, some _, some _, some _]) dX1_areClashing_110 rfl (by decide) (by unfold i32; omega) rfl ?_ | refine x_iinc (L' := [some _, some _, some _, some _, some _, some _, some _]) dX1_areClashing_110 rfl (by decide) rfl ?_
                  refine x_goto (tgt := 5) dX1_areClashing_113 (by decide) ?_
                  refine x_fgt (by repeat (first | exact trivial | refine ⟨rfl, ?_⟩)) (ih _ (by omega) (k + 1) _ rfl (by omega) (by omega) ?_)
                  first
                  | exact vP_c (p := vP (clK v a b k) = 1 ∨ (1 : Int) = 1) ⟨fun _ => (clK_s h0).mpr (Or.inr (Or.inl ⟨h49, h54⟩)), fun _ => Or.inr rfl⟩
                  | exact vP_c (p := vP (clK v a b k) = 1 ∨ (1 : Int) = 1) ⟨fun _ => (clK_s h0).mpr (Or.inr (Or.inr (Or.inl ⟨h59, h77⟩))), fun _ => Or.inr rfl⟩
                  | exact vP_c (p := vP (clK v a b k) = 1 ∨ (1 : Int) = 1) ⟨fun _ => (clK_s h0).mpr (Or.inr (Or.inr (Or.inr ⟨h82, h100⟩))), fun _ => Or.inr rfl⟩
                  | (refine vP_c ⟨fun q => (clK_s h0).mpr (Or.inl (q.elim (fun z => vP_1.mp z) fun z => absurd z (by decide))), fun q => Or.inl (vP_1.mpr ?_)⟩
                     rcases (clK_s h0).mp q with q | q
                     · exact q
                     · rcases q with q | q | q
                       · first | exact absurd q.1 h49 | exact absurd q.2 h54
                       · first | exact absurd q.1 h59 | exact absurd q.2 h77
                       · first | exact absurd q.1 h82 | exact absurd q.2 h100)
                · try simp only [vP_0, vP_1, vP_n0, vP_n1, Classical.not_not] at h100
                  refine x_iconst dX1_areClashing_103 rfl ?_
                  refine x_goto (tgt := 108) dX1_areClashing_104 (by decide) ?_
                  refine x_ior dX1_areClashing_108 ?_
                  rw [hy, jor_01 (vP_r _) (by first | exact Or.inl rfl | exact Or.inr rfl)]
                  refine x_istore_n (L' := [some _, some _, some _, some _, some _, some _, some _]) dX1_areClashing_109 rfl (by decide) rfl ?_
                  first | refine x_iincN (L' := [some _, some _, some _, some _, some _, some _, some _]) dX1_areClashing_110 rfl (by decide) (by unfold i32; omega) rfl ?_ | refine x_iinc (L' := [some _, some _, some _, some _, some _, some _, some _]) dX1_areClashing_110 rfl (by decide) rfl ?_
                  refine x_goto (tgt := 5) dX1_areClashing_113 (by decide) ?_
                  refine x_fgt (by repeat (first | exact trivial | refine ⟨rfl, ?_⟩)) (ih _ (by omega) (k + 1) _ rfl (by omega) (by omega) ?_)
                  first
                  | exact vP_c (p := vP (clK v a b k) = 1 ∨ (1 : Int) = 1) ⟨fun _ => (clK_s h0).mpr (Or.inr (Or.inl ⟨h49, h54⟩)), fun _ => Or.inr rfl⟩
                  | exact vP_c (p := vP (clK v a b k) = 1 ∨ (1 : Int) = 1) ⟨fun _ => (clK_s h0).mpr (Or.inr (Or.inr (Or.inl ⟨h59, h77⟩))), fun _ => Or.inr rfl⟩
                  | exact vP_c (p := vP (clK v a b k) = 1 ∨ (1 : Int) = 1) ⟨fun _ => (clK_s h0).mpr (Or.inr (Or.inr (Or.inr ⟨h82, h100⟩))), fun _ => Or.inr rfl⟩
                  | (refine vP_c ⟨fun q => (clK_s h0).mpr (Or.inl (q.elim (fun z => vP_1.mp z) fun z => absurd z (by decide))), fun q => Or.inl (vP_1.mpr ?_)⟩
                     rcases (clK_s h0).mp q with q | q
                     · exact q
                     · rcases q with q | q | q
                       · first | exact absurd q.1 h49 | exact absurd q.2 h54
                       · first | exact absurd q.1 h59 | exact absurd q.2 h77
                       · first | exact absurd q.1 h82 | exact absurd q.2 h100)
            · try simp only [vP_0, vP_1, vP_n0, vP_n1, Classical.not_not] at h59
              refine x_aload_n dX1_areClashing_62 rfl rfl ?_
              refine g_getR (kI := 1) rfl dX1_areClashing_63 fX1_22_1 (by first | assumption | first | assumption | (simp (disch := omega) only [shI, shR, shL, shC, shD, shW, sh_V, shN_e, shN_n, crI, crL, crC, crW, crV, crR_e, crR_n, crN_e, crN_n, ciR, ciL, ciD, ciN_e, ciN_n, rdI_e, rdI_n, rdC_i, rdC_o, rdW, rdU_e, rdU_n, rdLW, clI, clR, clC, clD, clW, clV, clN_e, clN_n, clL_e, clL_n]; done) | (simp (disch := omega) only [shI, shR, shL, shC, shD, shW, sh_V, shN_e, shN_n, crI, crL, crC, crW, crV, crR_e, crR_n, crN_e, crN_n, ciR, ciL, ciD, ciN_e, ciN_n, rdI_e, rdI_n, rdC_i, rdC_o, rdW, rdU_e, rdU_n, rdLW, clI, clR, clC, clD, clW, clV, clN_e, clN_n, clL_e, clL_n] <;> first | assumption | rfl | omega)) (by first | assumption | first | assumption | (simp (disch := omega) only [shI, shR, shL, shC, shD, shW, sh_V, shN_e, shN_n, crI, crL, crC, crW, crV, crR_e, crR_n, crN_e, crN_n, ciR, ciL, ciD, ciN_e, ciN_n, rdI_e, rdI_n, rdC_i, rdC_o, rdW, rdU_e, rdU_n, rdLW, clI, clR, clC, clD, clW, clV, clN_e, clN_n, clL_e, clL_n]; done) | (simp (disch := omega) only [shI, shR, shL, shC, shD, shW, sh_V, shN_e, shN_n, crI, crL, crC, crW, crV, crR_e, crR_n, crN_e, crN_n, ciR, ciL, ciD, ciN_e, ciN_n, rdI_e, rdI_n, rdC_i, rdC_o, rdW, rdU_e, rdU_n, rdLW, clI, clR, clC, clD, clW, clV, clN_e, clN_n, clL_e, clL_n] <;> first | assumption | rfl | omega)) ?_
              refine g_getR (kI := 0) rfl dX1_areClashing_66 fX1_112_3 (by first | assumption | first | assumption | (simp (disch := omega) only [shI, shR, shL, shC, shD, shW, sh_V, shN_e, shN_n, crI, crL, crC, crW, crV, crR_e, crR_n, crN_e, crN_n, ciR, ciL, ciD, ciN_e, ciN_n, rdI_e, rdI_n, rdC_i, rdC_o, rdW, rdU_e, rdU_n, rdLW, clI, clR, clC, clD, clW, clV, clN_e, clN_n, clL_e, clL_n]; done) | (simp (disch := omega) only [shI, shR, shL, shC, shD, shW, sh_V, shN_e, shN_n, crI, crL, crC, crW, crV, crR_e, crR_n, crN_e, crN_n, ciR, ciL, ciD, ciN_e, ciN_n, rdI_e, rdI_n, rdC_i, rdC_o, rdW, rdU_e, rdU_n, rdLW, clI, clR, clC, clD, clW, clV, clN_e, clN_n, clL_e, clL_n] <;> first | assumption | rfl | omega)) (by first | assumption | first | assumption | (simp (disch := omega) only [shI, shR, shL, shC, shD, shW, sh_V, shN_e, shN_n, crI, crL, crC, crW, crV, crR_e, crR_n, crN_e, crN_n, ciR, ciL, ciD, ciN_e, ciN_n, rdI_e, rdI_n, rdC_i, rdC_o, rdW, rdU_e, rdU_n, rdLW, clI, clR, clC, clD, clW, clV, clN_e, clN_n, clL_e, clL_n]; done) | (simp (disch := omega) only [shI, shR, shL, shC, shD, shW, sh_V, shN_e, shN_n, crI, crL, crC, crW, crV, crR_e, crR_n, crN_e, crN_n, ciR, ciL, ciD, ciN_e, ciN_n, rdI_e, rdI_n, rdC_i, rdC_o, rdW, rdU_e, rdU_n, rdLW, clI, clR, clC, clD, clW, clV, clN_e, clN_n, clL_e, clL_n] <;> first | assumption | rfl | omega)) ?_
              refine x_iload_n dX1_areClashing_69 rfl rfl ?_
              refine x_aald (t := 126) rfl (by decide) dX1_areClashing_70 (by first | assumption | first | assumption | (simp (disch := omega) only [shI, shR, shL, shC, shD, shW, sh_V, shN_e, shN_n, crI, crL, crC, crW, crV, crR_e, crR_n, crN_e, crN_n, ciR, ciL, ciD, ciN_e, ciN_n, rdI_e, rdI_n, rdC_i, rdC_o, rdW, rdU_e, rdU_n, rdLW, clI, clR, clC, clD, clW, clV, clN_e, clN_n, clL_e, clL_n]; done) | (simp (disch := omega) only [shI, shR, shL, shC, shD, shW, sh_V, shN_e, shN_n, crI, crL, crC, crW, crV, crR_e, crR_n, crN_e, crN_n, ciR, ciL, ciD, ciN_e, ciN_n, rdI_e, rdI_n, rdC_i, rdC_o, rdW, rdU_e, rdU_n, rdLW, clI, clR, clC, clD, clW, clV, clN_e, clN_n, clL_e, clL_n] <;> first | assumption | rfl | omega)) (by omega) (by omega) (by first | assumption | first | assumption | (simp (disch := omega) only [shI, shR, shL, shC, shD, shW, sh_V, shN_e, shN_n, crI, crL, crC, crW, crV, crR_e, crR_n, crN_e, crN_n, ciR, ciL, ciD, ciN_e, ciN_n, rdI_e, rdI_n, rdC_i, rdC_o, rdW, rdU_e, rdU_n, rdLW, clI, clR, clC, clD, clW, clV, clN_e, clN_n, clL_e, clL_n]; done) | (simp (disch := omega) only [shI, shR, shL, shC, shD, shW, sh_V, shN_e, shN_n, crI, crL, crC, crW, crV, crR_e, crR_n, crN_e, crN_n, ciR, ciL, ciD, ciN_e, ciN_n, rdI_e, rdI_n, rdC_i, rdC_o, rdW, rdU_e, rdU_n, rdLW, clI, clR, clC, clD, clW, clV, clN_e, clN_n, clL_e, clL_n] <;> first | assumption | rfl | omega)) ?_
              refine x_iconst dX1_areClashing_71 rfl ?_
              refine x_iload dX1_areClashing_72 rfl ?_
              refine g_callI (vs := [_, _, _]) (d' := d - 1) rfl (s_X6_touches (by omega) wb2 (by omega)) dX1_areClashing_74 kX1_381 (by omega) (by decide) rfl (Nat.le_of_ble_eq_true rfl) (rcv_o (by first | assumption | first | assumption | (simp (disch := omega) only [shI, shR, shL, shC, shD, shW, sh_V, shN_e, shN_n, crI, crL, crC, crW, crV, crR_e, crR_n, crN_e, crN_n, ciR, ciL, ciD, ciN_e, ciN_n, rdI_e, rdI_n, rdC_i, rdC_o, rdW, rdU_e, rdU_n, rdLW, clI, clR, clC, clD, clW, clV, clN_e, clN_n, clL_e, clL_n]; done) | (simp (disch := omega) only [shI, shR, shL, shC, shD, shW, sh_V, shN_e, shN_n, crI, crL, crC, crW, crV, crR_e, crR_n, crN_e, crN_n, ciR, ciL, ciD, ciN_e, ciN_n, rdI_e, rdI_n, rdC_i, rdC_o, rdW, rdU_e, rdU_n, rdLW, clI, clR, clC, clD, clW, clV, clN_e, clN_n, clL_e, clL_n] <;> first | assumption | rfl | omega)) rfl) (fun x74 M74 h74 => ?_)
              obtain ⟨e74, f74⟩ := h74
              have f74' := f74.symm
              subst f74'
              rw [tchE hRb] at e74
              subst e74
              refine x_if_ne (tgt := 103) dX1_areClashing_77 (by decide) (fun h77 => ?_) (fun h77 => ?_)
              · try simp only [vP_0, vP_1, vP_n0, vP_n1, Classical.not_not] at h77
                refine x_iconst dX1_areClashing_103 rfl ?_
                refine x_goto (tgt := 108) dX1_areClashing_104 (by decide) ?_
                refine x_ior dX1_areClashing_108 ?_
                rw [hy, jor_01 (vP_r _) (by first | exact Or.inl rfl | exact Or.inr rfl)]
                refine x_istore_n (L' := [some _, some _, some _, some _, some _, some _, some _]) dX1_areClashing_109 rfl (by decide) rfl ?_
                first | refine x_iincN (L' := [some _, some _, some _, some _, some _, some _, some _]) dX1_areClashing_110 rfl (by decide) (by unfold i32; omega) rfl ?_ | refine x_iinc (L' := [some _, some _, some _, some _, some _, some _, some _]) dX1_areClashing_110 rfl (by decide) rfl ?_
                refine x_goto (tgt := 5) dX1_areClashing_113 (by decide) ?_
                refine x_fgt (by repeat (first | exact trivial | refine ⟨rfl, ?_⟩)) (ih _ (by omega) (k + 1) _ rfl (by omega) (by omega) ?_)
                first
                | exact vP_c (p := vP (clK v a b k) = 1 ∨ (1 : Int) = 1) ⟨fun _ => (clK_s h0).mpr (Or.inr (Or.inl ⟨h49, h54⟩)), fun _ => Or.inr rfl⟩
                | exact vP_c (p := vP (clK v a b k) = 1 ∨ (1 : Int) = 1) ⟨fun _ => (clK_s h0).mpr (Or.inr (Or.inr (Or.inl ⟨h59, h77⟩))), fun _ => Or.inr rfl⟩
                | exact vP_c (p := vP (clK v a b k) = 1 ∨ (1 : Int) = 1) ⟨fun _ => (clK_s h0).mpr (Or.inr (Or.inr (Or.inr ⟨h82, h100⟩))), fun _ => Or.inr rfl⟩
                | (refine vP_c ⟨fun q => (clK_s h0).mpr (Or.inl (q.elim (fun z => vP_1.mp z) fun z => absurd z (by decide))), fun q => Or.inl (vP_1.mpr ?_)⟩
                   rcases (clK_s h0).mp q with q | q
                   · exact q
                   · rcases q with q | q | q
                     · first | exact absurd q.1 h49 | exact absurd q.2 h54
                     · first | exact absurd q.1 h59 | exact absurd q.2 h77
                     · first | exact absurd q.1 h82 | exact absurd q.2 h100)
              · try simp only [vP_0, vP_1, vP_n0, vP_n1, Classical.not_not] at h77
                refine x_iload dX1_areClashing_80 rfl ?_
                refine x_if_eq (tgt := 107) dX1_areClashing_82 (by decide) (fun h82 => ?_) (fun h82 => ?_)
                · try simp only [vP_0, vP_1, vP_n0, vP_n1, Classical.not_not] at h82
                  refine x_iconst dX1_areClashing_107 rfl ?_
                  refine x_ior dX1_areClashing_108 ?_
                  rw [hy, jor_01 (vP_r _) (by first | exact Or.inl rfl | exact Or.inr rfl)]
                  refine x_istore_n (L' := [some _, some _, some _, some _, some _, some _, some _]) dX1_areClashing_109 rfl (by decide) rfl ?_
                  first | refine x_iincN (L' := [some _, some _, some _, some _, some _, some _, some _]) dX1_areClashing_110 rfl (by decide) (by unfold i32; omega) rfl ?_ | refine x_iinc (L' := [some _, some _, some _, some _, some _, some _, some _]) dX1_areClashing_110 rfl (by decide) rfl ?_
                  refine x_goto (tgt := 5) dX1_areClashing_113 (by decide) ?_
                  refine x_fgt (by repeat (first | exact trivial | refine ⟨rfl, ?_⟩)) (ih _ (by omega) (k + 1) _ rfl (by omega) (by omega) ?_)
                  first
                  | exact vP_c (p := vP (clK v a b k) = 1 ∨ (1 : Int) = 1) ⟨fun _ => (clK_s h0).mpr (Or.inr (Or.inl ⟨h49, h54⟩)), fun _ => Or.inr rfl⟩
                  | exact vP_c (p := vP (clK v a b k) = 1 ∨ (1 : Int) = 1) ⟨fun _ => (clK_s h0).mpr (Or.inr (Or.inr (Or.inl ⟨h59, h77⟩))), fun _ => Or.inr rfl⟩
                  | exact vP_c (p := vP (clK v a b k) = 1 ∨ (1 : Int) = 1) ⟨fun _ => (clK_s h0).mpr (Or.inr (Or.inr (Or.inr ⟨h82, h100⟩))), fun _ => Or.inr rfl⟩
                  | (refine vP_c ⟨fun q => (clK_s h0).mpr (Or.inl (q.elim (fun z => vP_1.mp z) fun z => absurd z (by decide))), fun q => Or.inl (vP_1.mpr ?_)⟩
                     rcases (clK_s h0).mp q with q | q
                     · exact q
                     · rcases q with q | q | q
                       · first | exact absurd q.1 h49 | exact absurd q.2 h54
                       · first | exact absurd q.1 h59 | exact absurd q.2 h77
                       · first | exact absurd q.1 h82 | exact absurd q.2 h100)
                · try simp only [vP_0, vP_1, vP_n0, vP_n1, Classical.not_not] at h82
                  refine x_aload_n dX1_areClashing_85 rfl rfl ?_
                  refine g_getR (kI := 1) rfl dX1_areClashing_86 fX1_22_1 (by first | assumption | first | assumption | (simp (disch := omega) only [shI, shR, shL, shC, shD, shW, sh_V, shN_e, shN_n, crI, crL, crC, crW, crV, crR_e, crR_n, crN_e, crN_n, ciR, ciL, ciD, ciN_e, ciN_n, rdI_e, rdI_n, rdC_i, rdC_o, rdW, rdU_e, rdU_n, rdLW, clI, clR, clC, clD, clW, clV, clN_e, clN_n, clL_e, clL_n]; done) | (simp (disch := omega) only [shI, shR, shL, shC, shD, shW, sh_V, shN_e, shN_n, crI, crL, crC, crW, crV, crR_e, crR_n, crN_e, crN_n, ciR, ciL, ciD, ciN_e, ciN_n, rdI_e, rdI_n, rdC_i, rdC_o, rdW, rdU_e, rdU_n, rdLW, clI, clR, clC, clD, clW, clV, clN_e, clN_n, clL_e, clL_n] <;> first | assumption | rfl | omega)) (by first | assumption | first | assumption | (simp (disch := omega) only [shI, shR, shL, shC, shD, shW, sh_V, shN_e, shN_n, crI, crL, crC, crW, crV, crR_e, crR_n, crN_e, crN_n, ciR, ciL, ciD, ciN_e, ciN_n, rdI_e, rdI_n, rdC_i, rdC_o, rdW, rdU_e, rdU_n, rdLW, clI, clR, clC, clD, clW, clV, clN_e, clN_n, clL_e, clL_n]; done) | (simp (disch := omega) only [shI, shR, shL, shC, shD, shW, sh_V, shN_e, shN_n, crI, crL, crC, crW, crV, crR_e, crR_n, crN_e, crN_n, ciR, ciL, ciD, ciN_e, ciN_n, rdI_e, rdI_n, rdC_i, rdC_o, rdW, rdU_e, rdU_n, rdLW, clI, clR, clC, clD, clW, clV, clN_e, clN_n, clL_e, clL_n] <;> first | assumption | rfl | omega)) ?_
                  refine g_getR (kI := 0) rfl dX1_areClashing_89 fX1_112_3 (by first | assumption | first | assumption | (simp (disch := omega) only [shI, shR, shL, shC, shD, shW, sh_V, shN_e, shN_n, crI, crL, crC, crW, crV, crR_e, crR_n, crN_e, crN_n, ciR, ciL, ciD, ciN_e, ciN_n, rdI_e, rdI_n, rdC_i, rdC_o, rdW, rdU_e, rdU_n, rdLW, clI, clR, clC, clD, clW, clV, clN_e, clN_n, clL_e, clL_n]; done) | (simp (disch := omega) only [shI, shR, shL, shC, shD, shW, sh_V, shN_e, shN_n, crI, crL, crC, crW, crV, crR_e, crR_n, crN_e, crN_n, ciR, ciL, ciD, ciN_e, ciN_n, rdI_e, rdI_n, rdC_i, rdC_o, rdW, rdU_e, rdU_n, rdLW, clI, clR, clC, clD, clW, clV, clN_e, clN_n, clL_e, clL_n] <;> first | assumption | rfl | omega)) (by first | assumption | first | assumption | (simp (disch := omega) only [shI, shR, shL, shC, shD, shW, sh_V, shN_e, shN_n, crI, crL, crC, crW, crV, crR_e, crR_n, crN_e, crN_n, ciR, ciL, ciD, ciN_e, ciN_n, rdI_e, rdI_n, rdC_i, rdC_o, rdW, rdU_e, rdU_n, rdLW, clI, clR, clC, clD, clW, clV, clN_e, clN_n, clL_e, clL_n]; done) | (simp (disch := omega) only [shI, shR, shL, shC, shD, shW, sh_V, shN_e, shN_n, crI, crL, crC, crW, crV, crR_e, crR_n, crN_e, crN_n, ciR, ciL, ciD, ciN_e, ciN_n, rdI_e, rdI_n, rdC_i, rdC_o, rdW, rdU_e, rdU_n, rdLW, clI, clR, clC, clD, clW, clV, clN_e, clN_n, clL_e, clL_n] <;> first | assumption | rfl | omega)) ?_
                  refine x_iload_n dX1_areClashing_92 rfl rfl ?_
                  refine x_aald (t := 126) rfl (by decide) dX1_areClashing_93 (by first | assumption | first | assumption | (simp (disch := omega) only [shI, shR, shL, shC, shD, shW, sh_V, shN_e, shN_n, crI, crL, crC, crW, crV, crR_e, crR_n, crN_e, crN_n, ciR, ciL, ciD, ciN_e, ciN_n, rdI_e, rdI_n, rdC_i, rdC_o, rdW, rdU_e, rdU_n, rdLW, clI, clR, clC, clD, clW, clV, clN_e, clN_n, clL_e, clL_n]; done) | (simp (disch := omega) only [shI, shR, shL, shC, shD, shW, sh_V, shN_e, shN_n, crI, crL, crC, crW, crV, crR_e, crR_n, crN_e, crN_n, ciR, ciL, ciD, ciN_e, ciN_n, rdI_e, rdI_n, rdC_i, rdC_o, rdW, rdU_e, rdU_n, rdLW, clI, clR, clC, clD, clW, clV, clN_e, clN_n, clL_e, clL_n] <;> first | assumption | rfl | omega)) (by omega) (by omega) (by first | assumption | first | assumption | (simp (disch := omega) only [shI, shR, shL, shC, shD, shW, sh_V, shN_e, shN_n, crI, crL, crC, crW, crV, crR_e, crR_n, crN_e, crN_n, ciR, ciL, ciD, ciN_e, ciN_n, rdI_e, rdI_n, rdC_i, rdC_o, rdW, rdU_e, rdU_n, rdLW, clI, clR, clC, clD, clW, clV, clN_e, clN_n, clL_e, clL_n]; done) | (simp (disch := omega) only [shI, shR, shL, shC, shD, shW, sh_V, shN_e, shN_n, crI, crL, crC, crW, crV, crR_e, crR_n, crN_e, crN_n, ciR, ciL, ciD, ciN_e, ciN_n, rdI_e, rdI_n, rdC_i, rdC_o, rdW, rdU_e, rdU_n, rdLW, clI, clR, clC, clD, clW, clV, clN_e, clN_n, clL_e, clL_n] <;> first | assumption | rfl | omega)) ?_
                  refine x_iconst dX1_areClashing_94 rfl ?_
                  refine x_iload dX1_areClashing_95 rfl ?_
                  refine g_callI (vs := [_, _, _]) (d' := d - 1) rfl (s_X6_touches (by omega) wa2 (by omega)) dX1_areClashing_97 kX1_381 (by omega) (by decide) rfl (Nat.le_of_ble_eq_true rfl) (rcv_o (by first | assumption | first | assumption | (simp (disch := omega) only [shI, shR, shL, shC, shD, shW, sh_V, shN_e, shN_n, crI, crL, crC, crW, crV, crR_e, crR_n, crN_e, crN_n, ciR, ciL, ciD, ciN_e, ciN_n, rdI_e, rdI_n, rdC_i, rdC_o, rdW, rdU_e, rdU_n, rdLW, clI, clR, clC, clD, clW, clV, clN_e, clN_n, clL_e, clL_n]; done) | (simp (disch := omega) only [shI, shR, shL, shC, shD, shW, sh_V, shN_e, shN_n, crI, crL, crC, crW, crV, crR_e, crR_n, crN_e, crN_n, ciR, ciL, ciD, ciN_e, ciN_n, rdI_e, rdI_n, rdC_i, rdC_o, rdW, rdU_e, rdU_n, rdLW, clI, clR, clC, clD, clW, clV, clN_e, clN_n, clL_e, clL_n] <;> first | assumption | rfl | omega)) rfl) (fun x97 M97 h97 => ?_)
                  obtain ⟨e97, f97⟩ := h97
                  have f97' := f97.symm
                  subst f97'
                  rw [tchE hRa] at e97
                  subst e97
                  refine x_if_eq (tgt := 107) dX1_areClashing_100 (by decide) (fun h100 => ?_) (fun h100 => ?_)
                  · try simp only [vP_0, vP_1, vP_n0, vP_n1, Classical.not_not] at h100
                    refine x_iconst dX1_areClashing_107 rfl ?_
                    refine x_ior dX1_areClashing_108 ?_
                    rw [hy, jor_01 (vP_r _) (by first | exact Or.inl rfl | exact Or.inr rfl)]
                    refine x_istore_n (L' := [some _, some _, some _, some _, some _, some _, some _]) dX1_areClashing_109 rfl (by decide) rfl ?_
                    first | refine x_iincN (L' := [some _, some _, some _, some _, some _, some _, some _]) dX1_areClashing_110 rfl (by decide) (by unfold i32; omega) rfl ?_ | refine x_iinc (L' := [some _, some _, some _, some _, some _, some _, some _]) dX1_areClashing_110 rfl (by decide) rfl ?_
                    refine x_goto (tgt := 5) dX1_areClashing_113 (by decide) ?_
                    refine x_fgt (by repeat (first | exact trivial | refine ⟨rfl, ?_⟩)) (ih _ (by omega) (k + 1) _ rfl (by omega) (by omega) ?_)
                    first
                    | exact vP_c (p := vP (clK v a b k) = 1 ∨ (1 : Int) = 1) ⟨fun _ => (clK_s h0).mpr (Or.inr (Or.inl ⟨h49, h54⟩)), fun _ => Or.inr rfl⟩
                    | exact vP_c (p := vP (clK v a b k) = 1 ∨ (1 : Int) = 1) ⟨fun _ => (clK_s h0).mpr (Or.inr (Or.inr (Or.inl ⟨h59, h77⟩))), fun _ => Or.inr rfl⟩
                    | exact vP_c (p := vP (clK v a b k) = 1 ∨ (1 : Int) = 1) ⟨fun _ => (clK_s h0).mpr (Or.inr (Or.inr (Or.inr ⟨h82, h100⟩))), fun _ => Or.inr rfl⟩
                    | (refine vP_c ⟨fun q => (clK_s h0).mpr (Or.inl (q.elim (fun z => vP_1.mp z) fun z => absurd z (by decide))), fun q => Or.inl (vP_1.mpr ?_)⟩
                       rcases (clK_s h0).mp q with q | q
                       · exact q
                       · rcases q with q | q | q
                         · first | exact absurd q.1 h49 | exact absurd q.2 h54
                         · first | exact absurd q.1 h59 | exact absurd q.2 h77
                         · first | exact absurd q.1 h82 | exact absurd q.2 h100)
                  · try simp only [vP_0, vP_1, vP_n0, vP_n1, Classical.not_not] at h100
                    refine x_iconst dX1_areClashing_103 rfl ?_
                    refine x_goto (tgt := 108) dX1_areClashing_104 (by decide) ?_
                    refine x_ior dX1_areClashing_108 ?_
                    rw [hy, jor_01 (vP_r _) (by first | exact Or.inl rfl | exact Or.inr rfl)]
                    refine x_istore_n (L' := [some _, some _, some _, some _, some _, some _, some _]) dX1_areClashing_109 rfl (by decide) rfl ?_
                    first | refine x_iincN (L' := [some _, some _, some _, some _, some _, some _, some _]) dX1_areClashing_110 rfl (by decide) (by unfold i32; omega) rfl ?_ | refine x_iinc (L' := [some _, some _, some _, some _, some _, some _, some _]) dX1_areClashing_110 rfl (by decide) rfl ?_
                    refine x_goto (tgt := 5) dX1_areClashing_113 (by decide) ?_
                    refine x_fgt (by repeat (first | exact trivial | refine ⟨rfl, ?_⟩)) (ih _ (by omega) (k + 1) _ rfl (by omega) (by omega) ?_)
                    first
                    | exact vP_c (p := vP (clK v a b k) = 1 ∨ (1 : Int) = 1) ⟨fun _ => (clK_s h0).mpr (Or.inr (Or.inl ⟨h49, h54⟩)), fun _ => Or.inr rfl⟩
                    | exact vP_c (p := vP (clK v a b k) = 1 ∨ (1 : Int) = 1) ⟨fun _ => (clK_s h0).mpr (Or.inr (Or.inr (Or.inl ⟨h59, h77⟩))), fun _ => Or.inr rfl⟩
                    | exact vP_c (p := vP (clK v a b k) = 1 ∨ (1 : Int) = 1) ⟨fun _ => (clK_s h0).mpr (Or.inr (Or.inr (Or.inr ⟨h82, h100⟩))), fun _ => Or.inr rfl⟩
                    | (refine vP_c ⟨fun q => (clK_s h0).mpr (Or.inl (q.elim (fun z => vP_1.mp z) fun z => absurd z (by decide))), fun q => Or.inl (vP_1.mpr ?_)⟩
                       rcases (clK_s h0).mp q with q | q
                       · exact q
                       · rcases q with q | q | q
                         · first | exact absurd q.1 h49 | exact absurd q.2 h54
                         · first | exact absurd q.1 h59 | exact absurd q.2 h77
                         · first | exact absurd q.1 h82 | exact absurd q.2 h100)
  refine x_iconst dX1_areClashing_0 rfl ?_
  refine x_istore_n (L' := [some _, some _, some _, some _, none, none, none]) dX1_areClashing_1 rfl (by decide) rfl ?_
  refine x_iconst dX1_areClashing_2 rfl ?_
  refine x_istore (L' := [some _, some _, some _, some _, some _, none, none]) dX1_areClashing_3 (by decide) rfl ?_
  exact loop _ 0 0 rfl (by omega) (by omega) (vP_f clK_0).symm
theorem s_X1_clash (hd : 14 ≤ d) (hC : CI M v n A hi vi tp sz fa N) : CS G d mX1_clash [dR 0, dI a, dI b] M (orT (postI fun y M1 => (((0 ≤ a ∧ a < v 0) ∧ 0 ≤ b ∧ b < v 0) ∧ ¬ a = b) ∧ y = vP (clashV v a b) ∧ CO M v n A hi vi tp sz fa N 0 0 M1) (fun a' E M1 => CO M v n A hi vi tp sz fa N 1 6 M1 ∧ ((¬ ((0 ≤ a ∧ a < v 0) ∧ 0 ≤ b ∧ b < v 0) ∧ E = "java/lang/IndexOutOfBoundsException") ∨ (((0 ≤ a ∧ a < v 0) ∧ 0 ≤ b ∧ b < v 0) ∧ a = b ∧ E = "java/lang/IllegalArgumentException")))) := by
  have s0 : msh M 0 = some (1, 0) := hC.1.1.1.1
  refine CS.mkQ (by decide) (Nat.le_of_ble_eq_true rfl) fun Q hQ => ?_
  refine x_aload_n dX1_clash_0 rfl rfl ?_
  refine x_iload_n dX1_clash_1 rfl rfl ?_
  refine g_callRX (vs := [_, _]) (d' := d - 1) rfl (s_X1_opOf (by omega) hC) dX1_clash_2 kX1_240 (by omega) (by decide) rfl (Nat.le_of_ble_eq_true rfl) (rcv_o (by first | assumption | first | assumption | (simp (disch := omega) only [shI, shR, shL, shC, shD, shW, sh_V, shN_e, shN_n, crI, crL, crC, crW, crV, crR_e, crR_n, crN_e, crN_n, ciR, ciL, ciD, ciN_e, ciN_n, rdI_e, rdI_n, rdC_i, rdC_o, rdW, rdU_e, rdU_n, rdLW, clI, clR, clC, clD, clW, clV, clN_e, clN_n, clL_e, clL_n]; done) | (simp (disch := omega) only [shI, shR, shL, shC, shD, shW, sh_V, shN_e, shN_n, crI, crL, crC, crW, crV, crR_e, crR_n, crN_e, crN_n, ciR, ciL, ciD, ciN_e, ciN_n, rdI_e, rdI_n, rdC_i, rdC_o, rdW, rdU_e, rdU_n, rdLW, clI, clR, clC, clD, clW, clV, clN_e, clN_n, clL_e, clL_n] <;> first | assumption | rfl | omega)) rfl) (fun x2 M2 h2 => ?_) (fun a2 E2 M2 h2 => ?_)
  · obtain ⟨q2, e2, f2⟩ := h2
    subst e2
    subst f2
    refine x_pop dX1_clash_5 rfl ?_
    refine x_aload_n dX1_clash_6 rfl rfl ?_
    refine x_iload_n dX1_clash_7 rfl rfl ?_
    refine g_callRX (vs := [_, _]) (d' := d - 1) rfl (s_X1_opOf (by omega) hC) dX1_clash_8 kX1_240 (by omega) (by decide) rfl (Nat.le_of_ble_eq_true rfl) (rcv_o (by first | assumption | first | assumption | (simp (disch := omega) only [shI, shR, shL, shC, shD, shW, sh_V, shN_e, shN_n, crI, crL, crC, crW, crV, crR_e, crR_n, crN_e, crN_n, ciR, ciL, ciD, ciN_e, ciN_n, rdI_e, rdI_n, rdC_i, rdC_o, rdW, rdU_e, rdU_n, rdLW, clI, clR, clC, clD, clW, clV, clN_e, clN_n, clL_e, clL_n]; done) | (simp (disch := omega) only [shI, shR, shL, shC, shD, shW, sh_V, shN_e, shN_n, crI, crL, crC, crW, crV, crR_e, crR_n, crN_e, crN_n, ciR, ciL, ciD, ciN_e, ciN_n, rdI_e, rdI_n, rdC_i, rdC_o, rdW, rdU_e, rdU_n, rdLW, clI, clR, clC, clD, clW, clV, clN_e, clN_n, clL_e, clL_n] <;> first | assumption | rfl | omega)) rfl) (fun x8 M8 h8 => ?_) (fun a8 E8 M8 h8 => ?_)
    · obtain ⟨q8, e8, f8⟩ := h8
      subst e8
      subst f8
      refine x_pop dX1_clash_11 rfl ?_
      refine x_iload_n dX1_clash_12 rfl rfl ?_
      refine x_iload_n dX1_clash_13 rfl rfl ?_
      refine x_icmp_eq (tgt := 21) dX1_clash_14 (by decide) (fun h14 => ?_) (fun h14 => ?_)
      · refine x_iconst dX1_clash_21 rfl ?_
        refine g_callNX (vs := [_]) (d' := d - 1) rfl (s_X1_must (by omega) (by first | omega | exact vP_r _)) dX1_clash_22 kX1_116 (by omega) (by decide) rfl (Nat.le_of_ble_eq_true rfl) (rcv_n) (fun M22 h22 => ?_) (fun a22 E22 M22 h22 => ?_)
        · obtain ⟨q22, e22⟩ := h22
          subst e22
          try simp only [vP_0, vP_1, vP_n0, vP_n1, Classical.not_not] at q22
          refine x_aload_n dX1_clash_25 rfl rfl ?_
          refine x_iload_n dX1_clash_26 rfl rfl ?_
          refine x_iload_n dX1_clash_27 rfl rfl ?_
          refine g_callI (vs := [_, _, _]) (d' := d - 1) rfl (s_X1_areClashing (by omega) hC (by omega) (by omega)) dX1_clash_28 kX1_385 (by omega) (by decide) rfl (Nat.le_of_ble_eq_true rfl) (rcv_o (by first | assumption | first | assumption | (simp (disch := omega) only [shI, shR, shL, shC, shD, shW, sh_V, shN_e, shN_n, crI, crL, crC, crW, crV, crR_e, crR_n, crN_e, crN_n, ciR, ciL, ciD, ciN_e, ciN_n, rdI_e, rdI_n, rdC_i, rdC_o, rdW, rdU_e, rdU_n, rdLW, clI, clR, clC, clD, clW, clV, clN_e, clN_n, clL_e, clL_n]; done) | (simp (disch := omega) only [shI, shR, shL, shC, shD, shW, sh_V, shN_e, shN_n, crI, crL, crC, crW, crV, crR_e, crR_n, crN_e, crN_n, ciR, ciL, ciD, ciN_e, ciN_n, rdI_e, rdI_n, rdC_i, rdC_o, rdW, rdU_e, rdU_n, rdLW, clI, clR, clC, clD, clW, clV, clN_e, clN_n, clL_e, clL_n] <;> first | assumption | rfl | omega)) rfl) (fun x28 M28 h28 => ?_)
          obtain ⟨e28, f28⟩ := h28
          have f28' := f28.symm
          subst f28'
          subst e28
          refine x_zreturn (by first | exact Or.inl rfl | exact Or.inr rfl | exact vB_r _ | exact vP_r _ | assumption | omega) rfl dX1_clash_31 ?_
          first
          | exact hQ _ _ (Or.inl ⟨_, rfl, ⟨⟨q2, q8⟩, h14⟩, rfl, CO.r hC⟩)
          | exact absurd q22 (by decide)
        · obtain ⟨q22, eE22, eM22⟩ := h22
          subst eE22
          subst eM22
          first | exact th_nil rfl (hQ _ _ (Or.inr ⟨_, _, rfl, CO.xx hC, Or.inr ⟨⟨q2, q8⟩, h14, rfl⟩⟩)) | exact absurd q22 (by decide)
      · refine x_iconst dX1_clash_17 rfl ?_
        refine x_goto (tgt := 22) dX1_clash_18 (by decide) ?_
        refine g_callNX (vs := [_]) (d' := d - 1) rfl (s_X1_must (by omega) (by first | omega | exact vP_r _)) dX1_clash_22 kX1_116 (by omega) (by decide) rfl (Nat.le_of_ble_eq_true rfl) (rcv_n) (fun M22 h22 => ?_) (fun a22 E22 M22 h22 => ?_)
        · obtain ⟨q22, e22⟩ := h22
          subst e22
          try simp only [vP_0, vP_1, vP_n0, vP_n1, Classical.not_not] at q22
          refine x_aload_n dX1_clash_25 rfl rfl ?_
          refine x_iload_n dX1_clash_26 rfl rfl ?_
          refine x_iload_n dX1_clash_27 rfl rfl ?_
          refine g_callI (vs := [_, _, _]) (d' := d - 1) rfl (s_X1_areClashing (by omega) hC (by omega) (by omega)) dX1_clash_28 kX1_385 (by omega) (by decide) rfl (Nat.le_of_ble_eq_true rfl) (rcv_o (by first | assumption | first | assumption | (simp (disch := omega) only [shI, shR, shL, shC, shD, shW, sh_V, shN_e, shN_n, crI, crL, crC, crW, crV, crR_e, crR_n, crN_e, crN_n, ciR, ciL, ciD, ciN_e, ciN_n, rdI_e, rdI_n, rdC_i, rdC_o, rdW, rdU_e, rdU_n, rdLW, clI, clR, clC, clD, clW, clV, clN_e, clN_n, clL_e, clL_n]; done) | (simp (disch := omega) only [shI, shR, shL, shC, shD, shW, sh_V, shN_e, shN_n, crI, crL, crC, crW, crV, crR_e, crR_n, crN_e, crN_n, ciR, ciL, ciD, ciN_e, ciN_n, rdI_e, rdI_n, rdC_i, rdC_o, rdW, rdU_e, rdU_n, rdLW, clI, clR, clC, clD, clW, clV, clN_e, clN_n, clL_e, clL_n] <;> first | assumption | rfl | omega)) rfl) (fun x28 M28 h28 => ?_)
          obtain ⟨e28, f28⟩ := h28
          have f28' := f28.symm
          subst f28'
          subst e28
          refine x_zreturn (by first | exact Or.inl rfl | exact Or.inr rfl | exact vB_r _ | exact vP_r _ | assumption | omega) rfl dX1_clash_31 ?_
          first
          | exact hQ _ _ (Or.inl ⟨_, rfl, ⟨⟨q2, q8⟩, h14⟩, rfl, CO.r hC⟩)
          | exact absurd q22 (by decide)
        · obtain ⟨q22, eE22, eM22⟩ := h22
          subst eE22
          subst eM22
          first | exact th_nil rfl (hQ _ _ (Or.inr ⟨_, _, rfl, CO.xx hC, Or.inr ⟨⟨q2, q8⟩, h14, rfl⟩⟩)) | exact absurd q22 (by decide)
    · obtain ⟨q8, eE8, eM8⟩ := h8
      subst eE8
      subst eM8
      exact th_nil rfl (hQ _ _ (Or.inr ⟨_, _, rfl, CO.xx hC, Or.inl ⟨fun z => q8 z.2, rfl⟩⟩))
  · obtain ⟨q2, eE2, eM2⟩ := h2
    subst eE2
    subst eM2
    exact th_nil rfl (hQ _ _ (Or.inr ⟨_, _, rfl, CO.xx hC, Or.inl ⟨fun z => q2 z.1, rfl⟩⟩))
theorem likeE {f : Ci} {o o' a b : Int} {v : Vw} (h : RelO f o v a) (h' : RelO f o' v b) : vP (likeO (f o 3) (f o' 3) (f o 4) (f o' 4) (f (o + 1)) (f (o + 2)) (f (o' + 1)) (f (o' + 2)) (f o 3)) = vP (twinV v a b) := by
  obtain ⟨h1, h2, h3, h4⟩ := h
  obtain ⟨g1, g2, g3, g4⟩ := h'
  refine vP_c ⟨?_, ?_⟩
  · rintro ⟨i1, i2, i3⟩
    rw [h1, g1] at i1
    rw [h2, g2] at i2
    refine ⟨i1, i2, fun i j0 j1 => ?_⟩
    have q := i3 i j0 (by rw [h1]; exact j1)
    rw [(h4 i j0 j1).1, (h4 i j0 j1).2, (g4 i j0 (by rw [← i1]; exact j1)).1, (g4 i j0 (by rw [← i1]; exact j1)).2] at q
    exact q
  · rintro ⟨i1, i2, i3⟩
    refine ⟨by rw [h1, g1]; exact i1, by rw [h2, g2]; exact i2, fun i j0 j1 => ?_⟩
    rw [h1] at j1
    rw [(h4 i j0 j1).1, (h4 i j0 j1).2, (g4 i j0 (by rw [← i1]; exact j1)).1, (g4 i j0 (by rw [← i1]; exact j1)).2]
    exact i3 i j0 j1
theorem s_X1_twins (hd : 15 ≤ d) (hC : CI M v n A hi vi tp sz fa N) : CS G d mX1_twins [dR 0] M (pur M (twinsV v)) := by
  obtain ⟨hC1, hC54, hCA, hCR⟩ := id hC; obtain ⟨hS, hTab, hTx, hLn, hSk, hnx⟩ := id hC1; obtain ⟨hA, hL, hR⟩ := id hC54; obtain ⟨⟨s0, s199, s200, s201, s202, s203⟩, ⟨c0, c1, c2, c3, c4, c5, c6, c7, c8, c9, c10, c11, c12⟩, c203, hSt, m189, m191, g193, g196, ⟨⟨r2, r3, r4, r5, r6, r7, r53⟩, ⟨w0, w1, w2, w3, w4, w5, w6⟩, wx1, wx2, wx3⟩⟩ := id hS; have hv := hA.1; have hv8 := hv.n8; have hv0 := hv.1.1; have hv3 := hv.2.2.2.1; have hs54 := hSt 54 (by unfold SB; omega); obtain ⟨p0, p1, ⟨d0, d1, d2, d3, d4, d5, d6, d7⟩, ⟨t1, t2, t3, t4, t5, t6⟩, p5, p6, p7⟩ := id hs54; have t7 : msh M (54 + 7) = some (4, 0) := p5.2.1; have t10 : msh M (54 + 10) = some (4, 0) := p6.2.1; obtain ⟨hB, hW, hLw⟩ := id hR.1; obtain ⟨b1, b2, b3, b4, b5, b6, b7, b8, b9, b10, b11, b12, b13, b14, b15⟩ := id hB; obtain ⟨hn, hn2, hat, hAc⟩ := id hCA; obtain ⟨⟨hki, hhi⟩, hIm, ⟨htp, hsz, hsz2⟩, hfa⟩ := id hCR
  refine CS.mkQ (by decide) (Nat.le_of_ble_eq_true rfl) fun Q hQ => ?_
  have loop : ∀ (t : Nat) (a x : Int), (v 0 - a).toNat = t → (0 ≤ a) → (a ≤ v 0) → (x = twinT v a.toNat) → WP G d mX1_twins 4 [some (dR 0), some (dI x), some (dI a), none] [] (M) Q := by
    intro t
    induction t using Nat.strongRecOn with
    | _ t ih =>
      intro a x ht a0 a1 hx
      have hr := twinT_r v a.toNat (by omega)
      by_cases ha : a < v 0
      · obtain ⟨wa1, wa2⟩ := p7 a a0 (by omega)
        have wa3 := wa2.2.1
        have hRa := b14 a a0 ha
        have oa := (hv.op a a0 ha).1
        have ra1 := hRa.1
        have inner : ∀ (t2 : Nat) (b y : Int), (a - b).toNat = t2 → (0 ≤ b) → (b ≤ a) → (y = twinT v a.toNat + twinC v a b.toNat) → WP G d mX1_twins 17 [some (dR 0), some (dI y), some (dI a), some (dI b)] [] (M) Q := by
          intro t2
          induction t2 using Nat.strongRecOn with
          | _ t2 ih2 =>
            intro b y ht2 b0 b1' hy
            have hr2 := twinC_r v a b.toNat
            have es : twinC v a (b + 1).toNat = twinC v a b.toNat + vP (twinV v a b) := by
              rw [show (b + 1).toNat = b.toNat + 1 by omega]
              show twinC v a b.toNat + vP (twinV v a ((b.toNat : Nat) : Int)) = _
              rw [show ((b.toNat : Nat) : Int) = b by omega]
            have hvn := vP_nn (p := twinV v a b)
            obtain ⟨wb1, wb2⟩ := p7 b b0 (by omega)
            refine x_iload_n dX1_twins_17 rfl rfl ?_
            refine x_iload_n dX1_twins_18 rfl rfl ?_
            refine x_icmp_ge (tgt := 55) dX1_twins_19 (by decide) (fun h19 => ?_) (fun h19 => ?_)
            · first | refine x_iincN (L' := [some _, some _, some _, some _]) dX1_twins_55 rfl (by decide) (by unfold i32; omega) rfl ?_ | refine x_iinc (L' := [some _, some _, some _, some _]) dX1_twins_55 rfl (by decide) rfl ?_
              refine x_goto (tgt := 4) dX1_twins_58 (by decide) ?_
              refine x_fgt (L' := [some (dR 0), some (dI y), some (dI (a + 1)), none]) (by simp [subL]) (ih _ (by omega) (a + 1) _ rfl (by omega) (by omega) ?_)
              rw [show (a + 1).toNat = a.toNat + 1 by omega]
              show _ = twinT v a.toNat + twinC v ((a.toNat : Nat) : Int) a.toNat
              rw [show ((a.toNat : Nat) : Int) = a by omega, hy, show b = a by omega]
            · refine x_iload_n dX1_twins_22 rfl rfl ?_
              refine x_aload_n dX1_twins_23 rfl rfl ?_
              refine g_getR (kI := 1) rfl dX1_twins_24 fX1_22_1 (by first | assumption | first | assumption | (simp (disch := omega) only [shI, shR, shL, shC, shD, shW, sh_V, shN_e, shN_n, crI, crL, crC, crW, crV, crR_e, crR_n, crN_e, crN_n, ciR, ciL, ciD, ciN_e, ciN_n, rdI_e, rdI_n, rdC_i, rdC_o, rdW, rdU_e, rdU_n, rdLW, clI, clR, clC, clD, clW, clV, clN_e, clN_n, clL_e, clL_n]; done) | (simp (disch := omega) only [shI, shR, shL, shC, shD, shW, sh_V, shN_e, shN_n, crI, crL, crC, crW, crV, crR_e, crR_n, crN_e, crN_n, ciR, ciL, ciD, ciN_e, ciN_n, rdI_e, rdI_n, rdC_i, rdC_o, rdW, rdU_e, rdU_n, rdLW, clI, clR, clC, clD, clW, clV, clN_e, clN_n, clL_e, clL_n] <;> first | assumption | rfl | omega)) (by first | assumption | first | assumption | (simp (disch := omega) only [shI, shR, shL, shC, shD, shW, sh_V, shN_e, shN_n, crI, crL, crC, crW, crV, crR_e, crR_n, crN_e, crN_n, ciR, ciL, ciD, ciN_e, ciN_n, rdI_e, rdI_n, rdC_i, rdC_o, rdW, rdU_e, rdU_n, rdLW, clI, clR, clC, clD, clW, clV, clN_e, clN_n, clL_e, clL_n]; done) | (simp (disch := omega) only [shI, shR, shL, shC, shD, shW, sh_V, shN_e, shN_n, crI, crL, crC, crW, crV, crR_e, crR_n, crN_e, crN_n, ciR, ciL, ciD, ciN_e, ciN_n, rdI_e, rdI_n, rdC_i, rdC_o, rdW, rdU_e, rdU_n, rdLW, clI, clR, clC, clD, clW, clV, clN_e, clN_n, clL_e, clL_n] <;> first | assumption | rfl | omega)) ?_
              refine g_getR (kI := 0) rfl dX1_twins_27 fX1_112_3 (by first | assumption | first | assumption | (simp (disch := omega) only [shI, shR, shL, shC, shD, shW, sh_V, shN_e, shN_n, crI, crL, crC, crW, crV, crR_e, crR_n, crN_e, crN_n, ciR, ciL, ciD, ciN_e, ciN_n, rdI_e, rdI_n, rdC_i, rdC_o, rdW, rdU_e, rdU_n, rdLW, clI, clR, clC, clD, clW, clV, clN_e, clN_n, clL_e, clL_n]; done) | (simp (disch := omega) only [shI, shR, shL, shC, shD, shW, sh_V, shN_e, shN_n, crI, crL, crC, crW, crV, crR_e, crR_n, crN_e, crN_n, ciR, ciL, ciD, ciN_e, ciN_n, rdI_e, rdI_n, rdC_i, rdC_o, rdW, rdU_e, rdU_n, rdLW, clI, clR, clC, clD, clW, clV, clN_e, clN_n, clL_e, clL_n] <;> first | assumption | rfl | omega)) (by first | assumption | first | assumption | (simp (disch := omega) only [shI, shR, shL, shC, shD, shW, sh_V, shN_e, shN_n, crI, crL, crC, crW, crV, crR_e, crR_n, crN_e, crN_n, ciR, ciL, ciD, ciN_e, ciN_n, rdI_e, rdI_n, rdC_i, rdC_o, rdW, rdU_e, rdU_n, rdLW, clI, clR, clC, clD, clW, clV, clN_e, clN_n, clL_e, clL_n]; done) | (simp (disch := omega) only [shI, shR, shL, shC, shD, shW, sh_V, shN_e, shN_n, crI, crL, crC, crW, crV, crR_e, crR_n, crN_e, crN_n, ciR, ciL, ciD, ciN_e, ciN_n, rdI_e, rdI_n, rdC_i, rdC_o, rdW, rdU_e, rdU_n, rdLW, clI, clR, clC, clD, clW, clV, clN_e, clN_n, clL_e, clL_n] <;> first | assumption | rfl | omega)) ?_
              refine x_iload_n dX1_twins_30 rfl rfl ?_
              refine x_aald (t := 126) rfl (by decide) dX1_twins_31 (by first | assumption | first | assumption | (simp (disch := omega) only [shI, shR, shL, shC, shD, shW, sh_V, shN_e, shN_n, crI, crL, crC, crW, crV, crR_e, crR_n, crN_e, crN_n, ciR, ciL, ciD, ciN_e, ciN_n, rdI_e, rdI_n, rdC_i, rdC_o, rdW, rdU_e, rdU_n, rdLW, clI, clR, clC, clD, clW, clV, clN_e, clN_n, clL_e, clL_n]; done) | (simp (disch := omega) only [shI, shR, shL, shC, shD, shW, sh_V, shN_e, shN_n, crI, crL, crC, crW, crV, crR_e, crR_n, crN_e, crN_n, ciR, ciL, ciD, ciN_e, ciN_n, rdI_e, rdI_n, rdC_i, rdC_o, rdW, rdU_e, rdU_n, rdLW, clI, clR, clC, clD, clW, clV, clN_e, clN_n, clL_e, clL_n] <;> first | assumption | rfl | omega)) (by omega) (by omega) (by first | assumption | first | assumption | (simp (disch := omega) only [shI, shR, shL, shC, shD, shW, sh_V, shN_e, shN_n, crI, crL, crC, crW, crV, crR_e, crR_n, crN_e, crN_n, ciR, ciL, ciD, ciN_e, ciN_n, rdI_e, rdI_n, rdC_i, rdC_o, rdW, rdU_e, rdU_n, rdLW, clI, clR, clC, clD, clW, clV, clN_e, clN_n, clL_e, clL_n]; done) | (simp (disch := omega) only [shI, shR, shL, shC, shD, shW, sh_V, shN_e, shN_n, crI, crL, crC, crW, crV, crR_e, crR_n, crN_e, crN_n, ciR, ciL, ciD, ciN_e, ciN_n, rdI_e, rdI_n, rdC_i, rdC_o, rdW, rdU_e, rdU_n, rdLW, clI, clR, clC, clD, clW, clV, clN_e, clN_n, clL_e, clL_n] <;> first | assumption | rfl | omega)) ?_
              refine x_aload_n dX1_twins_32 rfl rfl ?_
              refine g_getR (kI := 1) rfl dX1_twins_33 fX1_22_1 (by first | assumption | first | assumption | (simp (disch := omega) only [shI, shR, shL, shC, shD, shW, sh_V, shN_e, shN_n, crI, crL, crC, crW, crV, crR_e, crR_n, crN_e, crN_n, ciR, ciL, ciD, ciN_e, ciN_n, rdI_e, rdI_n, rdC_i, rdC_o, rdW, rdU_e, rdU_n, rdLW, clI, clR, clC, clD, clW, clV, clN_e, clN_n, clL_e, clL_n]; done) | (simp (disch := omega) only [shI, shR, shL, shC, shD, shW, sh_V, shN_e, shN_n, crI, crL, crC, crW, crV, crR_e, crR_n, crN_e, crN_n, ciR, ciL, ciD, ciN_e, ciN_n, rdI_e, rdI_n, rdC_i, rdC_o, rdW, rdU_e, rdU_n, rdLW, clI, clR, clC, clD, clW, clV, clN_e, clN_n, clL_e, clL_n] <;> first | assumption | rfl | omega)) (by first | assumption | first | assumption | (simp (disch := omega) only [shI, shR, shL, shC, shD, shW, sh_V, shN_e, shN_n, crI, crL, crC, crW, crV, crR_e, crR_n, crN_e, crN_n, ciR, ciL, ciD, ciN_e, ciN_n, rdI_e, rdI_n, rdC_i, rdC_o, rdW, rdU_e, rdU_n, rdLW, clI, clR, clC, clD, clW, clV, clN_e, clN_n, clL_e, clL_n]; done) | (simp (disch := omega) only [shI, shR, shL, shC, shD, shW, sh_V, shN_e, shN_n, crI, crL, crC, crW, crV, crR_e, crR_n, crN_e, crN_n, ciR, ciL, ciD, ciN_e, ciN_n, rdI_e, rdI_n, rdC_i, rdC_o, rdW, rdU_e, rdU_n, rdLW, clI, clR, clC, clD, clW, clV, clN_e, clN_n, clL_e, clL_n] <;> first | assumption | rfl | omega)) ?_
              refine g_getR (kI := 0) rfl dX1_twins_36 fX1_112_3 (by first | assumption | first | assumption | (simp (disch := omega) only [shI, shR, shL, shC, shD, shW, sh_V, shN_e, shN_n, crI, crL, crC, crW, crV, crR_e, crR_n, crN_e, crN_n, ciR, ciL, ciD, ciN_e, ciN_n, rdI_e, rdI_n, rdC_i, rdC_o, rdW, rdU_e, rdU_n, rdLW, clI, clR, clC, clD, clW, clV, clN_e, clN_n, clL_e, clL_n]; done) | (simp (disch := omega) only [shI, shR, shL, shC, shD, shW, sh_V, shN_e, shN_n, crI, crL, crC, crW, crV, crR_e, crR_n, crN_e, crN_n, ciR, ciL, ciD, ciN_e, ciN_n, rdI_e, rdI_n, rdC_i, rdC_o, rdW, rdU_e, rdU_n, rdLW, clI, clR, clC, clD, clW, clV, clN_e, clN_n, clL_e, clL_n] <;> first | assumption | rfl | omega)) (by first | assumption | first | assumption | (simp (disch := omega) only [shI, shR, shL, shC, shD, shW, sh_V, shN_e, shN_n, crI, crL, crC, crW, crV, crR_e, crR_n, crN_e, crN_n, ciR, ciL, ciD, ciN_e, ciN_n, rdI_e, rdI_n, rdC_i, rdC_o, rdW, rdU_e, rdU_n, rdLW, clI, clR, clC, clD, clW, clV, clN_e, clN_n, clL_e, clL_n]; done) | (simp (disch := omega) only [shI, shR, shL, shC, shD, shW, sh_V, shN_e, shN_n, crI, crL, crC, crW, crV, crR_e, crR_n, crN_e, crN_n, ciR, ciL, ciD, ciN_e, ciN_n, rdI_e, rdI_n, rdC_i, rdC_o, rdW, rdU_e, rdU_n, rdLW, clI, clR, clC, clD, clW, clV, clN_e, clN_n, clL_e, clL_n] <;> first | assumption | rfl | omega)) ?_
              refine x_iload_n dX1_twins_39 rfl rfl ?_
              refine x_aald (t := 126) rfl (by decide) dX1_twins_40 (by first | assumption | first | assumption | (simp (disch := omega) only [shI, shR, shL, shC, shD, shW, sh_V, shN_e, shN_n, crI, crL, crC, crW, crV, crR_e, crR_n, crN_e, crN_n, ciR, ciL, ciD, ciN_e, ciN_n, rdI_e, rdI_n, rdC_i, rdC_o, rdW, rdU_e, rdU_n, rdLW, clI, clR, clC, clD, clW, clV, clN_e, clN_n, clL_e, clL_n]; done) | (simp (disch := omega) only [shI, shR, shL, shC, shD, shW, sh_V, shN_e, shN_n, crI, crL, crC, crW, crV, crR_e, crR_n, crN_e, crN_n, ciR, ciL, ciD, ciN_e, ciN_n, rdI_e, rdI_n, rdC_i, rdC_o, rdW, rdU_e, rdU_n, rdLW, clI, clR, clC, clD, clW, clV, clN_e, clN_n, clL_e, clL_n] <;> first | assumption | rfl | omega)) (by omega) (by omega) (by first | assumption | first | assumption | (simp (disch := omega) only [shI, shR, shL, shC, shD, shW, sh_V, shN_e, shN_n, crI, crL, crC, crW, crV, crR_e, crR_n, crN_e, crN_n, ciR, ciL, ciD, ciN_e, ciN_n, rdI_e, rdI_n, rdC_i, rdC_o, rdW, rdU_e, rdU_n, rdLW, clI, clR, clC, clD, clW, clV, clN_e, clN_n, clL_e, clL_n]; done) | (simp (disch := omega) only [shI, shR, shL, shC, shD, shW, sh_V, shN_e, shN_n, crI, crL, crC, crW, crV, crR_e, crR_n, crN_e, crN_n, ciR, ciL, ciD, ciN_e, ciN_n, rdI_e, rdI_n, rdC_i, rdC_o, rdW, rdU_e, rdU_n, rdLW, clI, clR, clC, clD, clW, clV, clN_e, clN_n, clL_e, clL_n] <;> first | assumption | rfl | omega)) ?_
              refine g_callI (vs := [_, _]) (d' := d - 1) rfl (s_X6_isLike (by omega) wa2 wb2 (by omega)) dX1_twins_41 kX1_431 (by omega) (by decide) rfl (Nat.le_of_ble_eq_true rfl) (rcv_o (by first | assumption | first | assumption | (simp (disch := omega) only [shI, shR, shL, shC, shD, shW, sh_V, shN_e, shN_n, crI, crL, crC, crW, crV, crR_e, crR_n, crN_e, crN_n, ciR, ciL, ciD, ciN_e, ciN_n, rdI_e, rdI_n, rdC_i, rdC_o, rdW, rdU_e, rdU_n, rdLW, clI, clR, clC, clD, clW, clV, clN_e, clN_n, clL_e, clL_n]; done) | (simp (disch := omega) only [shI, shR, shL, shC, shD, shW, sh_V, shN_e, shN_n, crI, crL, crC, crW, crV, crR_e, crR_n, crN_e, crN_n, ciR, ciL, ciD, ciN_e, ciN_n, rdI_e, rdI_n, rdC_i, rdC_o, rdW, rdU_e, rdU_n, rdLW, clI, clR, clC, clD, clW, clV, clN_e, clN_n, clL_e, clL_n] <;> first | assumption | rfl | omega)) rfl) (fun x41 M41 h41 => ?_)
              obtain ⟨e41, f41⟩ := h41
              have f41' := f41.symm
              subst f41'
              rw [likeE hRa (b14 b b0 (by omega))] at e41
              subst e41
              have hRb := b14 b b0 (by omega)
              refine g_callI (vs := [_]) (d' := d - 1) rfl (s_X1_flag (by omega) (by first | omega | exact vP_r _)) dX1_twins_44 kX1_248 (by omega) (by decide) rfl (Nat.le_of_ble_eq_true rfl) (rcv_n) (fun x44 M44 h44 => ?_)
              obtain ⟨e44, f44⟩ := h44
              have f44' := f44.symm
              subst f44'
              subst e44
              first | refine x_iaddN dX1_twins_47 (by unfold i32; omega) ?_ | refine x_iadd dX1_twins_47 ?_
              refine x_istore_n (L' := [some _, some _, some _, some _]) dX1_twins_48 rfl (by decide) rfl ?_
              first | refine x_iincN (L' := [some _, some _, some _, some _]) dX1_twins_49 rfl (by decide) (by unfold i32; omega) rfl ?_ | refine x_iinc (L' := [some _, some _, some _, some _]) dX1_twins_49 rfl (by decide) rfl ?_
              refine x_goto (tgt := 17) dX1_twins_52 (by decide) ?_
              exact ih2 _ (by omega) (b + 1) _ rfl (by omega) (by omega) (by omega)
        refine x_iload_n dX1_twins_4 rfl rfl ?_
        refine x_aload_n dX1_twins_5 rfl rfl ?_
        refine g_getR (kI := 1) rfl dX1_twins_6 fX1_22_1 (by first | assumption | first | assumption | (simp (disch := omega) only [shI, shR, shL, shC, shD, shW, sh_V, shN_e, shN_n, crI, crL, crC, crW, crV, crR_e, crR_n, crN_e, crN_n, ciR, ciL, ciD, ciN_e, ciN_n, rdI_e, rdI_n, rdC_i, rdC_o, rdW, rdU_e, rdU_n, rdLW, clI, clR, clC, clD, clW, clV, clN_e, clN_n, clL_e, clL_n]; done) | (simp (disch := omega) only [shI, shR, shL, shC, shD, shW, sh_V, shN_e, shN_n, crI, crL, crC, crW, crV, crR_e, crR_n, crN_e, crN_n, ciR, ciL, ciD, ciN_e, ciN_n, rdI_e, rdI_n, rdC_i, rdC_o, rdW, rdU_e, rdU_n, rdLW, clI, clR, clC, clD, clW, clV, clN_e, clN_n, clL_e, clL_n] <;> first | assumption | rfl | omega)) (by first | assumption | first | assumption | (simp (disch := omega) only [shI, shR, shL, shC, shD, shW, sh_V, shN_e, shN_n, crI, crL, crC, crW, crV, crR_e, crR_n, crN_e, crN_n, ciR, ciL, ciD, ciN_e, ciN_n, rdI_e, rdI_n, rdC_i, rdC_o, rdW, rdU_e, rdU_n, rdLW, clI, clR, clC, clD, clW, clV, clN_e, clN_n, clL_e, clL_n]; done) | (simp (disch := omega) only [shI, shR, shL, shC, shD, shW, sh_V, shN_e, shN_n, crI, crL, crC, crW, crV, crR_e, crR_n, crN_e, crN_n, ciR, ciL, ciD, ciN_e, ciN_n, rdI_e, rdI_n, rdC_i, rdC_o, rdW, rdU_e, rdU_n, rdLW, clI, clR, clC, clD, clW, clV, clN_e, clN_n, clL_e, clL_n] <;> first | assumption | rfl | omega)) ?_
        refine g_getI (kI := 8) rfl dX1_twins_9 fX1_101_3 (by first | assumption | first | assumption | (simp (disch := omega) only [shI, shR, shL, shC, shD, shW, sh_V, shN_e, shN_n, crI, crL, crC, crW, crV, crR_e, crR_n, crN_e, crN_n, ciR, ciL, ciD, ciN_e, ciN_n, rdI_e, rdI_n, rdC_i, rdC_o, rdW, rdU_e, rdU_n, rdLW, clI, clR, clC, clD, clW, clV, clN_e, clN_n, clL_e, clL_n]; done) | (simp (disch := omega) only [shI, shR, shL, shC, shD, shW, sh_V, shN_e, shN_n, crI, crL, crC, crW, crV, crR_e, crR_n, crN_e, crN_n, ciR, ciL, ciD, ciN_e, ciN_n, rdI_e, rdI_n, rdC_i, rdC_o, rdW, rdU_e, rdU_n, rdLW, clI, clR, clC, clD, clW, clV, clN_e, clN_n, clL_e, clL_n] <;> first | assumption | rfl | omega)) ?_
        try simp (disch := omega) only [rdI_e, rdI_n, rdC_i, rdC_o, rdW, rdR, rdU_e, rdU_n, rdLW, Int.add_zero, b1]
        refine x_icmp_ge (tgt := 61) dX1_twins_12 (by decide) (fun h12 => ?_) (fun h12 => ?_)
        · omega
        · refine x_iconst dX1_twins_15 rfl ?_
          refine x_istore_n (L' := [some _, some _, some _, some _]) dX1_twins_16 rfl (by decide) rfl ?_
          exact inner _ 0 x rfl (by omega) (by omega) (by rw [hx]; show _ = twinT v a.toNat + 0; omega)
      · refine x_iload_n dX1_twins_4 rfl rfl ?_
        refine x_aload_n dX1_twins_5 rfl rfl ?_
        refine g_getR (kI := 1) rfl dX1_twins_6 fX1_22_1 (by first | assumption | first | assumption | (simp (disch := omega) only [shI, shR, shL, shC, shD, shW, sh_V, shN_e, shN_n, crI, crL, crC, crW, crV, crR_e, crR_n, crN_e, crN_n, ciR, ciL, ciD, ciN_e, ciN_n, rdI_e, rdI_n, rdC_i, rdC_o, rdW, rdU_e, rdU_n, rdLW, clI, clR, clC, clD, clW, clV, clN_e, clN_n, clL_e, clL_n]; done) | (simp (disch := omega) only [shI, shR, shL, shC, shD, shW, sh_V, shN_e, shN_n, crI, crL, crC, crW, crV, crR_e, crR_n, crN_e, crN_n, ciR, ciL, ciD, ciN_e, ciN_n, rdI_e, rdI_n, rdC_i, rdC_o, rdW, rdU_e, rdU_n, rdLW, clI, clR, clC, clD, clW, clV, clN_e, clN_n, clL_e, clL_n] <;> first | assumption | rfl | omega)) (by first | assumption | first | assumption | (simp (disch := omega) only [shI, shR, shL, shC, shD, shW, sh_V, shN_e, shN_n, crI, crL, crC, crW, crV, crR_e, crR_n, crN_e, crN_n, ciR, ciL, ciD, ciN_e, ciN_n, rdI_e, rdI_n, rdC_i, rdC_o, rdW, rdU_e, rdU_n, rdLW, clI, clR, clC, clD, clW, clV, clN_e, clN_n, clL_e, clL_n]; done) | (simp (disch := omega) only [shI, shR, shL, shC, shD, shW, sh_V, shN_e, shN_n, crI, crL, crC, crW, crV, crR_e, crR_n, crN_e, crN_n, ciR, ciL, ciD, ciN_e, ciN_n, rdI_e, rdI_n, rdC_i, rdC_o, rdW, rdU_e, rdU_n, rdLW, clI, clR, clC, clD, clW, clV, clN_e, clN_n, clL_e, clL_n] <;> first | assumption | rfl | omega)) ?_
        refine g_getI (kI := 8) rfl dX1_twins_9 fX1_101_3 (by first | assumption | first | assumption | (simp (disch := omega) only [shI, shR, shL, shC, shD, shW, sh_V, shN_e, shN_n, crI, crL, crC, crW, crV, crR_e, crR_n, crN_e, crN_n, ciR, ciL, ciD, ciN_e, ciN_n, rdI_e, rdI_n, rdC_i, rdC_o, rdW, rdU_e, rdU_n, rdLW, clI, clR, clC, clD, clW, clV, clN_e, clN_n, clL_e, clL_n]; done) | (simp (disch := omega) only [shI, shR, shL, shC, shD, shW, sh_V, shN_e, shN_n, crI, crL, crC, crW, crV, crR_e, crR_n, crN_e, crN_n, ciR, ciL, ciD, ciN_e, ciN_n, rdI_e, rdI_n, rdC_i, rdC_o, rdW, rdU_e, rdU_n, rdLW, clI, clR, clC, clD, clW, clV, clN_e, clN_n, clL_e, clL_n] <;> first | assumption | rfl | omega)) ?_
        try simp (disch := omega) only [rdI_e, rdI_n, rdC_i, rdC_o, rdW, rdR, rdU_e, rdU_n, rdLW, Int.add_zero, b1]
        refine x_icmp_ge (tgt := 61) dX1_twins_12 (by decide) (fun h12 => ?_) (fun h12 => ?_)
        · refine x_iload_n dX1_twins_61 rfl rfl ?_
          refine x_ireturn rfl dX1_twins_62 ?_
          refine hQ _ _ ⟨_, rfl, ?_, rfl⟩
          unfold twinsV
          rw [hx, show a = v 0 by omega]
        · omega
  refine x_iconst dX1_twins_0 rfl ?_
  refine x_istore_n (L' := [some _, some _, none, none]) dX1_twins_1 rfl (by decide) rfl ?_
  refine x_iconst dX1_twins_2 rfl ?_
  refine x_istore_n (L' := [some _, some _, some _, none]) dX1_twins_3 rfl (by decide) rfl ?_
  exact loop _ 0 0 rfl (by omega) (by omega) rfl
theorem s_X1_sizes (hd : 12 ≤ d) (hC : CI M v n A hi vi tp sz fa N) (ha : 0 ≤ a ∧ a < v 0) (hb : 0 ≤ b ∧ b < v 0) : CS G d mX1_sizes [dR 0, dI a, dI b] M (pur M (opN v a + opN v b)) := by
  obtain ⟨hC1, hC54, hCA, hCR⟩ := id hC; obtain ⟨hS, hTab, hTx, hLn, hSk, hnx⟩ := id hC1; obtain ⟨hA, hL, hR⟩ := id hC54; obtain ⟨⟨s0, s199, s200, s201, s202, s203⟩, ⟨c0, c1, c2, c3, c4, c5, c6, c7, c8, c9, c10, c11, c12⟩, c203, hSt, m189, m191, g193, g196, ⟨⟨r2, r3, r4, r5, r6, r7, r53⟩, ⟨w0, w1, w2, w3, w4, w5, w6⟩, wx1, wx2, wx3⟩⟩ := id hS; have hv := hA.1; have hv8 := hv.n8; have hv0 := hv.1.1; have hv3 := hv.2.2.2.1; have hs54 := hSt 54 (by unfold SB; omega); obtain ⟨p0, p1, ⟨d0, d1, d2, d3, d4, d5, d6, d7⟩, ⟨t1, t2, t3, t4, t5, t6⟩, p5, p6, p7⟩ := id hs54; have t7 : msh M (54 + 7) = some (4, 0) := p5.2.1; have t10 : msh M (54 + 10) = some (4, 0) := p6.2.1; obtain ⟨hB, hW, hLw⟩ := id hR.1; obtain ⟨b1, b2, b3, b4, b5, b6, b7, b8, b9, b10, b11, b12, b13, b14, b15⟩ := id hB; obtain ⟨hn, hn2, hat, hAc⟩ := id hCA; obtain ⟨⟨hki, hhi⟩, hIm, ⟨htp, hsz, hsz2⟩, hfa⟩ := id hCR
  obtain ⟨wa1, wa2⟩ := p7 a ha.1 (by omega)
  obtain ⟨wb1, wb2⟩ := p7 b hb.1 (by omega)
  have wa3 := wa2.2.1
  have wb3 := wb2.2.1
  have ra1 := (b14 a ha.1 ha.2).1
  have rb1 := (b14 b hb.1 hb.2).1
  have oa := (hv.op a ha.1 ha.2).1
  have ob := (hv.op b hb.1 hb.2).1
  refine CS.mkQ (by decide) (Nat.le_of_ble_eq_true rfl) fun Q hQ => ?_
  refine x_aload_n dX1_sizes_0 rfl rfl ?_
  refine g_getR (kI := 1) rfl dX1_sizes_1 fX1_22_1 (by first | assumption | first | assumption | (simp (disch := omega) only [shI, shR, shL, shC, shD, shW, sh_V, shN_e, shN_n, crI, crL, crC, crW, crV, crR_e, crR_n, crN_e, crN_n, ciR, ciL, ciD, ciN_e, ciN_n, rdI_e, rdI_n, rdC_i, rdC_o, rdW, rdU_e, rdU_n, rdLW, clI, clR, clC, clD, clW, clV, clN_e, clN_n, clL_e, clL_n]; done) | (simp (disch := omega) only [shI, shR, shL, shC, shD, shW, sh_V, shN_e, shN_n, crI, crL, crC, crW, crV, crR_e, crR_n, crN_e, crN_n, ciR, ciL, ciD, ciN_e, ciN_n, rdI_e, rdI_n, rdC_i, rdC_o, rdW, rdU_e, rdU_n, rdLW, clI, clR, clC, clD, clW, clV, clN_e, clN_n, clL_e, clL_n] <;> first | assumption | rfl | omega)) (by first | assumption | first | assumption | (simp (disch := omega) only [shI, shR, shL, shC, shD, shW, sh_V, shN_e, shN_n, crI, crL, crC, crW, crV, crR_e, crR_n, crN_e, crN_n, ciR, ciL, ciD, ciN_e, ciN_n, rdI_e, rdI_n, rdC_i, rdC_o, rdW, rdU_e, rdU_n, rdLW, clI, clR, clC, clD, clW, clV, clN_e, clN_n, clL_e, clL_n]; done) | (simp (disch := omega) only [shI, shR, shL, shC, shD, shW, sh_V, shN_e, shN_n, crI, crL, crC, crW, crV, crR_e, crR_n, crN_e, crN_n, ciR, ciL, ciD, ciN_e, ciN_n, rdI_e, rdI_n, rdC_i, rdC_o, rdW, rdU_e, rdU_n, rdLW, clI, clR, clC, clD, clW, clV, clN_e, clN_n, clL_e, clL_n] <;> first | assumption | rfl | omega)) ?_
  refine g_getR (kI := 0) rfl dX1_sizes_4 fX1_112_3 (by first | assumption | first | assumption | (simp (disch := omega) only [shI, shR, shL, shC, shD, shW, sh_V, shN_e, shN_n, crI, crL, crC, crW, crV, crR_e, crR_n, crN_e, crN_n, ciR, ciL, ciD, ciN_e, ciN_n, rdI_e, rdI_n, rdC_i, rdC_o, rdW, rdU_e, rdU_n, rdLW, clI, clR, clC, clD, clW, clV, clN_e, clN_n, clL_e, clL_n]; done) | (simp (disch := omega) only [shI, shR, shL, shC, shD, shW, sh_V, shN_e, shN_n, crI, crL, crC, crW, crV, crR_e, crR_n, crN_e, crN_n, ciR, ciL, ciD, ciN_e, ciN_n, rdI_e, rdI_n, rdC_i, rdC_o, rdW, rdU_e, rdU_n, rdLW, clI, clR, clC, clD, clW, clV, clN_e, clN_n, clL_e, clL_n] <;> first | assumption | rfl | omega)) (by first | assumption | first | assumption | (simp (disch := omega) only [shI, shR, shL, shC, shD, shW, sh_V, shN_e, shN_n, crI, crL, crC, crW, crV, crR_e, crR_n, crN_e, crN_n, ciR, ciL, ciD, ciN_e, ciN_n, rdI_e, rdI_n, rdC_i, rdC_o, rdW, rdU_e, rdU_n, rdLW, clI, clR, clC, clD, clW, clV, clN_e, clN_n, clL_e, clL_n]; done) | (simp (disch := omega) only [shI, shR, shL, shC, shD, shW, sh_V, shN_e, shN_n, crI, crL, crC, crW, crV, crR_e, crR_n, crN_e, crN_n, ciR, ciL, ciD, ciN_e, ciN_n, rdI_e, rdI_n, rdC_i, rdC_o, rdW, rdU_e, rdU_n, rdLW, clI, clR, clC, clD, clW, clV, clN_e, clN_n, clL_e, clL_n] <;> first | assumption | rfl | omega)) ?_
  refine x_iload_n dX1_sizes_7 rfl rfl ?_
  refine x_aald (t := 126) rfl (by decide) dX1_sizes_8 (by first | assumption | first | assumption | (simp (disch := omega) only [shI, shR, shL, shC, shD, shW, sh_V, shN_e, shN_n, crI, crL, crC, crW, crV, crR_e, crR_n, crN_e, crN_n, ciR, ciL, ciD, ciN_e, ciN_n, rdI_e, rdI_n, rdC_i, rdC_o, rdW, rdU_e, rdU_n, rdLW, clI, clR, clC, clD, clW, clV, clN_e, clN_n, clL_e, clL_n]; done) | (simp (disch := omega) only [shI, shR, shL, shC, shD, shW, sh_V, shN_e, shN_n, crI, crL, crC, crW, crV, crR_e, crR_n, crN_e, crN_n, ciR, ciL, ciD, ciN_e, ciN_n, rdI_e, rdI_n, rdC_i, rdC_o, rdW, rdU_e, rdU_n, rdLW, clI, clR, clC, clD, clW, clV, clN_e, clN_n, clL_e, clL_n] <;> first | assumption | rfl | omega)) (by omega) (by omega) (by first | assumption | first | assumption | (simp (disch := omega) only [shI, shR, shL, shC, shD, shW, sh_V, shN_e, shN_n, crI, crL, crC, crW, crV, crR_e, crR_n, crN_e, crN_n, ciR, ciL, ciD, ciN_e, ciN_n, rdI_e, rdI_n, rdC_i, rdC_o, rdW, rdU_e, rdU_n, rdLW, clI, clR, clC, clD, clW, clV, clN_e, clN_n, clL_e, clL_n]; done) | (simp (disch := omega) only [shI, shR, shL, shC, shD, shW, sh_V, shN_e, shN_n, crI, crL, crC, crW, crV, crR_e, crR_n, crN_e, crN_n, ciR, ciL, ciD, ciN_e, ciN_n, rdI_e, rdI_n, rdC_i, rdC_o, rdW, rdU_e, rdU_n, rdLW, clI, clR, clC, clD, clW, clV, clN_e, clN_n, clL_e, clL_n] <;> first | assumption | rfl | omega)) ?_
  refine g_getI (kI := 3) rfl dX1_sizes_9 fX1_252_6 (by first | assumption | first | assumption | (simp (disch := omega) only [shI, shR, shL, shC, shD, shW, sh_V, shN_e, shN_n, crI, crL, crC, crW, crV, crR_e, crR_n, crN_e, crN_n, ciR, ciL, ciD, ciN_e, ciN_n, rdI_e, rdI_n, rdC_i, rdC_o, rdW, rdU_e, rdU_n, rdLW, clI, clR, clC, clD, clW, clV, clN_e, clN_n, clL_e, clL_n]; done) | (simp (disch := omega) only [shI, shR, shL, shC, shD, shW, sh_V, shN_e, shN_n, crI, crL, crC, crW, crV, crR_e, crR_n, crN_e, crN_n, ciR, ciL, ciD, ciN_e, ciN_n, rdI_e, rdI_n, rdC_i, rdC_o, rdW, rdU_e, rdU_n, rdLW, clI, clR, clC, clD, clW, clV, clN_e, clN_n, clL_e, clL_n] <;> first | assumption | rfl | omega)) ?_
  try simp (disch := omega) only [rdI_e, rdI_n, rdC_i, rdC_o, rdW, rdR, rdU_e, rdU_n, rdLW, Int.add_zero, ra1, rb1]
  refine x_aload_n dX1_sizes_12 rfl rfl ?_
  refine g_getR (kI := 1) rfl dX1_sizes_13 fX1_22_1 (by first | assumption | first | assumption | (simp (disch := omega) only [shI, shR, shL, shC, shD, shW, sh_V, shN_e, shN_n, crI, crL, crC, crW, crV, crR_e, crR_n, crN_e, crN_n, ciR, ciL, ciD, ciN_e, ciN_n, rdI_e, rdI_n, rdC_i, rdC_o, rdW, rdU_e, rdU_n, rdLW, clI, clR, clC, clD, clW, clV, clN_e, clN_n, clL_e, clL_n]; done) | (simp (disch := omega) only [shI, shR, shL, shC, shD, shW, sh_V, shN_e, shN_n, crI, crL, crC, crW, crV, crR_e, crR_n, crN_e, crN_n, ciR, ciL, ciD, ciN_e, ciN_n, rdI_e, rdI_n, rdC_i, rdC_o, rdW, rdU_e, rdU_n, rdLW, clI, clR, clC, clD, clW, clV, clN_e, clN_n, clL_e, clL_n] <;> first | assumption | rfl | omega)) (by first | assumption | first | assumption | (simp (disch := omega) only [shI, shR, shL, shC, shD, shW, sh_V, shN_e, shN_n, crI, crL, crC, crW, crV, crR_e, crR_n, crN_e, crN_n, ciR, ciL, ciD, ciN_e, ciN_n, rdI_e, rdI_n, rdC_i, rdC_o, rdW, rdU_e, rdU_n, rdLW, clI, clR, clC, clD, clW, clV, clN_e, clN_n, clL_e, clL_n]; done) | (simp (disch := omega) only [shI, shR, shL, shC, shD, shW, sh_V, shN_e, shN_n, crI, crL, crC, crW, crV, crR_e, crR_n, crN_e, crN_n, ciR, ciL, ciD, ciN_e, ciN_n, rdI_e, rdI_n, rdC_i, rdC_o, rdW, rdU_e, rdU_n, rdLW, clI, clR, clC, clD, clW, clV, clN_e, clN_n, clL_e, clL_n] <;> first | assumption | rfl | omega)) ?_
  refine g_getR (kI := 0) rfl dX1_sizes_16 fX1_112_3 (by first | assumption | first | assumption | (simp (disch := omega) only [shI, shR, shL, shC, shD, shW, sh_V, shN_e, shN_n, crI, crL, crC, crW, crV, crR_e, crR_n, crN_e, crN_n, ciR, ciL, ciD, ciN_e, ciN_n, rdI_e, rdI_n, rdC_i, rdC_o, rdW, rdU_e, rdU_n, rdLW, clI, clR, clC, clD, clW, clV, clN_e, clN_n, clL_e, clL_n]; done) | (simp (disch := omega) only [shI, shR, shL, shC, shD, shW, sh_V, shN_e, shN_n, crI, crL, crC, crW, crV, crR_e, crR_n, crN_e, crN_n, ciR, ciL, ciD, ciN_e, ciN_n, rdI_e, rdI_n, rdC_i, rdC_o, rdW, rdU_e, rdU_n, rdLW, clI, clR, clC, clD, clW, clV, clN_e, clN_n, clL_e, clL_n] <;> first | assumption | rfl | omega)) (by first | assumption | first | assumption | (simp (disch := omega) only [shI, shR, shL, shC, shD, shW, sh_V, shN_e, shN_n, crI, crL, crC, crW, crV, crR_e, crR_n, crN_e, crN_n, ciR, ciL, ciD, ciN_e, ciN_n, rdI_e, rdI_n, rdC_i, rdC_o, rdW, rdU_e, rdU_n, rdLW, clI, clR, clC, clD, clW, clV, clN_e, clN_n, clL_e, clL_n]; done) | (simp (disch := omega) only [shI, shR, shL, shC, shD, shW, sh_V, shN_e, shN_n, crI, crL, crC, crW, crV, crR_e, crR_n, crN_e, crN_n, ciR, ciL, ciD, ciN_e, ciN_n, rdI_e, rdI_n, rdC_i, rdC_o, rdW, rdU_e, rdU_n, rdLW, clI, clR, clC, clD, clW, clV, clN_e, clN_n, clL_e, clL_n] <;> first | assumption | rfl | omega)) ?_
  refine x_iload_n dX1_sizes_19 rfl rfl ?_
  refine x_aald (t := 126) rfl (by decide) dX1_sizes_20 (by first | assumption | first | assumption | (simp (disch := omega) only [shI, shR, shL, shC, shD, shW, sh_V, shN_e, shN_n, crI, crL, crC, crW, crV, crR_e, crR_n, crN_e, crN_n, ciR, ciL, ciD, ciN_e, ciN_n, rdI_e, rdI_n, rdC_i, rdC_o, rdW, rdU_e, rdU_n, rdLW, clI, clR, clC, clD, clW, clV, clN_e, clN_n, clL_e, clL_n]; done) | (simp (disch := omega) only [shI, shR, shL, shC, shD, shW, sh_V, shN_e, shN_n, crI, crL, crC, crW, crV, crR_e, crR_n, crN_e, crN_n, ciR, ciL, ciD, ciN_e, ciN_n, rdI_e, rdI_n, rdC_i, rdC_o, rdW, rdU_e, rdU_n, rdLW, clI, clR, clC, clD, clW, clV, clN_e, clN_n, clL_e, clL_n] <;> first | assumption | rfl | omega)) (by omega) (by omega) (by first | assumption | first | assumption | (simp (disch := omega) only [shI, shR, shL, shC, shD, shW, sh_V, shN_e, shN_n, crI, crL, crC, crW, crV, crR_e, crR_n, crN_e, crN_n, ciR, ciL, ciD, ciN_e, ciN_n, rdI_e, rdI_n, rdC_i, rdC_o, rdW, rdU_e, rdU_n, rdLW, clI, clR, clC, clD, clW, clV, clN_e, clN_n, clL_e, clL_n]; done) | (simp (disch := omega) only [shI, shR, shL, shC, shD, shW, sh_V, shN_e, shN_n, crI, crL, crC, crW, crV, crR_e, crR_n, crN_e, crN_n, ciR, ciL, ciD, ciN_e, ciN_n, rdI_e, rdI_n, rdC_i, rdC_o, rdW, rdU_e, rdU_n, rdLW, clI, clR, clC, clD, clW, clV, clN_e, clN_n, clL_e, clL_n] <;> first | assumption | rfl | omega)) ?_
  refine g_getI (kI := 3) rfl dX1_sizes_21 fX1_252_6 (by first | assumption | first | assumption | (simp (disch := omega) only [shI, shR, shL, shC, shD, shW, sh_V, shN_e, shN_n, crI, crL, crC, crW, crV, crR_e, crR_n, crN_e, crN_n, ciR, ciL, ciD, ciN_e, ciN_n, rdI_e, rdI_n, rdC_i, rdC_o, rdW, rdU_e, rdU_n, rdLW, clI, clR, clC, clD, clW, clV, clN_e, clN_n, clL_e, clL_n]; done) | (simp (disch := omega) only [shI, shR, shL, shC, shD, shW, sh_V, shN_e, shN_n, crI, crL, crC, crW, crV, crR_e, crR_n, crN_e, crN_n, ciR, ciL, ciD, ciN_e, ciN_n, rdI_e, rdI_n, rdC_i, rdC_o, rdW, rdU_e, rdU_n, rdLW, clI, clR, clC, clD, clW, clV, clN_e, clN_n, clL_e, clL_n] <;> first | assumption | rfl | omega)) ?_
  try simp (disch := omega) only [rdI_e, rdI_n, rdC_i, rdC_o, rdW, rdR, rdU_e, rdU_n, rdLW, Int.add_zero, ra1, rb1]
  first | refine x_iaddN dX1_sizes_24 (by unfold i32; omega) ?_ | refine x_iadd dX1_sizes_24 ?_
  refine x_ireturn rfl dX1_sizes_25 ?_
  exact hQ _ _ ⟨_, rfl, rfl, rfl⟩
theorem jand_c0 : ∀ x y z : BitVec 32, (x &&& y) &&& z = (x &&& z) &&& (y &&& z) := by
  intro x y z
  ext i hi
  simp only [BitVec.getElem_and]
  cases x[i] <;> cases y[i] <;> cases z[i] <;> rfl
theorem jand_and1 (x y : Int) : jand (jand x y) 1 = jand (jand x 1) (jand y 1) := by
  unfold jand
  rw [Int32.ofInt_toInt, Int32.ofInt_toInt, Int32.ofInt_toInt]
  refine congrArg Int32.toInt (Int32.toBitVec_inj.mp ?_)
  simp only [Int32.toBitVec_and]
  exact jand_c0 _ _ _
/-- both bits -/
theorem two_bits {s a b : Int} (hs : 0 ≤ s ∧ s < 256) (ha : 0 ≤ a ∧ a < 8) (hb : 0 ≤ b ∧ b < 8) : jand (jand (jshr s a) (jshr s b)) 1 = bitI s a * bitI s b := by
  have e1 : jand (jand (jshr s a) (jshr s b)) 1 = jand (jand (jshr s a) 1) (jand (jshr s b) 1) := jand_and1 _ _
  rw [e1, has_e (by unfold i32; omega) (by omega), has_e (by unfold i32; omega) (by omega)]
  rcases bitI_r s a with q | q <;> rcases bitI_r s b with q2 | q2 <;> rw [q, q2] <;> decide
theorem s_X1_beside (hd : 16 ≤ d) (hC : CI M v n A hi vi tp sz fa N) : CS G d mX1_beside [dR 0] M (pur M (besideAns v)) := by
  obtain ⟨hC1, hC54, hCA, hCR⟩ := id hC; obtain ⟨hS, hTab, hTx, hLn, hSk, hnx⟩ := id hC1; obtain ⟨hA, hL, hR⟩ := id hC54; obtain ⟨⟨s0, s199, s200, s201, s202, s203⟩, ⟨c0, c1, c2, c3, c4, c5, c6, c7, c8, c9, c10, c11, c12⟩, c203, hSt, m189, m191, g193, g196, ⟨⟨r2, r3, r4, r5, r6, r7, r53⟩, ⟨w0, w1, w2, w3, w4, w5, w6⟩, wx1, wx2, wx3⟩⟩ := id hS; have hv := hA.1; have hv8 := hv.n8; have hv0 := hv.1.1; have hv3 := hv.2.2.2.1; have hs54 := hSt 54 (by unfold SB; omega); obtain ⟨p0, p1, ⟨d0, d1, d2, d3, d4, d5, d6, d7⟩, ⟨t1, t2, t3, t4, t5, t6⟩, p5, p6, p7⟩ := id hs54; have t7 : msh M (54 + 7) = some (4, 0) := p5.2.1; have t10 : msh M (54 + 10) = some (4, 0) := p6.2.1; obtain ⟨hB, hW, hLw⟩ := id hR.1; obtain ⟨b1, b2, b3, b4, b5, b6, b7, b8, b9, b10, b11, b12, b13, b14, b15⟩ := id hB; obtain ⟨hn, hn2, hat, hAc⟩ := id hCA; obtain ⟨⟨hki, hhi⟩, hIm, ⟨htp, hsz, hsz2⟩, hfa⟩ := id hCR
  have h8 := pw_le8 (t := (v 0).toNat) (by omega)
  have hpp := pw_pos (v 0)
  rw [show (((v 0).toNat : Nat) : Int) = v 0 by omega] at h8
  refine CS.mkQ (by decide) (Nat.le_of_ble_eq_true rfl) fun Q hQ => ?_
  have loop : ∀ (t : Nat) (s x : Int), (pw (v 0) - s).toNat = t → (1 ≤ s) → (s ≤ pw (v 0)) → (x = besR v (s - 1).toNat) → WP G d mX1_beside 4 [some (dR 0), some (dI x), some (dI s), none, none, none] [] (M) Q := by
    intro t
    induction t using Nat.strongRecOn with
    | _ t ih =>
      intro s x ht s0' s1 hx
      have hr := besR_r v (s - 1).toNat
      rw [← hx] at hr
      have es : besR v (s + 1 - 1).toNat = @ite Int (bc0 x < bc0 s ∧ peaceV v s) (Classical.propDecidable _) s x := by
        rw [show (s + 1 - 1).toNat = (s - 1).toNat + 1 by omega, besR_s, show (((s - 1).toNat + 1 : Nat) : Int) = s by omega, hx]
      have fin : ∀ (p : Int) (o1 o2 : Option DV), s < pw (v 0) → p = vP (bc0 x < bc0 s ∧ peaceV v s) → WP G d mX1_beside 108 [some (dR 0), some (dI x), some (dI s), some (dI p), o1, o2] [] M Q := by
        intro p o1 o2 hs hp
        refine x_fgt (L' := [some (dR 0), some (dI x), some (dI s), some (dI p), none, none]) (by simp [subL]) ?_
        refine x_iload_n dX1_beside_108 rfl rfl ?_
        rw [hp]
        refine x_if_eq (tgt := 114) dX1_beside_109 (by decide) (fun h109 => ?_) (fun h109 => ?_)
        · try simp only [vP_0, vP_1, vP_n0, vP_n1, Classical.not_not] at h109
          first | refine x_iincN (L' := [some _, some _, some _, some _, none, none]) dX1_beside_114 rfl (by decide) (by unfold i32; omega) rfl ?_ | refine x_iinc (L' := [some _, some _, some _, some _, none, none]) dX1_beside_114 rfl (by decide) rfl ?_
          refine x_goto (tgt := 4) dX1_beside_117 (by decide) ?_
          first
          | (rw [if_pos h109] at es
             exact x_fgt (by repeat (first | exact trivial | refine ⟨rfl, ?_⟩)) (ih _ (by omega) (s + 1) _ rfl (by omega) (by omega) es.symm))
          | (rw [if_neg h109] at es
             exact x_fgt (by repeat (first | exact trivial | refine ⟨rfl, ?_⟩)) (ih _ (by omega) (s + 1) _ rfl (by omega) (by omega) es.symm))
        · try simp only [vP_0, vP_1, vP_n0, vP_n1, Classical.not_not] at h109
          refine x_iload_n dX1_beside_112 rfl rfl ?_
          refine x_istore_n (L' := [some _, some _, some _, some _, none, none]) dX1_beside_113 rfl (by decide) rfl ?_
          first | refine x_iincN (L' := [some _, some _, some _, some _, none, none]) dX1_beside_114 rfl (by decide) (by unfold i32; omega) rfl ?_ | refine x_iinc (L' := [some _, some _, some _, some _, none, none]) dX1_beside_114 rfl (by decide) rfl ?_
          refine x_goto (tgt := 4) dX1_beside_117 (by decide) ?_
          first
          | (rw [if_pos h109] at es
             exact x_fgt (by repeat (first | exact trivial | refine ⟨rfl, ?_⟩)) (ih _ (by omega) (s + 1) _ rfl (by omega) (by omega) es.symm))
          | (rw [if_neg h109] at es
             exact x_fgt (by repeat (first | exact trivial | refine ⟨rfl, ?_⟩)) (ih _ (by omega) (s + 1) _ rfl (by omega) (by omega) es.symm))
      have lpa : ∀ (t2 : Nat) (a p : Int), (v 0 - a).toNat = t2 → (0 ≤ a ∧ a ≤ v 0) → (s < pw (v 0)) → (p = vP (bc0 x < bc0 s ∧ peaK v s a 0)) → WP G d mX1_beside 37 [some (dR 0), some (dI x), some (dI s), some (dI p), some (dI a), none] [] (M) Q := by
        intro t2
        induction t2 using Nat.strongRecOn with
        | _ t2 ih2 =>
          intro a p ht2 a0 hs hp
          by_cases hpz : p = 0 ∨ a = v 0
          · have e2 : p = vP (bc0 x < bc0 s ∧ peaceV v s) := by
              rcases hpz with z | z
              · rw [z] at hp ⊢
                have z2 := vP_0.mp hp.symm
                exact (vP_f fun q => z2 ⟨q.1, fun x y c1 c2 c3 _ c5 c6 => q.2 x y c1 c2 c3 c5 c6⟩).symm
              · rw [hp]
                exact vP_c ⟨fun q => ⟨q.1, fun x y c1 c2 c3 c5 c6 => q.2 x y c1 c2 c3 (by omega) c5 c6⟩, fun q => ⟨q.1, fun x y c1 c2 c3 _ c5 c6 => q.2 x y c1 c2 c3 c5 c6⟩⟩
            refine x_iload dX1_beside_37 rfl ?_
            refine x_aload_n dX1_beside_39 rfl rfl ?_
            refine g_getR (kI := 1) rfl dX1_beside_40 fX1_22_1 (by first | assumption | first | assumption | (simp (disch := omega) only [shI, shR, shL, shC, shD, shW, sh_V, shN_e, shN_n, crI, crL, crC, crW, crV, crR_e, crR_n, crN_e, crN_n, ciR, ciL, ciD, ciN_e, ciN_n, rdI_e, rdI_n, rdC_i, rdC_o, rdW, rdU_e, rdU_n, rdLW, clI, clR, clC, clD, clW, clV, clN_e, clN_n, clL_e, clL_n]; done) | (simp (disch := omega) only [shI, shR, shL, shC, shD, shW, sh_V, shN_e, shN_n, crI, crL, crC, crW, crV, crR_e, crR_n, crN_e, crN_n, ciR, ciL, ciD, ciN_e, ciN_n, rdI_e, rdI_n, rdC_i, rdC_o, rdW, rdU_e, rdU_n, rdLW, clI, clR, clC, clD, clW, clV, clN_e, clN_n, clL_e, clL_n] <;> first | assumption | rfl | omega)) (by first | assumption | first | assumption | (simp (disch := omega) only [shI, shR, shL, shC, shD, shW, sh_V, shN_e, shN_n, crI, crL, crC, crW, crV, crR_e, crR_n, crN_e, crN_n, ciR, ciL, ciD, ciN_e, ciN_n, rdI_e, rdI_n, rdC_i, rdC_o, rdW, rdU_e, rdU_n, rdLW, clI, clR, clC, clD, clW, clV, clN_e, clN_n, clL_e, clL_n]; done) | (simp (disch := omega) only [shI, shR, shL, shC, shD, shW, sh_V, shN_e, shN_n, crI, crL, crC, crW, crV, crR_e, crR_n, crN_e, crN_n, ciR, ciL, ciD, ciN_e, ciN_n, rdI_e, rdI_n, rdC_i, rdC_o, rdW, rdU_e, rdU_n, rdLW, clI, clR, clC, clD, clW, clV, clN_e, clN_n, clL_e, clL_n] <;> first | assumption | rfl | omega)) ?_
            refine g_getI (kI := 8) rfl dX1_beside_43 fX1_101_3 (by first | assumption | first | assumption | (simp (disch := omega) only [shI, shR, shL, shC, shD, shW, sh_V, shN_e, shN_n, crI, crL, crC, crW, crV, crR_e, crR_n, crN_e, crN_n, ciR, ciL, ciD, ciN_e, ciN_n, rdI_e, rdI_n, rdC_i, rdC_o, rdW, rdU_e, rdU_n, rdLW, clI, clR, clC, clD, clW, clV, clN_e, clN_n, clL_e, clL_n]; done) | (simp (disch := omega) only [shI, shR, shL, shC, shD, shW, sh_V, shN_e, shN_n, crI, crL, crC, crW, crV, crR_e, crR_n, crN_e, crN_n, ciR, ciL, ciD, ciN_e, ciN_n, rdI_e, rdI_n, rdC_i, rdC_o, rdW, rdU_e, rdU_n, rdLW, clI, clR, clC, clD, clW, clV, clN_e, clN_n, clL_e, clL_n] <;> first | assumption | rfl | omega)) ?_
            try simp (disch := omega) only [rdI_e, rdI_n, rdC_i, rdC_o, rdW, rdR, rdU_e, rdU_n, rdLW, Int.add_zero, b1]
            refine x_icmp_ge (tgt := 108) dX1_beside_46 (by decide) (fun h46 => ?_) (fun h46 => ?_)
            · exact fin p _ _ hs e2
            · refine x_iload_n dX1_beside_49 rfl rfl ?_
              refine x_if_eq (tgt := 108) dX1_beside_50 (by decide) (fun h50 => ?_) (fun h50 => ?_)
              · exact fin p _ _ hs e2
              · omega
          · have hp1 : bc0 x < bc0 s ∧ peaK v s a 0 := by
              have := vP_r (bc0 x < bc0 s ∧ peaK v s a 0)
              exact vP_1.mp (by omega)
            have lpb : ∀ (t3 : Nat) (b p : Int), (a - b).toNat = t3 → (0 ≤ b ∧ b ≤ a) → (p = vP (bc0 x < bc0 s ∧ peaK v s a b)) → WP G d mX1_beside 56 [some (dR 0), some (dI x), some (dI s), some (dI p), some (dI a), some (dI b)] [] (M) Q := by
              intro t3
              induction t3 using Nat.strongRecOn with
              | _ t3 ih3 =>
                intro b p ht3 b0 hp
                have hp01 : p = 0 ∨ p = 1 := by rw [hp]; exact vP_r _
                have step : ∀ q : Prop, (q ↔ (bitI s a = 1 → bitI s b = 1 → ¬ clashV v a b)) → b < a → vP ((bc0 x < bc0 s ∧ peaK v s a b) ∧ q) = vP (bc0 x < bc0 s ∧ peaK v s a (b + 1)) := fun q hq hba => vP_c ⟨fun h => ⟨h.1.1, fun x y c1 c2 c3 c4 c5 c6 => by
                    by_cases e : x = a ∧ y = b
                    · rw [e.1, e.2]
                      exact hq.mp h.2 (e.1 ▸ c5) (e.2 ▸ c6)
                    · exact h.1.2 x y c1 c2 c3 (by omega) c5 c6⟩, fun h => ⟨⟨h.1, fun x y c1 c2 c3 c4 c5 c6 => h.2 x y c1 c2 c3 (by omega) c5 c6⟩, hq.mpr fun c5 c6 => h.2 a b b0.1 hba (by omega) (Or.inr ⟨rfl, by omega⟩) c5 c6⟩⟩
                have hbt : 0 ≤ bitI s a * bitI s b := by rcases bitI_r s a with z | z <;> rcases bitI_r s b with z2 | z2 <;> rw [z, z2] <;> decide
                have hb0 : ¬ bitI s a * bitI s b = 0 → bitI s a = 1 ∧ bitI s b = 1 := by rcases bitI_r s a with z | z <;> rcases bitI_r s b with z2 | z2 <;> rw [z, z2] <;> decide
                have hb1 : bitI s a * bitI s b = 0 → ¬ (bitI s a = 1 ∧ bitI s b = 1) := by rcases bitI_r s a with z | z <;> rcases bitI_r s b with z2 | z2 <;> rw [z, z2] <;> decide
                refine x_iload dX1_beside_56 rfl ?_
                refine x_iload dX1_beside_58 rfl ?_
                refine x_icmp_ge (tgt := 102) dX1_beside_60 (by decide) (fun h60 => ?_) (fun h60 => ?_)
                · first | refine x_iincN (L' := [some _, some _, some _, some _, some _, some _]) dX1_beside_102 rfl (by decide) (by unfold i32; omega) rfl ?_ | refine x_iinc (L' := [some _, some _, some _, some _, some _, some _]) dX1_beside_102 rfl (by decide) rfl ?_
                  refine x_goto (tgt := 37) dX1_beside_105 (by decide) ?_
                  refine x_fgt (by repeat (first | exact trivial | refine ⟨rfl, ?_⟩)) (ih2 _ (by omega) (a + 1) p rfl (by omega) hs ?_)
                  rw [hp]
                  exact vP_c ⟨fun h => ⟨h.1, fun x y c1 c2 c3 c4 c5 c6 => h.2 x y c1 c2 c3 (by omega) c5 c6⟩, fun h => ⟨h.1, fun x y c1 c2 c3 c4 c5 c6 => h.2 x y c1 c2 c3 (by omega) c5 c6⟩⟩
                · refine x_iload_n dX1_beside_63 rfl rfl ?_
                  refine x_iload_n dX1_beside_64 rfl rfl ?_
                  refine x_iload dX1_beside_65 rfl ?_
                  refine x_ishr dX1_beside_67 ?_
                  refine x_iload_n dX1_beside_68 rfl rfl ?_
                  refine x_iload dX1_beside_69 rfl ?_
                  refine x_ishr dX1_beside_71 ?_
                  refine x_iand dX1_beside_72 ?_
                  refine x_iconst dX1_beside_73 rfl ?_
                  refine x_iand dX1_beside_74 ?_
                  rw [two_bits (by omega) (by omega) (by omega)]
                  refine x_if_eq (tgt := 89) dX1_beside_75 (by decide) (fun h75 => ?_) (fun h75 => ?_)
                  · try simp only [vP_0, vP_1, vP_n0, vP_n1, Classical.not_not] at h75
                    refine x_iconst dX1_beside_89 rfl ?_
                    refine x_goto (tgt := 94) dX1_beside_90 (by decide) ?_
                    refine x_iand dX1_beside_94 ?_
                    rw [jand_01 hp01 (by first | exact Or.inl rfl | exact Or.inr rfl)]
                    refine x_istore_n (L' := [some _, some _, some _, some _, some _, some _]) dX1_beside_95 rfl (by decide) rfl ?_
                    first | refine x_iincN (L' := [some _, some _, some _, some _, some _, some _]) dX1_beside_96 rfl (by decide) (by unfold i32; omega) rfl ?_ | refine x_iinc (L' := [some _, some _, some _, some _, some _, some _]) dX1_beside_96 rfl (by decide) rfl ?_
                    refine x_goto (tgt := 56) dX1_beside_99 (by decide) ?_
                    refine ih3 _ (by omega) (b + 1) _ rfl (by omega) ?_
                    rw [← step _ Iff.rfl (by omega), hp]
                    first
                    | exact vP_c (p := vP (bc0 x < bc0 s ∧ peaK v s a b) = 1 ∧ (1 : Int) = 1) ⟨fun q => ⟨vP_1.mp q.1, fun y1 y2 => absurd ⟨y1, y2⟩ (hb1 h75)⟩, fun q => ⟨vP_1.mpr q.1, rfl⟩⟩
                    | exact vP_c (p := vP (bc0 x < bc0 s ∧ peaK v s a b) = 1 ∧ (1 : Int) = 1) ⟨fun q => ⟨vP_1.mp q.1, fun y1 y2 => h86⟩, fun q => ⟨vP_1.mpr q.1, rfl⟩⟩
                    | exact vP_c (p := vP (bc0 x < bc0 s ∧ peaK v s a b) = 1 ∧ (0 : Int) = 1) ⟨fun q => absurd q.2 (by decide), fun q => absurd h86 (q.2 (hb0 h75).1 (hb0 h75).2)⟩
                  · try simp only [vP_0, vP_1, vP_n0, vP_n1, Classical.not_not] at h75
                    refine x_aload_n dX1_beside_78 rfl rfl ?_
                    refine x_iload dX1_beside_79 rfl ?_
                    refine x_iload dX1_beside_81 rfl ?_
                    refine g_callI (vs := [_, _, _]) (d' := d - 1) rfl (s_X1_areClashing (by omega) hC (by omega) (by omega)) dX1_beside_83 kX1_385 (by omega) (by decide) rfl (Nat.le_of_ble_eq_true rfl) (rcv_o (by first | assumption | first | assumption | (simp (disch := omega) only [shI, shR, shL, shC, shD, shW, sh_V, shN_e, shN_n, crI, crL, crC, crW, crV, crR_e, crR_n, crN_e, crN_n, ciR, ciL, ciD, ciN_e, ciN_n, rdI_e, rdI_n, rdC_i, rdC_o, rdW, rdU_e, rdU_n, rdLW, clI, clR, clC, clD, clW, clV, clN_e, clN_n, clL_e, clL_n]; done) | (simp (disch := omega) only [shI, shR, shL, shC, shD, shW, sh_V, shN_e, shN_n, crI, crL, crC, crW, crV, crR_e, crR_n, crN_e, crN_n, ciR, ciL, ciD, ciN_e, ciN_n, rdI_e, rdI_n, rdC_i, rdC_o, rdW, rdU_e, rdU_n, rdLW, clI, clR, clC, clD, clW, clV, clN_e, clN_n, clL_e, clL_n] <;> first | assumption | rfl | omega)) rfl) (fun x83 M83 h83 => ?_)
                    obtain ⟨e83, f83⟩ := h83
                    have f83' := f83.symm
                    subst f83'
                    subst e83
                    refine x_if_ne (tgt := 93) dX1_beside_86 (by decide) (fun h86 => ?_) (fun h86 => ?_)
                    · try simp only [vP_0, vP_1, vP_n0, vP_n1, Classical.not_not] at h86
                      refine x_iconst dX1_beside_93 rfl ?_
                      refine x_iand dX1_beside_94 ?_
                      rw [jand_01 hp01 (by first | exact Or.inl rfl | exact Or.inr rfl)]
                      refine x_istore_n (L' := [some _, some _, some _, some _, some _, some _]) dX1_beside_95 rfl (by decide) rfl ?_
                      first | refine x_iincN (L' := [some _, some _, some _, some _, some _, some _]) dX1_beside_96 rfl (by decide) (by unfold i32; omega) rfl ?_ | refine x_iinc (L' := [some _, some _, some _, some _, some _, some _]) dX1_beside_96 rfl (by decide) rfl ?_
                      refine x_goto (tgt := 56) dX1_beside_99 (by decide) ?_
                      refine ih3 _ (by omega) (b + 1) _ rfl (by omega) ?_
                      rw [← step _ Iff.rfl (by omega), hp]
                      first
                      | exact vP_c (p := vP (bc0 x < bc0 s ∧ peaK v s a b) = 1 ∧ (1 : Int) = 1) ⟨fun q => ⟨vP_1.mp q.1, fun y1 y2 => absurd ⟨y1, y2⟩ (hb1 h75)⟩, fun q => ⟨vP_1.mpr q.1, rfl⟩⟩
                      | exact vP_c (p := vP (bc0 x < bc0 s ∧ peaK v s a b) = 1 ∧ (1 : Int) = 1) ⟨fun q => ⟨vP_1.mp q.1, fun y1 y2 => h86⟩, fun q => ⟨vP_1.mpr q.1, rfl⟩⟩
                      | exact vP_c (p := vP (bc0 x < bc0 s ∧ peaK v s a b) = 1 ∧ (0 : Int) = 1) ⟨fun q => absurd q.2 (by decide), fun q => absurd h86 (q.2 (hb0 h75).1 (hb0 h75).2)⟩
                    · try simp only [vP_0, vP_1, vP_n0, vP_n1, Classical.not_not] at h86
                      refine x_iconst dX1_beside_89 rfl ?_
                      refine x_goto (tgt := 94) dX1_beside_90 (by decide) ?_
                      refine x_iand dX1_beside_94 ?_
                      rw [jand_01 hp01 (by first | exact Or.inl rfl | exact Or.inr rfl)]
                      refine x_istore_n (L' := [some _, some _, some _, some _, some _, some _]) dX1_beside_95 rfl (by decide) rfl ?_
                      first | refine x_iincN (L' := [some _, some _, some _, some _, some _, some _]) dX1_beside_96 rfl (by decide) (by unfold i32; omega) rfl ?_ | refine x_iinc (L' := [some _, some _, some _, some _, some _, some _]) dX1_beside_96 rfl (by decide) rfl ?_
                      refine x_goto (tgt := 56) dX1_beside_99 (by decide) ?_
                      refine ih3 _ (by omega) (b + 1) _ rfl (by omega) ?_
                      rw [← step _ Iff.rfl (by omega), hp]
                      first
                      | exact vP_c (p := vP (bc0 x < bc0 s ∧ peaK v s a b) = 1 ∧ (1 : Int) = 1) ⟨fun q => ⟨vP_1.mp q.1, fun y1 y2 => absurd ⟨y1, y2⟩ (hb1 h75)⟩, fun q => ⟨vP_1.mpr q.1, rfl⟩⟩
                      | exact vP_c (p := vP (bc0 x < bc0 s ∧ peaK v s a b) = 1 ∧ (1 : Int) = 1) ⟨fun q => ⟨vP_1.mp q.1, fun y1 y2 => h86⟩, fun q => ⟨vP_1.mpr q.1, rfl⟩⟩
                      | exact vP_c (p := vP (bc0 x < bc0 s ∧ peaK v s a b) = 1 ∧ (0 : Int) = 1) ⟨fun q => absurd q.2 (by decide), fun q => absurd h86 (q.2 (hb0 h75).1 (hb0 h75).2)⟩
            refine x_iload dX1_beside_37 rfl ?_
            refine x_aload_n dX1_beside_39 rfl rfl ?_
            refine g_getR (kI := 1) rfl dX1_beside_40 fX1_22_1 (by first | assumption | first | assumption | (simp (disch := omega) only [shI, shR, shL, shC, shD, shW, sh_V, shN_e, shN_n, crI, crL, crC, crW, crV, crR_e, crR_n, crN_e, crN_n, ciR, ciL, ciD, ciN_e, ciN_n, rdI_e, rdI_n, rdC_i, rdC_o, rdW, rdU_e, rdU_n, rdLW, clI, clR, clC, clD, clW, clV, clN_e, clN_n, clL_e, clL_n]; done) | (simp (disch := omega) only [shI, shR, shL, shC, shD, shW, sh_V, shN_e, shN_n, crI, crL, crC, crW, crV, crR_e, crR_n, crN_e, crN_n, ciR, ciL, ciD, ciN_e, ciN_n, rdI_e, rdI_n, rdC_i, rdC_o, rdW, rdU_e, rdU_n, rdLW, clI, clR, clC, clD, clW, clV, clN_e, clN_n, clL_e, clL_n] <;> first | assumption | rfl | omega)) (by first | assumption | first | assumption | (simp (disch := omega) only [shI, shR, shL, shC, shD, shW, sh_V, shN_e, shN_n, crI, crL, crC, crW, crV, crR_e, crR_n, crN_e, crN_n, ciR, ciL, ciD, ciN_e, ciN_n, rdI_e, rdI_n, rdC_i, rdC_o, rdW, rdU_e, rdU_n, rdLW, clI, clR, clC, clD, clW, clV, clN_e, clN_n, clL_e, clL_n]; done) | (simp (disch := omega) only [shI, shR, shL, shC, shD, shW, sh_V, shN_e, shN_n, crI, crL, crC, crW, crV, crR_e, crR_n, crN_e, crN_n, ciR, ciL, ciD, ciN_e, ciN_n, rdI_e, rdI_n, rdC_i, rdC_o, rdW, rdU_e, rdU_n, rdLW, clI, clR, clC, clD, clW, clV, clN_e, clN_n, clL_e, clL_n] <;> first | assumption | rfl | omega)) ?_
            refine g_getI (kI := 8) rfl dX1_beside_43 fX1_101_3 (by first | assumption | first | assumption | (simp (disch := omega) only [shI, shR, shL, shC, shD, shW, sh_V, shN_e, shN_n, crI, crL, crC, crW, crV, crR_e, crR_n, crN_e, crN_n, ciR, ciL, ciD, ciN_e, ciN_n, rdI_e, rdI_n, rdC_i, rdC_o, rdW, rdU_e, rdU_n, rdLW, clI, clR, clC, clD, clW, clV, clN_e, clN_n, clL_e, clL_n]; done) | (simp (disch := omega) only [shI, shR, shL, shC, shD, shW, sh_V, shN_e, shN_n, crI, crL, crC, crW, crV, crR_e, crR_n, crN_e, crN_n, ciR, ciL, ciD, ciN_e, ciN_n, rdI_e, rdI_n, rdC_i, rdC_o, rdW, rdU_e, rdU_n, rdLW, clI, clR, clC, clD, clW, clV, clN_e, clN_n, clL_e, clL_n] <;> first | assumption | rfl | omega)) ?_
            try simp (disch := omega) only [rdI_e, rdI_n, rdC_i, rdC_o, rdW, rdR, rdU_e, rdU_n, rdLW, Int.add_zero, b1]
            refine x_icmp_ge (tgt := 108) dX1_beside_46 (by decide) (fun h46 => ?_) (fun h46 => ?_)
            · omega
            · refine x_iload_n dX1_beside_49 rfl rfl ?_
              refine x_if_eq (tgt := 108) dX1_beside_50 (by decide) (fun h50 => ?_) (fun h50 => ?_)
              · omega
              · refine x_iconst dX1_beside_53 rfl ?_
                refine x_istore (L' := [some _, some _, some _, some _, some _, some _]) dX1_beside_54 (by decide) rfl ?_
                exact lpb _ 0 p rfl (by omega) hp
      refine x_iload_n dX1_beside_4 rfl rfl ?_
      refine x_iconst dX1_beside_5 rfl ?_
      refine x_aload_n dX1_beside_6 rfl rfl ?_
      refine g_getR (kI := 1) rfl dX1_beside_7 fX1_22_1 (by first | assumption | first | assumption | (simp (disch := omega) only [shI, shR, shL, shC, shD, shW, sh_V, shN_e, shN_n, crI, crL, crC, crW, crV, crR_e, crR_n, crN_e, crN_n, ciR, ciL, ciD, ciN_e, ciN_n, rdI_e, rdI_n, rdC_i, rdC_o, rdW, rdU_e, rdU_n, rdLW, clI, clR, clC, clD, clW, clV, clN_e, clN_n, clL_e, clL_n]; done) | (simp (disch := omega) only [shI, shR, shL, shC, shD, shW, sh_V, shN_e, shN_n, crI, crL, crC, crW, crV, crR_e, crR_n, crN_e, crN_n, ciR, ciL, ciD, ciN_e, ciN_n, rdI_e, rdI_n, rdC_i, rdC_o, rdW, rdU_e, rdU_n, rdLW, clI, clR, clC, clD, clW, clV, clN_e, clN_n, clL_e, clL_n] <;> first | assumption | rfl | omega)) (by first | assumption | first | assumption | (simp (disch := omega) only [shI, shR, shL, shC, shD, shW, sh_V, shN_e, shN_n, crI, crL, crC, crW, crV, crR_e, crR_n, crN_e, crN_n, ciR, ciL, ciD, ciN_e, ciN_n, rdI_e, rdI_n, rdC_i, rdC_o, rdW, rdU_e, rdU_n, rdLW, clI, clR, clC, clD, clW, clV, clN_e, clN_n, clL_e, clL_n]; done) | (simp (disch := omega) only [shI, shR, shL, shC, shD, shW, sh_V, shN_e, shN_n, crI, crL, crC, crW, crV, crR_e, crR_n, crN_e, crN_n, ciR, ciL, ciD, ciN_e, ciN_n, rdI_e, rdI_n, rdC_i, rdC_o, rdW, rdU_e, rdU_n, rdLW, clI, clR, clC, clD, clW, clV, clN_e, clN_n, clL_e, clL_n] <;> first | assumption | rfl | omega)) ?_
      refine g_getI (kI := 8) rfl dX1_beside_10 fX1_101_3 (by first | assumption | first | assumption | (simp (disch := omega) only [shI, shR, shL, shC, shD, shW, sh_V, shN_e, shN_n, crI, crL, crC, crW, crV, crR_e, crR_n, crN_e, crN_n, ciR, ciL, ciD, ciN_e, ciN_n, rdI_e, rdI_n, rdC_i, rdC_o, rdW, rdU_e, rdU_n, rdLW, clI, clR, clC, clD, clW, clV, clN_e, clN_n, clL_e, clL_n]; done) | (simp (disch := omega) only [shI, shR, shL, shC, shD, shW, sh_V, shN_e, shN_n, crI, crL, crC, crW, crV, crR_e, crR_n, crN_e, crN_n, ciR, ciL, ciD, ciN_e, ciN_n, rdI_e, rdI_n, rdC_i, rdC_o, rdW, rdU_e, rdU_n, rdLW, clI, clR, clC, clD, clW, clV, clN_e, clN_n, clL_e, clL_n] <;> first | assumption | rfl | omega)) ?_
      try simp (disch := omega) only [rdI_e, rdI_n, rdC_i, rdC_o, rdW, rdR, rdU_e, rdU_n, rdLW, Int.add_zero, b1]
      refine x_ishl dX1_beside_13 ?_
      rw [jshl_1 (by omega)]
      refine x_icmp_ge (tgt := 120) dX1_beside_14 (by decide) (fun h14 => ?_) (fun h14 => ?_)
      · refine x_iload_n dX1_beside_120 rfl rfl ?_
        refine x_ireturn rfl dX1_beside_121 ?_
        refine hQ _ _ ⟨_, rfl, ?_, rfl⟩
        unfold besideAns
        rw [hx, show s = pw (v 0) by omega]
      · refine x_iload_n dX1_beside_17 rfl rfl ?_
        refine g_callI (vs := [_]) (d' := d - 1) rfl (s_bitCount (by omega) (by omega)) dX1_beside_18 kX1_388 (by omega) (by decide) rfl (Nat.le_of_ble_eq_true rfl) (rcv_n) (fun x18 M18 h18 => ?_)
        obtain ⟨e18, f18⟩ := h18
        have f18' := f18.symm
        subst f18'
        subst e18
        try simp (disch := omega) only [rdI_e, rdI_n, rdC_i, rdC_o, rdW, rdR, rdU_e, rdU_n, rdLW, Int.add_zero, b1]
        refine x_iload_n dX1_beside_21 rfl rfl ?_
        refine g_callI (vs := [_]) (d' := d - 1) rfl (s_bitCount (by omega) (by omega)) dX1_beside_22 kX1_388 (by omega) (by decide) rfl (Nat.le_of_ble_eq_true rfl) (rcv_n) (fun x22 M22 h22 => ?_)
        obtain ⟨e22, f22⟩ := h22
        have f22' := f22.symm
        subst f22'
        subst e22
        try simp (disch := omega) only [rdI_e, rdI_n, rdC_i, rdC_o, rdW, rdR, rdU_e, rdU_n, rdLW, Int.add_zero, b1]
        refine x_icmp_le (tgt := 32) dX1_beside_25 (by decide) (fun h25 => ?_) (fun h25 => ?_)
        · refine x_iconst dX1_beside_32 rfl ?_
          refine x_istore_n (L' := [some _, some _, some _, some _, none, none]) dX1_beside_33 rfl (by decide) rfl ?_
          refine x_iconst dX1_beside_34 rfl ?_
          refine x_istore (L' := [some _, some _, some _, some _, some _, none]) dX1_beside_35 (by decide) rfl ?_
          refine x_fgt (by repeat (first | exact trivial | refine ⟨rfl, ?_⟩)) (lpa _ 0 _ rfl (by omega) (by omega) ?_)
          have ep : peaK v s 0 0 := fun x y c1 c2 c3 c4 _ _ => by omega
          first
          | exact (vP_t ⟨by omega, ep⟩).symm
          | exact (vP_f fun q => absurd q.1 (by omega)).symm
        · refine x_iconst dX1_beside_28 rfl ?_
          refine x_goto (tgt := 33) dX1_beside_29 (by decide) ?_
          refine x_istore_n (L' := [some _, some _, some _, some _, none, none]) dX1_beside_33 rfl (by decide) rfl ?_
          refine x_iconst dX1_beside_34 rfl ?_
          refine x_istore (L' := [some _, some _, some _, some _, some _, none]) dX1_beside_35 (by decide) rfl ?_
          refine x_fgt (by repeat (first | exact trivial | refine ⟨rfl, ?_⟩)) (lpa _ 0 _ rfl (by omega) (by omega) ?_)
          have ep : peaK v s 0 0 := fun x y c1 c2 c3 c4 _ _ => by omega
          first
          | exact (vP_t ⟨by omega, ep⟩).symm
          | exact (vP_f fun q => absurd q.1 (by omega)).symm
  refine x_iconst dX1_beside_0 rfl ?_
  refine x_istore_n (L' := [some _, some _, none, none, none, none]) dX1_beside_1 rfl (by decide) rfl ?_
  refine x_iconst dX1_beside_2 rfl ?_
  refine x_istore_n (L' := [some _, some _, some _, none, none, none]) dX1_beside_3 rfl (by decide) rfl ?_
  exact loop _ 1 0 rfl (by omega) (by omega) rfl
end X1

