/-! GuestView: log, led -/
section X1
variable {G : GW} {d : Nat} {M M1 : Mem} {a b c e k n x y op w st hi sz fa N i p T s j : Int} {v vi : Vw} {A : Int → Vw} {tp : Int → Int}
theorem s_X1_log (hd : 16 ≤ d) (hC : CI M v n A hi vi tp sz fa N) (hN : N ≤ 1000000000) : CS G d mX1_log [dR 0, dI k, dI w] M (orT (postI fun y M1 => (0 ≤ w ∧ w ≤ 3) ∧ y = logAns v k w ∧ CO M v n A hi vi tp sz fa N 0 0 M1) (fun a E M1 => CO M v n A hi vi tp sz fa N 1 6 M1 ∧ ¬ (0 ≤ w ∧ w ≤ 3) ∧ E = "java/util/NoSuchElementException")) := by
  obtain ⟨hC1, hC54, hCA, hCR⟩ := id hC; obtain ⟨hS, hTab, hTx, hLn, hSk, hnx⟩ := id hC1; obtain ⟨hA, hL, hR⟩ := id hC54; obtain ⟨⟨s0, s199, s200, s201, s202, s203⟩, ⟨c0, c1, c2, c3, c4, c5, c6, c7, c8, c9, c10, c11, c12⟩, c203, hSt, m189, m191, g193, g196, ⟨⟨r2, r3, r4, r5, r6, r7, r53⟩, ⟨w0, w1, w2, w3, w4, w5, w6⟩, wx1, wx2, wx3⟩⟩ := id hS; have hv := hA.1; have hv8 := hv.n8; have hv0 := hv.1.1; have hv3 := hv.2.2.2.1; have hs54 := hSt 54 (by unfold SB; omega); obtain ⟨p0, p1, ⟨d0, d1, d2, d3, d4, d5, d6, d7⟩, ⟨t1, t2, t3, t4, t5, t6⟩, p5, p6, p7⟩ := id hs54; have t7 : msh M (54 + 7) = some (4, 0) := p5.2.1; have t10 : msh M (54 + 10) = some (4, 0) := p6.2.1; obtain ⟨hB, hW, hLw⟩ := id hR.1; obtain ⟨b1, b2, b3, b4, b5, b6, b7, b8, b9, b10, b11, b12, b13, b14, b15⟩ := id hB; obtain ⟨hn, hn2, hat, hAc⟩ := id hCA; obtain ⟨⟨hki, hhi⟩, hIm, ⟨htp, hsz, hsz2⟩, hfa⟩ := id hCR
  refine CS.mkQ (by decide) (Nat.le_of_ble_eq_true rfl) fun Q hQ => ?_
  refine x_iload_n dX1_log_0 rfl rfl ?_
  refine x_iconst dX1_log_1 rfl ?_
  refine x_iconst dX1_log_2 rfl ?_
  refine g_callI (vs := [_, _, _]) (d' := d - 1) rfl (s_X1_isIn (by omega)) dX1_log_3 kX1_104 (by omega) (by decide) rfl (Nat.le_of_ble_eq_true rfl) (rcv_n) (fun x3 M3 h3 => ?_)
  obtain ⟨e3, f3⟩ := h3
  have f3' := f3.symm
  subst f3'
  subst e3
  refine g_callNX (vs := [_]) (d' := d - 1) rfl (s_X1_thereIs (by omega) (by first | omega | exact vP_r _)) dX1_log_6 kX1_281 (by omega) (by decide) rfl (Nat.le_of_ble_eq_true rfl) (rcv_n) (fun M6 h6 => ?_) (fun a6 E6 M6 h6 => ?_)
  · obtain ⟨q6, e6⟩ := h6
    subst e6
    try simp only [vP_0, vP_1, vP_n0, vP_n1, Classical.not_not] at q6
    refine x_aload_n dX1_log_9 rfl rfl ?_
    refine g_getR (kI := 1) rfl dX1_log_10 fX1_22_1 (by first | assumption | first | assumption | (simp (disch := omega) only [shI, shR, shL, shC, shD, shW, sh_V, shN_e, shN_n, crI, crL, crC, crW, crV, crR_e, crR_n, crN_e, crN_n, ciR, ciL, ciD, ciN_e, ciN_n, rdI_e, rdI_n, rdC_i, rdC_o, rdW, rdU_e, rdU_n, rdLW, clI, clR, clC, clD, clW, clV, clN_e, clN_n, clL_e, clL_n]; done) | (simp (disch := omega) only [shI, shR, shL, shC, shD, shW, sh_V, shN_e, shN_n, crI, crL, crC, crW, crV, crR_e, crR_n, crN_e, crN_n, ciR, ciL, ciD, ciN_e, ciN_n, rdI_e, rdI_n, rdC_i, rdC_o, rdW, rdU_e, rdU_n, rdLW, clI, clR, clC, clD, clW, clV, clN_e, clN_n, clL_e, clL_n] <;> first | assumption | rfl | omega)) (by first | assumption | first | assumption | (simp (disch := omega) only [shI, shR, shL, shC, shD, shW, sh_V, shN_e, shN_n, crI, crL, crC, crW, crV, crR_e, crR_n, crN_e, crN_n, ciR, ciL, ciD, ciN_e, ciN_n, rdI_e, rdI_n, rdC_i, rdC_o, rdW, rdU_e, rdU_n, rdLW, clI, clR, clC, clD, clW, clV, clN_e, clN_n, clL_e, clL_n]; done) | (simp (disch := omega) only [shI, shR, shL, shC, shD, shW, sh_V, shN_e, shN_n, crI, crL, crC, crW, crV, crR_e, crR_n, crN_e, crN_n, ciR, ciL, ciD, ciN_e, ciN_n, rdI_e, rdI_n, rdC_i, rdC_o, rdW, rdU_e, rdU_n, rdLW, clI, clR, clC, clD, clW, clV, clN_e, clN_n, clL_e, clL_n] <;> first | assumption | rfl | omega)) ?_
    refine x_iload_n dX1_log_13 rfl rfl ?_
    refine x_iload_n dX1_log_14 rfl rfl ?_
    refine g_callI (vs := [_, _, _]) (d' := d - 1) rfl (s_X3_row (by omega) hs54 hB hN (by omega)) dX1_log_15 kX1_445 (by omega) (by decide) rfl (Nat.le_of_ble_eq_true rfl) (rcv_o (by first | assumption | first | assumption | (simp (disch := omega) only [shI, shR, shL, shC, shD, shW, sh_V, shN_e, shN_n, crI, crL, crC, crW, crV, crR_e, crR_n, crN_e, crN_n, ciR, ciL, ciD, ciN_e, ciN_n, rdI_e, rdI_n, rdC_i, rdC_o, rdW, rdU_e, rdU_n, rdLW, clI, clR, clC, clD, clW, clV, clN_e, clN_n, clL_e, clL_n]; done) | (simp (disch := omega) only [shI, shR, shL, shC, shD, shW, sh_V, shN_e, shN_n, crI, crL, crC, crW, crV, crR_e, crR_n, crN_e, crN_n, ciR, ciL, ciD, ciN_e, ciN_n, rdI_e, rdI_n, rdC_i, rdC_o, rdW, rdU_e, rdU_n, rdLW, clI, clR, clC, clD, clW, clV, clN_e, clN_n, clL_e, clL_n] <;> first | assumption | rfl | omega)) rfl) (fun x15 M15 h15 => ?_)
    obtain ⟨e15, f15⟩ := h15
    have f15' := f15.symm
    subst f15'
    refine x_ireturn rfl dX1_log_18 ?_
    refine hQ _ _ (Or.inl ⟨_, rfl, q6, ?_, CO.r hC⟩)
    rw [e15]
    unfold logAns
    by_cases z : 0 ≤ k ∧ k < v 10
    · rw [if_pos z, if_pos (by omega)]
    · rw [if_neg z, if_neg (by omega)]
  · obtain ⟨q6, eE6, eM6⟩ := h6
    subst eE6
    subst eM6
    rw [vP_0] at q6
    exact th_nil rfl (hQ _ _ (Or.inr ⟨_, _, rfl, CO.xx hC, q6, rfl⟩))
theorem s_X1_led (hd : 16 ≤ d) (hC : CI M v n A hi vi tp sz fa N) (hN : N ≤ 1000000000) (hT1 : ∀ k, 0 ≤ k → k < v 10 → 0 ≤ v (128 + 4 * k)) (hb01 : b = 0 ∨ b = 1) : CS G d mX1_led [dR 0, dI op, dI b] M (orT (postI fun y M1 => (0 ≤ op ∧ op < v 0) ∧ y = ledAns v op b ∧ CO M v n A hi vi tp sz fa N 0 0 M1) (fun a E M1 => CO M v n A hi vi tp sz fa N 1 6 M1 ∧ ¬ (0 ≤ op ∧ op < v 0) ∧ E = "java/lang/IndexOutOfBoundsException")) := by
  obtain ⟨hC1, hC54, hCA, hCR⟩ := id hC; obtain ⟨hS, hTab, hTx, hLn, hSk, hnx⟩ := id hC1; obtain ⟨hA, hL, hR⟩ := id hC54; obtain ⟨⟨s0, s199, s200, s201, s202, s203⟩, ⟨c0, c1, c2, c3, c4, c5, c6, c7, c8, c9, c10, c11, c12⟩, c203, hSt, m189, m191, g193, g196, ⟨⟨r2, r3, r4, r5, r6, r7, r53⟩, ⟨w0, w1, w2, w3, w4, w5, w6⟩, wx1, wx2, wx3⟩⟩ := id hS; have hv := hA.1; have hv8 := hv.n8; have hv0 := hv.1.1; have hv3 := hv.2.2.2.1; have hs54 := hSt 54 (by unfold SB; omega); obtain ⟨p0, p1, ⟨d0, d1, d2, d3, d4, d5, d6, d7⟩, ⟨t1, t2, t3, t4, t5, t6⟩, p5, p6, p7⟩ := id hs54; have t7 : msh M (54 + 7) = some (4, 0) := p5.2.1; have t10 : msh M (54 + 10) = some (4, 0) := p6.2.1; obtain ⟨hB, hW, hLw⟩ := id hR.1; obtain ⟨b1, b2, b3, b4, b5, b6, b7, b8, b9, b10, b11, b12, b13, b14, b15⟩ := id hB; obtain ⟨hn, hn2, hat, hAc⟩ := id hCA; obtain ⟨⟨hki, hhi⟩, hIm, ⟨htp, hsz, hsz2⟩, hfa⟩ := id hCR
  have hv10 := hv.l60
  have hv10' : 0 ≤ v 10 := hv.2.2.2.2.2.2.2.2.2.2.1.1
  refine CS.mkQ (by decide) (Nat.le_of_ble_eq_true rfl) fun Q hQ => ?_
  have lp : ∀ (t : Nat) (k x y : Int), (v 10 - k).toNat = t → (0 ≤ k ∧ k ≤ v 10) → (0 ≤ op ∧ op < v 0) → (0 ≤ x ∧ x ≤ k) → (ledN v op (v 10).toNat 0 = x + ledN v op (v 10 - k).toNat k) → ((y = -1 ∧ ledT v op (v 10).toNat 0 = ledT v op (v 10 - k).toNat k) ∨ (0 ≤ y ∧ ledT v op (v 10).toNat 0 = y)) → WP G d mX1_led 14 [some (dR 0), some (dI op), some (dI b), some (dI x), some (dI y), some (dI k)] [] (M) Q := by
    intro t
    induction t using Nat.strongRecOn with
    | _ t ih =>
      intro k x y ht k0 hop hxr hx hy
      by_cases hk : k < v 10
      · have e1 : (v 10 - k).toNat = (v 10 - (k + 1)).toNat + 1 := by omega
        have e2 : ledN v op (v 10 - k).toNat k = (if v (128 + 4 * k + 1) = op then 1 else 0) + ledN v op (v 10 - (k + 1)).toNat (k + 1) := by
          rw [e1]; rfl
        have e3 : ledT v op (v 10 - k).toNat k = if v (128 + 4 * k + 1) = op then v (128 + 4 * k) else ledT v op (v 10 - (k + 1)).toNat (k + 1) := by
          rw [e1]; rfl
        have ht := hT1 k k0.1 hk
        rw [e2] at hx
        rw [e3] at hy
        have eR : ∀ z : Int, (if 0 ≤ k ∧ k < v 10 then z else -2) = z := fun z => if_pos ⟨k0.1, hk⟩
        have h0 : v (128 + 4 * k + 0) = v (128 + 4 * k) := congrArg v (by omega)
        refine x_aload_n dX1_led_14 rfl rfl ?_
        refine g_getR (kI := 1) rfl dX1_led_15 fX1_22_1 (by first | assumption | first | assumption | (simp (disch := omega) only [shI, shR, shL, shC, shD, shW, sh_V, shN_e, shN_n, crI, crL, crC, crW, crV, crR_e, crR_n, crN_e, crN_n, ciR, ciL, ciD, ciN_e, ciN_n, rdI_e, rdI_n, rdC_i, rdC_o, rdW, rdU_e, rdU_n, rdLW, clI, clR, clC, clD, clW, clV, clN_e, clN_n, clL_e, clL_n]; done) | (simp (disch := omega) only [shI, shR, shL, shC, shD, shW, sh_V, shN_e, shN_n, crI, crL, crC, crW, crV, crR_e, crR_n, crN_e, crN_n, ciR, ciL, ciD, ciN_e, ciN_n, rdI_e, rdI_n, rdC_i, rdC_o, rdW, rdU_e, rdU_n, rdLW, clI, clR, clC, clD, clW, clV, clN_e, clN_n, clL_e, clL_n] <;> first | assumption | rfl | omega)) (by first | assumption | first | assumption | (simp (disch := omega) only [shI, shR, shL, shC, shD, shW, sh_V, shN_e, shN_n, crI, crL, crC, crW, crV, crR_e, crR_n, crN_e, crN_n, ciR, ciL, ciD, ciN_e, ciN_n, rdI_e, rdI_n, rdC_i, rdC_o, rdW, rdU_e, rdU_n, rdLW, clI, clR, clC, clD, clW, clV, clN_e, clN_n, clL_e, clL_n]; done) | (simp (disch := omega) only [shI, shR, shL, shC, shD, shW, sh_V, shN_e, shN_n, crI, crL, crC, crW, crV, crR_e, crR_n, crN_e, crN_n, ciR, ciL, ciD, ciN_e, ciN_n, rdI_e, rdI_n, rdC_i, rdC_o, rdW, rdU_e, rdU_n, rdLW, clI, clR, clC, clD, clW, clV, clN_e, clN_n, clL_e, clL_n] <;> first | assumption | rfl | omega)) ?_
        refine x_iload dX1_led_18 rfl ?_
        refine g_callI (vs := [_, _]) (d' := d - 1) rfl (s_X3_isKept (by omega) hs54 hB) dX1_led_20 kX1_442 (by omega) (by decide) rfl (Nat.le_of_ble_eq_true rfl) (rcv_o (by first | assumption | first | assumption | (simp (disch := omega) only [shI, shR, shL, shC, shD, shW, sh_V, shN_e, shN_n, crI, crL, crC, crW, crV, crR_e, crR_n, crN_e, crN_n, ciR, ciL, ciD, ciN_e, ciN_n, rdI_e, rdI_n, rdC_i, rdC_o, rdW, rdU_e, rdU_n, rdLW, clI, clR, clC, clD, clW, clV, clN_e, clN_n, clL_e, clL_n]; done) | (simp (disch := omega) only [shI, shR, shL, shC, shD, shW, sh_V, shN_e, shN_n, crI, crL, crC, crW, crV, crR_e, crR_n, crN_e, crN_n, ciR, ciL, ciD, ciN_e, ciN_n, rdI_e, rdI_n, rdC_i, rdC_o, rdW, rdU_e, rdU_n, rdLW, clI, clR, clC, clD, clW, clV, clN_e, clN_n, clL_e, clL_n] <;> first | assumption | rfl | omega)) rfl) (fun x20 M20 h20 => ?_)
        obtain ⟨e20, f20⟩ := h20
        have f20' := f20.symm
        subst f20'
        subst e20
        refine x_if_eq (tgt := 75) dX1_led_23 (by decide) (fun h23 => ?_) (fun h23 => ?_)
        · try simp only [vP_0, vP_1, vP_n0, vP_n1, Classical.not_not] at h23
          omega
        · try simp only [vP_0, vP_1, vP_n0, vP_n1, Classical.not_not] at h23
          refine x_aload_n dX1_led_26 rfl rfl ?_
          refine g_getR (kI := 1) rfl dX1_led_27 fX1_22_1 (by first | assumption | first | assumption | (simp (disch := omega) only [shI, shR, shL, shC, shD, shW, sh_V, shN_e, shN_n, crI, crL, crC, crW, crV, crR_e, crR_n, crN_e, crN_n, ciR, ciL, ciD, ciN_e, ciN_n, rdI_e, rdI_n, rdC_i, rdC_o, rdW, rdU_e, rdU_n, rdLW, clI, clR, clC, clD, clW, clV, clN_e, clN_n, clL_e, clL_n]; done) | (simp (disch := omega) only [shI, shR, shL, shC, shD, shW, sh_V, shN_e, shN_n, crI, crL, crC, crW, crV, crR_e, crR_n, crN_e, crN_n, ciR, ciL, ciD, ciN_e, ciN_n, rdI_e, rdI_n, rdC_i, rdC_o, rdW, rdU_e, rdU_n, rdLW, clI, clR, clC, clD, clW, clV, clN_e, clN_n, clL_e, clL_n] <;> first | assumption | rfl | omega)) (by first | assumption | first | assumption | (simp (disch := omega) only [shI, shR, shL, shC, shD, shW, sh_V, shN_e, shN_n, crI, crL, crC, crW, crV, crR_e, crR_n, crN_e, crN_n, ciR, ciL, ciD, ciN_e, ciN_n, rdI_e, rdI_n, rdC_i, rdC_o, rdW, rdU_e, rdU_n, rdLW, clI, clR, clC, clD, clW, clV, clN_e, clN_n, clL_e, clL_n]; done) | (simp (disch := omega) only [shI, shR, shL, shC, shD, shW, sh_V, shN_e, shN_n, crI, crL, crC, crW, crV, crR_e, crR_n, crN_e, crN_n, ciR, ciL, ciD, ciN_e, ciN_n, rdI_e, rdI_n, rdC_i, rdC_o, rdW, rdU_e, rdU_n, rdLW, clI, clR, clC, clD, clW, clV, clN_e, clN_n, clL_e, clL_n] <;> first | assumption | rfl | omega)) ?_
          refine x_iload dX1_led_30 rfl ?_
          refine x_iconst dX1_led_32 rfl ?_
          refine g_callI (vs := [_, _, _]) (d' := d - 1) rfl (s_X3_row (by omega) hs54 hB hN (by omega)) dX1_led_33 kX1_445 (by omega) (by decide) rfl (Nat.le_of_ble_eq_true rfl) (rcv_o (by first | assumption | first | assumption | (simp (disch := omega) only [shI, shR, shL, shC, shD, shW, sh_V, shN_e, shN_n, crI, crL, crC, crW, crV, crR_e, crR_n, crN_e, crN_n, ciR, ciL, ciD, ciN_e, ciN_n, rdI_e, rdI_n, rdC_i, rdC_o, rdW, rdU_e, rdU_n, rdLW, clI, clR, clC, clD, clW, clV, clN_e, clN_n, clL_e, clL_n]; done) | (simp (disch := omega) only [shI, shR, shL, shC, shD, shW, sh_V, shN_e, shN_n, crI, crL, crC, crW, crV, crR_e, crR_n, crN_e, crN_n, ciR, ciL, ciD, ciN_e, ciN_n, rdI_e, rdI_n, rdC_i, rdC_o, rdW, rdU_e, rdU_n, rdLW, clI, clR, clC, clD, clW, clV, clN_e, clN_n, clL_e, clL_n] <;> first | assumption | rfl | omega)) rfl) (fun x33 M33 h33 => ?_)
          obtain ⟨e33, f33⟩ := h33
          have f33' := f33.symm
          subst f33'
          rw [eR] at e33
          subst e33
          refine x_iload_n dX1_led_36 rfl rfl ?_
          refine x_icmp_eq (tgt := 43) dX1_led_37 (by decide) (fun h37 => ?_) (fun h37 => ?_)
          · first | refine x_iincN (L' := [some _, some _, some _, some _, some _, some _]) dX1_led_43 rfl (by decide) (by unfold i32; omega) rfl ?_ | refine x_iinc (L' := [some _, some _, some _, some _, some _, some _]) dX1_led_43 rfl (by decide) rfl ?_
            refine x_iload dX1_led_46 rfl ?_
            refine x_iconst dX1_led_48 rfl ?_
            refine x_icmp_ne (tgt := 65) dX1_led_49 (by decide) (fun h49 => ?_) (fun h49 => ?_)
            · refine x_iload dX1_led_65 rfl ?_
              refine x_istore (L' := [some _, some _, some _, some _, some _, some _]) dX1_led_67 (by decide) rfl ?_
              first | refine x_iincN (L' := [some _, some _, some _, some _, some _, some _]) dX1_led_69 rfl (by decide) (by unfold i32; omega) rfl ?_ | refine x_iinc (L' := [some _, some _, some _, some _, some _, some _]) dX1_led_69 rfl (by decide) rfl ?_
              refine x_goto (tgt := 14) dX1_led_72 (by decide) ?_
              first
              | (rw [if_neg h37] at hx hy
                 exact ih _ (by omega) (k + 1) x y rfl (by omega) hop (by omega) (by omega) hy)
              | (rw [if_pos h37] at hx hy
                 refine ih _ (by omega) (k + 1) (x + 1) y rfl (by omega) hop (by omega) (by omega) (Or.inr ?_)
                 rcases hy with q | q
                 · exact absurd q.1 h49
                 · exact q)
              | (rw [if_pos h37] at hx hy
                 refine ih _ (by omega) (k + 1) (x + 1) (v (128 + 4 * k)) rfl (by omega) hop (by omega) (by omega) (Or.inr ?_)
                 rcases hy with q | q
                 · exact And.intro ht q.2
                 · omega)
            · refine x_aload_n dX1_led_52 rfl rfl ?_
              refine g_getR (kI := 1) rfl dX1_led_53 fX1_22_1 (by first | assumption | first | assumption | (simp (disch := omega) only [shI, shR, shL, shC, shD, shW, sh_V, shN_e, shN_n, crI, crL, crC, crW, crV, crR_e, crR_n, crN_e, crN_n, ciR, ciL, ciD, ciN_e, ciN_n, rdI_e, rdI_n, rdC_i, rdC_o, rdW, rdU_e, rdU_n, rdLW, clI, clR, clC, clD, clW, clV, clN_e, clN_n, clL_e, clL_n]; done) | (simp (disch := omega) only [shI, shR, shL, shC, shD, shW, sh_V, shN_e, shN_n, crI, crL, crC, crW, crV, crR_e, crR_n, crN_e, crN_n, ciR, ciL, ciD, ciN_e, ciN_n, rdI_e, rdI_n, rdC_i, rdC_o, rdW, rdU_e, rdU_n, rdLW, clI, clR, clC, clD, clW, clV, clN_e, clN_n, clL_e, clL_n] <;> first | assumption | rfl | omega)) (by first | assumption | first | assumption | (simp (disch := omega) only [shI, shR, shL, shC, shD, shW, sh_V, shN_e, shN_n, crI, crL, crC, crW, crV, crR_e, crR_n, crN_e, crN_n, ciR, ciL, ciD, ciN_e, ciN_n, rdI_e, rdI_n, rdC_i, rdC_o, rdW, rdU_e, rdU_n, rdLW, clI, clR, clC, clD, clW, clV, clN_e, clN_n, clL_e, clL_n]; done) | (simp (disch := omega) only [shI, shR, shL, shC, shD, shW, sh_V, shN_e, shN_n, crI, crL, crC, crW, crV, crR_e, crR_n, crN_e, crN_n, ciR, ciL, ciD, ciN_e, ciN_n, rdI_e, rdI_n, rdC_i, rdC_o, rdW, rdU_e, rdU_n, rdLW, clI, clR, clC, clD, clW, clV, clN_e, clN_n, clL_e, clL_n] <;> first | assumption | rfl | omega)) ?_
              refine x_iload dX1_led_56 rfl ?_
              refine x_iconst dX1_led_58 rfl ?_
              refine g_callI (vs := [_, _, _]) (d' := d - 1) rfl (s_X3_row (by omega) hs54 hB hN (by omega)) dX1_led_59 kX1_445 (by omega) (by decide) rfl (Nat.le_of_ble_eq_true rfl) (rcv_o (by first | assumption | first | assumption | (simp (disch := omega) only [shI, shR, shL, shC, shD, shW, sh_V, shN_e, shN_n, crI, crL, crC, crW, crV, crR_e, crR_n, crN_e, crN_n, ciR, ciL, ciD, ciN_e, ciN_n, rdI_e, rdI_n, rdC_i, rdC_o, rdW, rdU_e, rdU_n, rdLW, clI, clR, clC, clD, clW, clV, clN_e, clN_n, clL_e, clL_n]; done) | (simp (disch := omega) only [shI, shR, shL, shC, shD, shW, sh_V, shN_e, shN_n, crI, crL, crC, crW, crV, crR_e, crR_n, crN_e, crN_n, ciR, ciL, ciD, ciN_e, ciN_n, rdI_e, rdI_n, rdC_i, rdC_o, rdW, rdU_e, rdU_n, rdLW, clI, clR, clC, clD, clW, clV, clN_e, clN_n, clL_e, clL_n] <;> first | assumption | rfl | omega)) rfl) (fun x59 M59 h59 => ?_)
              obtain ⟨e59, f59⟩ := h59
              have f59' := f59.symm
              subst f59'
              rw [eR, h0] at e59
              subst e59
              refine x_goto (tgt := 67) dX1_led_62 (by decide) ?_
              refine x_istore (L' := [some _, some _, some _, some _, some _, some _]) dX1_led_67 (by decide) rfl ?_
              first | refine x_iincN (L' := [some _, some _, some _, some _, some _, some _]) dX1_led_69 rfl (by decide) (by unfold i32; omega) rfl ?_ | refine x_iinc (L' := [some _, some _, some _, some _, some _, some _]) dX1_led_69 rfl (by decide) rfl ?_
              refine x_goto (tgt := 14) dX1_led_72 (by decide) ?_
              first
              | (rw [if_neg h37] at hx hy
                 exact ih _ (by omega) (k + 1) x y rfl (by omega) hop (by omega) (by omega) hy)
              | (rw [if_pos h37] at hx hy
                 refine ih _ (by omega) (k + 1) (x + 1) y rfl (by omega) hop (by omega) (by omega) (Or.inr ?_)
                 rcases hy with q | q
                 · exact absurd q.1 h49
                 · exact q)
              | (rw [if_pos h37] at hx hy
                 refine ih _ (by omega) (k + 1) (x + 1) (v (128 + 4 * k)) rfl (by omega) hop (by omega) (by omega) (Or.inr ?_)
                 rcases hy with q | q
                 · exact And.intro ht q.2
                 · omega)
          · refine x_goto (tgt := 69) dX1_led_40 (by decide) ?_
            first | refine x_iincN (L' := [some _, some _, some _, some _, some _, some _]) dX1_led_69 rfl (by decide) (by unfold i32; omega) rfl ?_ | refine x_iinc (L' := [some _, some _, some _, some _, some _, some _]) dX1_led_69 rfl (by decide) rfl ?_
            refine x_goto (tgt := 14) dX1_led_72 (by decide) ?_
            first
            | (rw [if_neg h37] at hx hy
               exact ih _ (by omega) (k + 1) x y rfl (by omega) hop (by omega) (by omega) hy)
            | (rw [if_pos h37] at hx hy
               refine ih _ (by omega) (k + 1) (x + 1) y rfl (by omega) hop (by omega) (by omega) (Or.inr ?_)
               rcases hy with q | q
               · exact absurd q.1 h49
               · exact q)
            | (rw [if_pos h37] at hx hy
               refine ih _ (by omega) (k + 1) (x + 1) (v (128 + 4 * k)) rfl (by omega) hop (by omega) (by omega) (Or.inr ?_)
               rcases hy with q | q
               · exact And.intro ht q.2
               · omega)
      · have e1 : (v 10 - k).toNat = 0 := by omega
        rw [e1] at hx hy
        have z1 : ledN v op 0 k = 0 := rfl
        have z2 : ledT v op 0 k = -1 := rfl
        rw [z1] at hx
        rw [z2] at hy
        refine x_aload_n dX1_led_14 rfl rfl ?_
        refine g_getR (kI := 1) rfl dX1_led_15 fX1_22_1 (by first | assumption | first | assumption | (simp (disch := omega) only [shI, shR, shL, shC, shD, shW, sh_V, shN_e, shN_n, crI, crL, crC, crW, crV, crR_e, crR_n, crN_e, crN_n, ciR, ciL, ciD, ciN_e, ciN_n, rdI_e, rdI_n, rdC_i, rdC_o, rdW, rdU_e, rdU_n, rdLW, clI, clR, clC, clD, clW, clV, clN_e, clN_n, clL_e, clL_n]; done) | (simp (disch := omega) only [shI, shR, shL, shC, shD, shW, sh_V, shN_e, shN_n, crI, crL, crC, crW, crV, crR_e, crR_n, crN_e, crN_n, ciR, ciL, ciD, ciN_e, ciN_n, rdI_e, rdI_n, rdC_i, rdC_o, rdW, rdU_e, rdU_n, rdLW, clI, clR, clC, clD, clW, clV, clN_e, clN_n, clL_e, clL_n] <;> first | assumption | rfl | omega)) (by first | assumption | first | assumption | (simp (disch := omega) only [shI, shR, shL, shC, shD, shW, sh_V, shN_e, shN_n, crI, crL, crC, crW, crV, crR_e, crR_n, crN_e, crN_n, ciR, ciL, ciD, ciN_e, ciN_n, rdI_e, rdI_n, rdC_i, rdC_o, rdW, rdU_e, rdU_n, rdLW, clI, clR, clC, clD, clW, clV, clN_e, clN_n, clL_e, clL_n]; done) | (simp (disch := omega) only [shI, shR, shL, shC, shD, shW, sh_V, shN_e, shN_n, crI, crL, crC, crW, crV, crR_e, crR_n, crN_e, crN_n, ciR, ciL, ciD, ciN_e, ciN_n, rdI_e, rdI_n, rdC_i, rdC_o, rdW, rdU_e, rdU_n, rdLW, clI, clR, clC, clD, clW, clV, clN_e, clN_n, clL_e, clL_n] <;> first | assumption | rfl | omega)) ?_
        refine x_iload dX1_led_18 rfl ?_
        refine g_callI (vs := [_, _]) (d' := d - 1) rfl (s_X3_isKept (by omega) hs54 hB) dX1_led_20 kX1_442 (by omega) (by decide) rfl (Nat.le_of_ble_eq_true rfl) (rcv_o (by first | assumption | first | assumption | (simp (disch := omega) only [shI, shR, shL, shC, shD, shW, sh_V, shN_e, shN_n, crI, crL, crC, crW, crV, crR_e, crR_n, crN_e, crN_n, ciR, ciL, ciD, ciN_e, ciN_n, rdI_e, rdI_n, rdC_i, rdC_o, rdW, rdU_e, rdU_n, rdLW, clI, clR, clC, clD, clW, clV, clN_e, clN_n, clL_e, clL_n]; done) | (simp (disch := omega) only [shI, shR, shL, shC, shD, shW, sh_V, shN_e, shN_n, crI, crL, crC, crW, crV, crR_e, crR_n, crN_e, crN_n, ciR, ciL, ciD, ciN_e, ciN_n, rdI_e, rdI_n, rdC_i, rdC_o, rdW, rdU_e, rdU_n, rdLW, clI, clR, clC, clD, clW, clV, clN_e, clN_n, clL_e, clL_n] <;> first | assumption | rfl | omega)) rfl) (fun x20 M20 h20 => ?_)
        obtain ⟨e20, f20⟩ := h20
        have f20' := f20.symm
        subst f20'
        subst e20
        refine x_if_eq (tgt := 75) dX1_led_23 (by decide) (fun h23 => ?_) (fun h23 => ?_)
        · try simp only [vP_0, vP_1, vP_n0, vP_n1, Classical.not_not] at h23
          refine x_iload_n dX1_led_75 rfl rfl ?_
          refine x_if_eq (tgt := 84) dX1_led_76 (by decide) (fun h76 => ?_) (fun h76 => ?_)
          · refine x_iload_n dX1_led_84 rfl rfl ?_
            refine x_ireturn rfl dX1_led_85 ?_
            refine hQ _ _ (Or.inl ⟨_, rfl, hop, ?_, CO.r hC⟩)
            unfold ledAns
            first
            | (rw [if_pos h76]; omega)
            | (rw [if_neg h76]; omega)
          · refine x_iload dX1_led_79 rfl ?_
            refine x_goto (tgt := 85) dX1_led_81 (by decide) ?_
            refine x_ireturn rfl dX1_led_85 ?_
            refine hQ _ _ (Or.inl ⟨_, rfl, hop, ?_, CO.r hC⟩)
            unfold ledAns
            first
            | (rw [if_pos h76]; omega)
            | (rw [if_neg h76]; omega)
        · try simp only [vP_0, vP_1, vP_n0, vP_n1, Classical.not_not] at h23
          omega
  refine x_aload_n dX1_led_0 rfl rfl ?_
  refine x_iload_n dX1_led_1 rfl rfl ?_
  refine g_callRX (vs := [_, _]) (d' := d - 1) rfl (s_X1_opOf (by omega) hC) dX1_led_2 kX1_240 (by omega) (by decide) rfl (Nat.le_of_ble_eq_true rfl) (rcv_o (by first | assumption | first | assumption | (simp (disch := omega) only [shI, shR, shL, shC, shD, shW, sh_V, shN_e, shN_n, crI, crL, crC, crW, crV, crR_e, crR_n, crN_e, crN_n, ciR, ciL, ciD, ciN_e, ciN_n, rdI_e, rdI_n, rdC_i, rdC_o, rdW, rdU_e, rdU_n, rdLW, clI, clR, clC, clD, clW, clV, clN_e, clN_n, clL_e, clL_n]; done) | (simp (disch := omega) only [shI, shR, shL, shC, shD, shW, sh_V, shN_e, shN_n, crI, crL, crC, crW, crV, crR_e, crR_n, crN_e, crN_n, ciR, ciL, ciD, ciN_e, ciN_n, rdI_e, rdI_n, rdC_i, rdC_o, rdW, rdU_e, rdU_n, rdLW, clI, clR, clC, clD, clW, clV, clN_e, clN_n, clL_e, clL_n] <;> first | assumption | rfl | omega)) rfl) (fun x2 M2 h2 => ?_) (fun a2 E2 M2 h2 => ?_)
  · obtain ⟨q2, e2, f2⟩ := h2
    subst e2
    subst f2
    refine x_pop dX1_led_5 rfl ?_
    refine x_iconst dX1_led_6 rfl ?_
    refine x_istore_n (L' := [some _, some _, some _, some _, none, none]) dX1_led_7 rfl (by decide) rfl ?_
    refine x_iconst dX1_led_8 rfl ?_
    refine x_istore (L' := [some _, some _, some _, some _, some _, none]) dX1_led_9 (by decide) rfl ?_
    refine x_iconst dX1_led_11 rfl ?_
    refine x_istore (L' := [some _, some _, some _, some _, some _, some _]) dX1_led_12 (by decide) rfl ?_
    refine lp _ 0 0 (-1) rfl (by omega) q2 (by omega) ?_ (Or.inl ⟨rfl, ?_⟩)
    · rw [show v 10 - 0 = v 10 by omega]; omega
    · rw [show v 10 - 0 = v 10 by omega]
  · obtain ⟨q2, eE2, eM2⟩ := h2
    subst eE2
    subst eM2
    exact th_nil rfl (hQ _ _ (Or.inr ⟨_, _, rfl, CO.xx hC, q2, rfl⟩))
end X1

