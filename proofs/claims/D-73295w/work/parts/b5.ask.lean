/-! GuestView: which, likely, ask -/
section X1
variable {G : GW} {d : Nat} {M M1 : Mem} {a b c e k n x y op w st hi sz fa N i p T s : Int} {v vi : Vw} {A : Int → Vw} {tp : Int → Int}
theorem fit1_r (h : 0 ≤ v 0 ∧ v 0 ≤ 8) : 0 ≤ fitV v tp sz w ∧ fitV v tp sz w < 256 := by
  unfold fitV
  have h1 := num_r (fun p => wrgV v tp sz p ≤ w) (v 0).toNat
  have h2 := pw_le8 (t := (v 0).toNat) (by omega)
  omega
theorem s_X1_which (hd : 16 ≤ d) (hC : CI M v n A hi vi tp sz fa N) (h1N : ∀ p, 0 ≤ p → p < v 0 → 1 ≤ opN v p) : CS G d mX1_which [dR 0] M (orT (postI fun y M1 => toldOk tp sz ∧ y = fitV v tp sz 1 ∧ CO M v n A hi vi tp 0 fa N 0 0 M1) (fun a E M1 => CO M v n A hi vi tp 0 fa N 1 6 M1 ∧ ¬ toldOk tp sz ∧ E = "java/lang/IllegalArgumentException")) := by
  have s0 : msh M 0 = some (1, 0) := hC.1.1.1.1
  refine CS.mkQ (by decide) (Nat.le_of_ble_eq_true rfl) fun Q hQ => ?_
  refine x_aload_n dX1_which_0 rfl rfl ?_
  refine g_callIX (vs := [_]) (d' := d - 1) rfl (s_X1_hears (by omega) hC h1N) dX1_which_1 kX1_396 (by omega) (by decide) rfl (Nat.le_of_ble_eq_true rfl) (rcv_o (by first | assumption | first | assumption | (simp (disch := omega) only [shI, shR, shL, shC, shD, shW, sh_V, shN_e, shN_n, crI, crL, crC, crW, crV, crR_e, crR_n, crN_e, crN_n, ciR, ciL, ciD, ciN_e, ciN_n, rdI_e, rdI_n, rdC_i, rdC_o, rdW, rdU_e, rdU_n, rdLW, clI, clR, clC, clD, clW, clV, clN_e, clN_n, clL_e, clL_n]; done) | (simp (disch := omega) only [shI, shR, shL, shC, shD, shW, sh_V, shN_e, shN_n, crI, crL, crC, crW, crV, crR_e, crR_n, crN_e, crN_n, ciR, ciL, ciD, ciN_e, ciN_n, rdI_e, rdI_n, rdC_i, rdC_o, rdW, rdU_e, rdU_n, rdLW, clI, clR, clC, clD, clW, clV, clN_e, clN_n, clL_e, clL_n] <;> first | assumption | rfl | omega)) rfl) (fun x1 M1 h1 => ?_) (fun a1 E1 M1 h1 => ?_)
  · obtain ⟨q1, e1, f1, -⟩ := h1
    refine x_ireturn rfl dX1_which_4 ?_
    exact hQ _ _ (Or.inl ⟨_, rfl, q1, e1, f1⟩)
  · obtain ⟨hM1, q1, eE1⟩ := h1
    subst eE1
    exact th_nil rfl (hQ _ _ (Or.inr ⟨_, _, rfl, hM1, q1, rfl⟩))
theorem s_X1_likely (hd : 16 ≤ d) (hC : CI M v n A hi vi tp sz fa N) (h1N : ∀ p, 0 ≤ p → p < v 0 → 1 ≤ opN v p) : CS G d mX1_likely [dR 0] M (orT (postI fun y M1 => toldOk tp sz ∧ y = likelyAns v tp sz ∧ CO M v n A hi vi tp 0 fa N 0 0 M1) (fun a E M1 => CO M v n A hi vi tp 0 fa N 1 6 M1 ∧ ¬ toldOk tp sz ∧ E = "java/lang/IllegalArgumentException")) := by
  have s0 : msh M 0 = some (1, 0) := hC.1.1.1.1
  have hv8 := hC.2.1.1.1.n8
  have hv0 := hC.2.1.1.1.1.1
  have r1 := fit1_r (v := v) (tp := tp) (sz := sz) (w := 1) (by omega)
  refine CS.mkQ (by decide) (Nat.le_of_ble_eq_true rfl) fun Q hQ => ?_
  have lp : ∀ (t : Nat) (p y : Int) (M' : Mem), (v 0 - p).toNat = t → (0 ≤ p ∧ p ≤ v 0) → (toldOk tp sz) → (CO M v n A hi vi tp 0 fa N 0 0 M') → (∀ o, 0 ≤ o → o < v 0 → mci M' 199 o = wrgV v tp sz o) → (y = lkR v tp sz p.toNat) → WP G d mX1_likely 9 [some (dR 0), some (dI (fitV v tp sz 1)), some (dI y), some (dI p)] [] (M') Q := by
    intro t
    induction t using Nat.strongRecOn with
    | _ t ih =>
      intro p y M' ht h0 hok hCO hw hy
      have hC := hCO.1
      obtain ⟨hC1, hC54, hCA, hCR⟩ := id hC; obtain ⟨hS, hTab, hTx, hLn, hSk, hnx⟩ := id hC1; obtain ⟨hA, hL, hR⟩ := id hC54; obtain ⟨⟨s0, s199, s200, s201, s202, s203⟩, ⟨c0, c1, c2, c3, c4, c5, c6, c7, c8, c9, c10, c11, c12⟩, c203, hSt, m189, m191, g193, g196, ⟨⟨r2, r3, r4, r5, r6, r7, r53⟩, ⟨w0, w1, w2, w3, w4, w5, w6⟩, wx1, wx2, wx3⟩⟩ := id hS; have hv := hA.1; have hv8 := hv.n8; have hv0 := hv.1.1; have hv3 := hv.2.2.2.1; have hs54 := hSt 54 (by unfold SB; omega); obtain ⟨p0, p1, ⟨d0, d1, d2, d3, d4, d5, d6, d7⟩, ⟨t1, t2, t3, t4, t5, t6⟩, p5, p6, p7⟩ := id hs54; have t7 : msh (M') (54 + 7) = some (4, 0) := p5.2.1; have t10 : msh (M') (54 + 10) = some (4, 0) := p6.2.1; obtain ⟨hB, hW, hLw⟩ := id hR.1; obtain ⟨b1, b2, b3, b4, b5, b6, b7, b8, b9, b10, b11, b12, b13, b14, b15⟩ := id hB; obtain ⟨hn, hn2, hat, hAc⟩ := id hCA; obtain ⟨⟨hki, hhi⟩, hIm, ⟨htp, hsz, hsz2⟩, hfa⟩ := id hCR
      have hi' := lkR_i v tp sz p.toNat
      rw [← hy] at hi'
      have hyr : y = -1 ∨ (0 ≤ y ∧ y < p) := by
        rcases hi' with q | q
        · exact Or.inl q.1
        · exact Or.inr ⟨q.1.1, by have := q.1.2; omega⟩
      clear hi'
      have es : lkR v tp sz (p + 1).toNat = @ite Int (wrgV v tp sz p ≤ 1 ∧ (y = -1 ∨ wrgV v tp sz p < wrgV v tp sz y)) (Classical.propDecidable _) p y := by
        rw [show (p + 1).toNat = p.toNat + 1 by omega, lkR_s, ← hy, show ((p.toNat : Nat) : Int) = p by omega]
      by_cases hp : p < v 0
      · have hwp := hw p h0.1 hp
        have hb : bitI (fitV v tp sz 1) p = 1 ↔ wrgV v tp sz p ≤ 1 := num_bit (P := fun p => wrgV v tp sz p ≤ 1) h0.1 (by omega)
        have nx : ∀ z, z = lkR v tp sz (p + 1).toNat → WP G d mX1_likely 9 [some (dR 0), some (dI (fitV v tp sz 1)), some (dI z), some (dI (p + 1))] [] M' Q := fun z hz => ih _ (by omega) (p + 1) z M' rfl (by omega) hok hCO hw hz
        by_cases hy1 : y = -1
        · refine x_iload_n dX1_likely_9 rfl rfl ?_
          refine x_aload_n dX1_likely_10 rfl rfl ?_
          refine g_getR (kI := 1) rfl dX1_likely_11 fX1_22_1 (by first | assumption | first | assumption | (simp (disch := omega) only [shI, shR, shL, shC, shD, shW, sh_V, shN_e, shN_n, crI, crL, crC, crW, crV, crR_e, crR_n, crN_e, crN_n, ciR, ciL, ciD, ciN_e, ciN_n, rdI_e, rdI_n, rdC_i, rdC_o, rdW, rdU_e, rdU_n, rdLW, clI, clR, clC, clD, clW, clV, clN_e, clN_n, clL_e, clL_n]; done) | (simp (disch := omega) only [shI, shR, shL, shC, shD, shW, sh_V, shN_e, shN_n, crI, crL, crC, crW, crV, crR_e, crR_n, crN_e, crN_n, ciR, ciL, ciD, ciN_e, ciN_n, rdI_e, rdI_n, rdC_i, rdC_o, rdW, rdU_e, rdU_n, rdLW, clI, clR, clC, clD, clW, clV, clN_e, clN_n, clL_e, clL_n] <;> first | assumption | rfl | omega)) (by first | assumption | first | assumption | (simp (disch := omega) only [shI, shR, shL, shC, shD, shW, sh_V, shN_e, shN_n, crI, crL, crC, crW, crV, crR_e, crR_n, crN_e, crN_n, ciR, ciL, ciD, ciN_e, ciN_n, rdI_e, rdI_n, rdC_i, rdC_o, rdW, rdU_e, rdU_n, rdLW, clI, clR, clC, clD, clW, clV, clN_e, clN_n, clL_e, clL_n]; done) | (simp (disch := omega) only [shI, shR, shL, shC, shD, shW, sh_V, shN_e, shN_n, crI, crL, crC, crW, crV, crR_e, crR_n, crN_e, crN_n, ciR, ciL, ciD, ciN_e, ciN_n, rdI_e, rdI_n, rdC_i, rdC_o, rdW, rdU_e, rdU_n, rdLW, clI, clR, clC, clD, clW, clV, clN_e, clN_n, clL_e, clL_n] <;> first | assumption | rfl | omega)) ?_
          refine g_getI (kI := 8) rfl dX1_likely_14 fX1_101_3 (by first | assumption | first | assumption | (simp (disch := omega) only [shI, shR, shL, shC, shD, shW, sh_V, shN_e, shN_n, crI, crL, crC, crW, crV, crR_e, crR_n, crN_e, crN_n, ciR, ciL, ciD, ciN_e, ciN_n, rdI_e, rdI_n, rdC_i, rdC_o, rdW, rdU_e, rdU_n, rdLW, clI, clR, clC, clD, clW, clV, clN_e, clN_n, clL_e, clL_n]; done) | (simp (disch := omega) only [shI, shR, shL, shC, shD, shW, sh_V, shN_e, shN_n, crI, crL, crC, crW, crV, crR_e, crR_n, crN_e, crN_n, ciR, ciL, ciD, ciN_e, ciN_n, rdI_e, rdI_n, rdC_i, rdC_o, rdW, rdU_e, rdU_n, rdLW, clI, clR, clC, clD, clW, clV, clN_e, clN_n, clL_e, clL_n] <;> first | assumption | rfl | omega)) ?_
          try simp (disch := omega) only [rdI_e, rdI_n, rdC_i, rdC_o, rdW, rdR, rdU_e, rdU_n, rdLW, Int.add_zero, b1]
          refine x_icmp_ge (tgt := 57) dX1_likely_17 (by decide) (fun h17 => ?_) (fun h17 => ?_)
          · omega
          · refine x_iload_n dX1_likely_20 rfl rfl ?_
            refine x_iload_n dX1_likely_21 rfl rfl ?_
            refine x_ishr dX1_likely_22 ?_
            refine x_iconst dX1_likely_23 rfl ?_
            refine x_iand dX1_likely_24 ?_
            refine x_iconst dX1_likely_25 rfl ?_
            rw [has_e (show i32 (fitV v tp sz 1) from ⟨by omega, by omega⟩) (by omega)]
            refine x_icmp_ne (tgt := 51) dX1_likely_26 (by decide) (fun h26 => ?_) (fun h26 => ?_)
            · first | refine x_iincN (L' := [some _, some _, some _, some _]) dX1_likely_51 rfl (by decide) (by unfold i32; omega) rfl ?_ | refine x_iinc (L' := [some _, some _, some _, some _]) dX1_likely_51 rfl (by decide) rfl ?_
              refine x_goto (tgt := 9) dX1_likely_54 (by decide) ?_
              refine nx _ ?_
              rw [es]
              first
              | exact (if_neg fun q => h26 (hb.mpr q.1)).symm
              | exact (if_pos ⟨hb.mp h26, Or.inl hy1⟩).symm
            · refine x_iload_n dX1_likely_29 rfl rfl ?_
              refine x_iconst dX1_likely_30 rfl ?_
              refine x_icmp_eq (tgt := 49) dX1_likely_31 (by decide) (fun h31 => ?_) (fun h31 => ?_)
              · refine x_iload_n dX1_likely_49 rfl rfl ?_
                refine x_istore_n (L' := [some _, some _, some _, some _]) dX1_likely_50 rfl (by decide) rfl ?_
                first | refine x_iincN (L' := [some _, some _, some _, some _]) dX1_likely_51 rfl (by decide) (by unfold i32; omega) rfl ?_ | refine x_iinc (L' := [some _, some _, some _, some _]) dX1_likely_51 rfl (by decide) rfl ?_
                refine x_goto (tgt := 9) dX1_likely_54 (by decide) ?_
                refine nx _ ?_
                rw [es]
                first
                | exact (if_neg fun q => h26 (hb.mpr q.1)).symm
                | exact (if_pos ⟨hb.mp h26, Or.inl hy1⟩).symm
              · omega
        · have hwy := hw y (by omega) (by omega)
          refine x_iload_n dX1_likely_9 rfl rfl ?_
          refine x_aload_n dX1_likely_10 rfl rfl ?_
          refine g_getR (kI := 1) rfl dX1_likely_11 fX1_22_1 (by first | assumption | first | assumption | (simp (disch := omega) only [shI, shR, shL, shC, shD, shW, sh_V, shN_e, shN_n, crI, crL, crC, crW, crV, crR_e, crR_n, crN_e, crN_n, ciR, ciL, ciD, ciN_e, ciN_n, rdI_e, rdI_n, rdC_i, rdC_o, rdW, rdU_e, rdU_n, rdLW, clI, clR, clC, clD, clW, clV, clN_e, clN_n, clL_e, clL_n]; done) | (simp (disch := omega) only [shI, shR, shL, shC, shD, shW, sh_V, shN_e, shN_n, crI, crL, crC, crW, crV, crR_e, crR_n, crN_e, crN_n, ciR, ciL, ciD, ciN_e, ciN_n, rdI_e, rdI_n, rdC_i, rdC_o, rdW, rdU_e, rdU_n, rdLW, clI, clR, clC, clD, clW, clV, clN_e, clN_n, clL_e, clL_n] <;> first | assumption | rfl | omega)) (by first | assumption | first | assumption | (simp (disch := omega) only [shI, shR, shL, shC, shD, shW, sh_V, shN_e, shN_n, crI, crL, crC, crW, crV, crR_e, crR_n, crN_e, crN_n, ciR, ciL, ciD, ciN_e, ciN_n, rdI_e, rdI_n, rdC_i, rdC_o, rdW, rdU_e, rdU_n, rdLW, clI, clR, clC, clD, clW, clV, clN_e, clN_n, clL_e, clL_n]; done) | (simp (disch := omega) only [shI, shR, shL, shC, shD, shW, sh_V, shN_e, shN_n, crI, crL, crC, crW, crV, crR_e, crR_n, crN_e, crN_n, ciR, ciL, ciD, ciN_e, ciN_n, rdI_e, rdI_n, rdC_i, rdC_o, rdW, rdU_e, rdU_n, rdLW, clI, clR, clC, clD, clW, clV, clN_e, clN_n, clL_e, clL_n] <;> first | assumption | rfl | omega)) ?_
          refine g_getI (kI := 8) rfl dX1_likely_14 fX1_101_3 (by first | assumption | first | assumption | (simp (disch := omega) only [shI, shR, shL, shC, shD, shW, sh_V, shN_e, shN_n, crI, crL, crC, crW, crV, crR_e, crR_n, crN_e, crN_n, ciR, ciL, ciD, ciN_e, ciN_n, rdI_e, rdI_n, rdC_i, rdC_o, rdW, rdU_e, rdU_n, rdLW, clI, clR, clC, clD, clW, clV, clN_e, clN_n, clL_e, clL_n]; done) | (simp (disch := omega) only [shI, shR, shL, shC, shD, shW, sh_V, shN_e, shN_n, crI, crL, crC, crW, crV, crR_e, crR_n, crN_e, crN_n, ciR, ciL, ciD, ciN_e, ciN_n, rdI_e, rdI_n, rdC_i, rdC_o, rdW, rdU_e, rdU_n, rdLW, clI, clR, clC, clD, clW, clV, clN_e, clN_n, clL_e, clL_n] <;> first | assumption | rfl | omega)) ?_
          try simp (disch := omega) only [rdI_e, rdI_n, rdC_i, rdC_o, rdW, rdR, rdU_e, rdU_n, rdLW, Int.add_zero, b1, hwp, hwy]
          refine x_icmp_ge (tgt := 57) dX1_likely_17 (by decide) (fun h17 => ?_) (fun h17 => ?_)
          · omega
          · refine x_iload_n dX1_likely_20 rfl rfl ?_
            refine x_iload_n dX1_likely_21 rfl rfl ?_
            refine x_ishr dX1_likely_22 ?_
            refine x_iconst dX1_likely_23 rfl ?_
            refine x_iand dX1_likely_24 ?_
            refine x_iconst dX1_likely_25 rfl ?_
            rw [has_e (show i32 (fitV v tp sz 1) from ⟨by omega, by omega⟩) (by omega)]
            refine x_icmp_ne (tgt := 51) dX1_likely_26 (by decide) (fun h26 => ?_) (fun h26 => ?_)
            · first | refine x_iincN (L' := [some _, some _, some _, some _]) dX1_likely_51 rfl (by decide) (by unfold i32; omega) rfl ?_ | refine x_iinc (L' := [some _, some _, some _, some _]) dX1_likely_51 rfl (by decide) rfl ?_
              refine x_goto (tgt := 9) dX1_likely_54 (by decide) ?_
              refine nx _ ?_
              rw [es]
              first
              | exact (if_neg fun q => h26 (hb.mpr q.1)).symm
              | exact (if_pos ⟨hb.mp h26, Or.inr (Int.not_le.mp h46)⟩).symm
              | exact (if_neg fun q => q.2.elim hy1 fun q2 => absurd q2 (Int.not_lt.mpr h46)).symm
            · refine x_iload_n dX1_likely_29 rfl rfl ?_
              refine x_iconst dX1_likely_30 rfl ?_
              refine x_icmp_eq (tgt := 49) dX1_likely_31 (by decide) (fun h31 => ?_) (fun h31 => ?_)
              · omega
              · refine x_aload_n dX1_likely_34 rfl rfl ?_
                refine g_getR (kI := 9) rfl dX1_likely_35 fX1_52_1 (by first | assumption | first | assumption | (simp (disch := omega) only [shI, shR, shL, shC, shD, shW, sh_V, shN_e, shN_n, crI, crL, crC, crW, crV, crR_e, crR_n, crN_e, crN_n, ciR, ciL, ciD, ciN_e, ciN_n, rdI_e, rdI_n, rdC_i, rdC_o, rdW, rdU_e, rdU_n, rdLW, clI, clR, clC, clD, clW, clV, clN_e, clN_n, clL_e, clL_n]; done) | (simp (disch := omega) only [shI, shR, shL, shC, shD, shW, sh_V, shN_e, shN_n, crI, crL, crC, crW, crV, crR_e, crR_n, crN_e, crN_n, ciR, ciL, ciD, ciN_e, ciN_n, rdI_e, rdI_n, rdC_i, rdC_o, rdW, rdU_e, rdU_n, rdLW, clI, clR, clC, clD, clW, clV, clN_e, clN_n, clL_e, clL_n] <;> first | assumption | rfl | omega)) (by first | assumption | first | assumption | (simp (disch := omega) only [shI, shR, shL, shC, shD, shW, sh_V, shN_e, shN_n, crI, crL, crC, crW, crV, crR_e, crR_n, crN_e, crN_n, ciR, ciL, ciD, ciN_e, ciN_n, rdI_e, rdI_n, rdC_i, rdC_o, rdW, rdU_e, rdU_n, rdLW, clI, clR, clC, clD, clW, clV, clN_e, clN_n, clL_e, clL_n]; done) | (simp (disch := omega) only [shI, shR, shL, shC, shD, shW, sh_V, shN_e, shN_n, crI, crL, crC, crW, crV, crR_e, crR_n, crN_e, crN_n, ciR, ciL, ciD, ciN_e, ciN_n, rdI_e, rdI_n, rdC_i, rdC_o, rdW, rdU_e, rdU_n, rdLW, clI, clR, clC, clD, clW, clV, clN_e, clN_n, clL_e, clL_n] <;> first | assumption | rfl | omega)) ?_
                refine x_iload_n dX1_likely_38 rfl rfl ?_
                refine x_iald dX1_likely_39 (by first | assumption | first | assumption | (simp (disch := omega) only [shI, shR, shL, shC, shD, shW, sh_V, shN_e, shN_n, crI, crL, crC, crW, crV, crR_e, crR_n, crN_e, crN_n, ciR, ciL, ciD, ciN_e, ciN_n, rdI_e, rdI_n, rdC_i, rdC_o, rdW, rdU_e, rdU_n, rdLW, clI, clR, clC, clD, clW, clV, clN_e, clN_n, clL_e, clL_n]; done) | (simp (disch := omega) only [shI, shR, shL, shC, shD, shW, sh_V, shN_e, shN_n, crI, crL, crC, crW, crV, crR_e, crR_n, crN_e, crN_n, ciR, ciL, ciD, ciN_e, ciN_n, rdI_e, rdI_n, rdC_i, rdC_o, rdW, rdU_e, rdU_n, rdLW, clI, clR, clC, clD, clW, clV, clN_e, clN_n, clL_e, clL_n] <;> first | assumption | rfl | omega)) (by omega) (by omega) ?_
                try simp (disch := omega) only [rdI_e, rdI_n, rdC_i, rdC_o, rdW, rdR, rdU_e, rdU_n, rdLW, Int.add_zero, b1, hwp, hwy]
                refine x_aload_n dX1_likely_40 rfl rfl ?_
                refine g_getR (kI := 9) rfl dX1_likely_41 fX1_52_1 (by first | assumption | first | assumption | (simp (disch := omega) only [shI, shR, shL, shC, shD, shW, sh_V, shN_e, shN_n, crI, crL, crC, crW, crV, crR_e, crR_n, crN_e, crN_n, ciR, ciL, ciD, ciN_e, ciN_n, rdI_e, rdI_n, rdC_i, rdC_o, rdW, rdU_e, rdU_n, rdLW, clI, clR, clC, clD, clW, clV, clN_e, clN_n, clL_e, clL_n]; done) | (simp (disch := omega) only [shI, shR, shL, shC, shD, shW, sh_V, shN_e, shN_n, crI, crL, crC, crW, crV, crR_e, crR_n, crN_e, crN_n, ciR, ciL, ciD, ciN_e, ciN_n, rdI_e, rdI_n, rdC_i, rdC_o, rdW, rdU_e, rdU_n, rdLW, clI, clR, clC, clD, clW, clV, clN_e, clN_n, clL_e, clL_n] <;> first | assumption | rfl | omega)) (by first | assumption | first | assumption | (simp (disch := omega) only [shI, shR, shL, shC, shD, shW, sh_V, shN_e, shN_n, crI, crL, crC, crW, crV, crR_e, crR_n, crN_e, crN_n, ciR, ciL, ciD, ciN_e, ciN_n, rdI_e, rdI_n, rdC_i, rdC_o, rdW, rdU_e, rdU_n, rdLW, clI, clR, clC, clD, clW, clV, clN_e, clN_n, clL_e, clL_n]; done) | (simp (disch := omega) only [shI, shR, shL, shC, shD, shW, sh_V, shN_e, shN_n, crI, crL, crC, crW, crV, crR_e, crR_n, crN_e, crN_n, ciR, ciL, ciD, ciN_e, ciN_n, rdI_e, rdI_n, rdC_i, rdC_o, rdW, rdU_e, rdU_n, rdLW, clI, clR, clC, clD, clW, clV, clN_e, clN_n, clL_e, clL_n] <;> first | assumption | rfl | omega)) ?_
                refine x_iload_n dX1_likely_44 rfl rfl ?_
                refine x_iald dX1_likely_45 (by first | assumption | first | assumption | (simp (disch := omega) only [shI, shR, shL, shC, shD, shW, sh_V, shN_e, shN_n, crI, crL, crC, crW, crV, crR_e, crR_n, crN_e, crN_n, ciR, ciL, ciD, ciN_e, ciN_n, rdI_e, rdI_n, rdC_i, rdC_o, rdW, rdU_e, rdU_n, rdLW, clI, clR, clC, clD, clW, clV, clN_e, clN_n, clL_e, clL_n]; done) | (simp (disch := omega) only [shI, shR, shL, shC, shD, shW, sh_V, shN_e, shN_n, crI, crL, crC, crW, crV, crR_e, crR_n, crN_e, crN_n, ciR, ciL, ciD, ciN_e, ciN_n, rdI_e, rdI_n, rdC_i, rdC_o, rdW, rdU_e, rdU_n, rdLW, clI, clR, clC, clD, clW, clV, clN_e, clN_n, clL_e, clL_n] <;> first | assumption | rfl | omega)) (by omega) (by omega) ?_
                try simp (disch := omega) only [rdI_e, rdI_n, rdC_i, rdC_o, rdW, rdR, rdU_e, rdU_n, rdLW, Int.add_zero, b1, hwp, hwy]
                refine x_icmp_ge (tgt := 51) dX1_likely_46 (by decide) (fun h46 => ?_) (fun h46 => ?_)
                · first | refine x_iincN (L' := [some _, some _, some _, some _]) dX1_likely_51 rfl (by decide) (by unfold i32; omega) rfl ?_ | refine x_iinc (L' := [some _, some _, some _, some _]) dX1_likely_51 rfl (by decide) rfl ?_
                  refine x_goto (tgt := 9) dX1_likely_54 (by decide) ?_
                  refine nx _ ?_
                  rw [es]
                  first
                  | exact (if_neg fun q => h26 (hb.mpr q.1)).symm
                  | exact (if_pos ⟨hb.mp h26, Or.inr (Int.not_le.mp h46)⟩).symm
                  | exact (if_neg fun q => q.2.elim hy1 fun q2 => absurd q2 (Int.not_lt.mpr h46)).symm
                · refine x_iload_n dX1_likely_49 rfl rfl ?_
                  refine x_istore_n (L' := [some _, some _, some _, some _]) dX1_likely_50 rfl (by decide) rfl ?_
                  first | refine x_iincN (L' := [some _, some _, some _, some _]) dX1_likely_51 rfl (by decide) (by unfold i32; omega) rfl ?_ | refine x_iinc (L' := [some _, some _, some _, some _]) dX1_likely_51 rfl (by decide) rfl ?_
                  refine x_goto (tgt := 9) dX1_likely_54 (by decide) ?_
                  refine nx _ ?_
                  rw [es]
                  first
                  | exact (if_neg fun q => h26 (hb.mpr q.1)).symm
                  | exact (if_pos ⟨hb.mp h26, Or.inr (Int.not_le.mp h46)⟩).symm
                  | exact (if_neg fun q => q.2.elim hy1 fun q2 => absurd q2 (Int.not_lt.mpr h46)).symm
      · refine x_iload_n dX1_likely_9 rfl rfl ?_
        refine x_aload_n dX1_likely_10 rfl rfl ?_
        refine g_getR (kI := 1) rfl dX1_likely_11 fX1_22_1 (by first | assumption | first | assumption | (simp (disch := omega) only [shI, shR, shL, shC, shD, shW, sh_V, shN_e, shN_n, crI, crL, crC, crW, crV, crR_e, crR_n, crN_e, crN_n, ciR, ciL, ciD, ciN_e, ciN_n, rdI_e, rdI_n, rdC_i, rdC_o, rdW, rdU_e, rdU_n, rdLW, clI, clR, clC, clD, clW, clV, clN_e, clN_n, clL_e, clL_n]; done) | (simp (disch := omega) only [shI, shR, shL, shC, shD, shW, sh_V, shN_e, shN_n, crI, crL, crC, crW, crV, crR_e, crR_n, crN_e, crN_n, ciR, ciL, ciD, ciN_e, ciN_n, rdI_e, rdI_n, rdC_i, rdC_o, rdW, rdU_e, rdU_n, rdLW, clI, clR, clC, clD, clW, clV, clN_e, clN_n, clL_e, clL_n] <;> first | assumption | rfl | omega)) (by first | assumption | first | assumption | (simp (disch := omega) only [shI, shR, shL, shC, shD, shW, sh_V, shN_e, shN_n, crI, crL, crC, crW, crV, crR_e, crR_n, crN_e, crN_n, ciR, ciL, ciD, ciN_e, ciN_n, rdI_e, rdI_n, rdC_i, rdC_o, rdW, rdU_e, rdU_n, rdLW, clI, clR, clC, clD, clW, clV, clN_e, clN_n, clL_e, clL_n]; done) | (simp (disch := omega) only [shI, shR, shL, shC, shD, shW, sh_V, shN_e, shN_n, crI, crL, crC, crW, crV, crR_e, crR_n, crN_e, crN_n, ciR, ciL, ciD, ciN_e, ciN_n, rdI_e, rdI_n, rdC_i, rdC_o, rdW, rdU_e, rdU_n, rdLW, clI, clR, clC, clD, clW, clV, clN_e, clN_n, clL_e, clL_n] <;> first | assumption | rfl | omega)) ?_
        refine g_getI (kI := 8) rfl dX1_likely_14 fX1_101_3 (by first | assumption | first | assumption | (simp (disch := omega) only [shI, shR, shL, shC, shD, shW, sh_V, shN_e, shN_n, crI, crL, crC, crW, crV, crR_e, crR_n, crN_e, crN_n, ciR, ciL, ciD, ciN_e, ciN_n, rdI_e, rdI_n, rdC_i, rdC_o, rdW, rdU_e, rdU_n, rdLW, clI, clR, clC, clD, clW, clV, clN_e, clN_n, clL_e, clL_n]; done) | (simp (disch := omega) only [shI, shR, shL, shC, shD, shW, sh_V, shN_e, shN_n, crI, crL, crC, crW, crV, crR_e, crR_n, crN_e, crN_n, ciR, ciL, ciD, ciN_e, ciN_n, rdI_e, rdI_n, rdC_i, rdC_o, rdW, rdU_e, rdU_n, rdLW, clI, clR, clC, clD, clW, clV, clN_e, clN_n, clL_e, clL_n] <;> first | assumption | rfl | omega)) ?_
        try simp (disch := omega) only [rdI_e, rdI_n, rdC_i, rdC_o, rdW, rdR, rdU_e, rdU_n, rdLW, Int.add_zero, b1]
        refine x_icmp_ge (tgt := 57) dX1_likely_17 (by decide) (fun h17 => ?_) (fun h17 => ?_)
        · refine x_iload_n dX1_likely_57 rfl rfl ?_
          refine x_ireturn rfl dX1_likely_58 ?_
          refine hQ _ _ (Or.inl ⟨_, rfl, hok, ?_, hCO⟩)
          rw [hy, show p = v 0 by omega]
          exact lkR_e (by omega)
        · omega
  refine x_aload_n dX1_likely_0 rfl rfl ?_
  refine g_callIX (vs := [_]) (d' := d - 1) rfl (s_X1_hears (by omega) hC h1N) dX1_likely_1 kX1_396 (by omega) (by decide) rfl (Nat.le_of_ble_eq_true rfl) (rcv_o (by first | assumption | first | assumption | (simp (disch := omega) only [shI, shR, shL, shC, shD, shW, sh_V, shN_e, shN_n, crI, crL, crC, crW, crV, crR_e, crR_n, crN_e, crN_n, ciR, ciL, ciD, ciN_e, ciN_n, rdI_e, rdI_n, rdC_i, rdC_o, rdW, rdU_e, rdU_n, rdLW, clI, clR, clC, clD, clW, clV, clN_e, clN_n, clL_e, clL_n]; done) | (simp (disch := omega) only [shI, shR, shL, shC, shD, shW, sh_V, shN_e, shN_n, crI, crL, crC, crW, crV, crR_e, crR_n, crN_e, crN_n, ciR, ciL, ciD, ciN_e, ciN_n, rdI_e, rdI_n, rdC_i, rdC_o, rdW, rdU_e, rdU_n, rdLW, clI, clR, clC, clD, clW, clV, clN_e, clN_n, clL_e, clL_n] <;> first | assumption | rfl | omega)) rfl) (fun x1 M1 h1 => ?_) (fun a1 E1 M1 h1 => ?_)
  · obtain ⟨q1, e1, f1, w1⟩ := h1
    subst e1
    refine x_istore_n (L' := [some _, some _, none, none]) dX1_likely_4 rfl (by decide) rfl ?_
    refine x_iconst dX1_likely_5 rfl ?_
    refine x_istore_n (L' := [some _, some _, some _, none]) dX1_likely_6 rfl (by decide) rfl ?_
    refine x_iconst dX1_likely_7 rfl ?_
    refine x_istore_n (L' := [some _, some _, some _, some _]) dX1_likely_8 rfl (by decide) rfl ?_
    exact lp _ 0 (-1) _ rfl (by omega) q1 f1 w1 rfl
  · obtain ⟨hM1, q1, eE1⟩ := h1
    subst eE1
    exact th_nil rfl (hQ _ _ (Or.inr ⟨_, _, rfl, hM1, q1, rfl⟩))
theorem s_X1_partBy (hd : 14 ≤ d) (hC : CI M v n A hi vi tp sz fa N) (h1N : ∀ p, 0 ≤ p → p < v 0 → 1 ≤ opN v p) (hs : 0 ≤ s ∧ s < 256) (hwh : 0 ≤ w ∧ w ≤ 6) : CS G d mX1_partBy [dR 0, dI s, dI w] M (pur M (partV v s w)) := by
  obtain ⟨hC1, hC54, hCA, hCR⟩ := id hC; obtain ⟨hS, hTab, hTx, hLn, hSk, hnx⟩ := id hC1; obtain ⟨hA, hL, hR⟩ := id hC54; obtain ⟨⟨s0, s199, s200, s201, s202, s203⟩, ⟨c0, c1, c2, c3, c4, c5, c6, c7, c8, c9, c10, c11, c12⟩, c203, hSt, m189, m191, g193, g196, ⟨⟨r2, r3, r4, r5, r6, r7, r53⟩, ⟨w0, w1, w2, w3, w4, w5, w6⟩, wx1, wx2, wx3⟩⟩ := id hS; have hv := hA.1; have hv8 := hv.n8; have hv0 := hv.1.1; have hv3 := hv.2.2.2.1; have hs54 := hSt 54 (by unfold SB; omega); obtain ⟨p0, p1, ⟨d0, d1, d2, d3, d4, d5, d6, d7⟩, ⟨t1, t2, t3, t4, t5, t6⟩, p5, p6, p7⟩ := id hs54; have t7 : msh M (54 + 7) = some (4, 0) := p5.2.1; have t10 : msh M (54 + 10) = some (4, 0) := p6.2.1; obtain ⟨hB, hW, hLw⟩ := id hR.1; obtain ⟨b1, b2, b3, b4, b5, b6, b7, b8, b9, b10, b11, b12, b13, b14, b15⟩ := id hB; obtain ⟨hn, hn2, hat, hAc⟩ := id hCA; obtain ⟨⟨hki, hhi⟩, hIm, ⟨htp, hsz, hsz2⟩, hfa⟩ := id hCR
  have told := fun (a : Int) (h : 0 ≤ a ∧ a < v 0) => toldV_r (hv.op a h.1 h.2) (h1N a h.1 h.2) hwh
  refine CS.mkQ (by decide) (Nat.le_of_ble_eq_true rfl) fun Q hQ => ?_
  have lp : ∀ (t : Nat) (a y : Int), (v 0 - a).toNat = t → (0 ≤ a ∧ a ≤ v 0) → (y = pbM v s w a.toNat) → WP G d mX1_partBy 5 [some (dR 0), some (dI s), some (dI w), some (dI y), some (dI a), none, none] [] (M) Q := by
    intro t
    induction t using Nat.strongRecOn with
    | _ t ih =>
      intro a y ht a0 hy
      by_cases ha : a < v 0
      · skip
        have lp2 : ∀ (t2 : Nat) (b z : Int), (v 0 - b).toNat = t2 → (0 ≤ b ∧ b ≤ v 0) → (z = pbC v s w a b.toNat) → WP G d mX1_partBy 23 [some (dR 0), some (dI s), some (dI w), some (dI y), some (dI a), some (dI z), some (dI b)] [] (M) Q := by
          intro t2
          induction t2 using Nat.strongRecOn with
          | _ t2 ih2 =>
            intro b z ht2 b0 hz
            have hbt : 0 ≤ bitI s a * bitI s b := by rcases bitI_r s a with z | z <;> rcases bitI_r s b with z2 | z2 <;> rw [z, z2] <;> decide
            have es : pbC v s w a (b + 1).toNat = z + (if bitI s a * bitI s b = 1 ∧ toldV v a w = toldV v b w then 1 else 0) := by
              rw [hz, show (b + 1).toNat = b.toNat + 1 by omega]
              unfold pbC
              show (if bitI s a = 1 then partC v s w (toldV v a w) b.toNat + (if bitI s ((b.toNat : Nat) : Int) = 1 ∧ toldV v ((b.toNat : Nat) : Int) w = toldV v a w then 1 else 0) else 0) = _
              rw [show ((b.toNat : Nat) : Int) = b by omega]
              rcases bitI_r s a with z1 | z1
              · rw [z1, if_neg (by decide), if_neg (by decide), if_neg (fun q => by omega)]
                rfl
              · rw [z1, if_pos rfl, if_pos rfl, Int.one_mul]
                congr 1
                by_cases q : bitI s b = 1 ∧ toldV v b w = toldV v a w
                · rw [if_pos q, if_pos ⟨q.1, q.2.symm⟩]
                · rw [if_neg q, if_neg fun z => q ⟨z.1, z.2.symm⟩]
            have hzr : 0 ≤ z ∧ z ≤ b := by
              rw [hz]
              unfold pbC
              have := partC_r v s w (toldV v a w) b.toNat
              split <;> omega
            by_cases hb : b < v 0
            · refine x_iload dX1_partBy_23 rfl ?_
              refine x_aload_n dX1_partBy_25 rfl rfl ?_
              refine g_getR (kI := 1) rfl dX1_partBy_26 fX1_22_1 (by first | assumption | first | assumption | (simp (disch := omega) only [shI, shR, shL, shC, shD, shW, sh_V, shN_e, shN_n, crI, crL, crC, crW, crV, crR_e, crR_n, crN_e, crN_n, ciR, ciL, ciD, ciN_e, ciN_n, rdI_e, rdI_n, rdC_i, rdC_o, rdW, rdU_e, rdU_n, rdLW, clI, clR, clC, clD, clW, clV, clN_e, clN_n, clL_e, clL_n]; done) | (simp (disch := omega) only [shI, shR, shL, shC, shD, shW, sh_V, shN_e, shN_n, crI, crL, crC, crW, crV, crR_e, crR_n, crN_e, crN_n, ciR, ciL, ciD, ciN_e, ciN_n, rdI_e, rdI_n, rdC_i, rdC_o, rdW, rdU_e, rdU_n, rdLW, clI, clR, clC, clD, clW, clV, clN_e, clN_n, clL_e, clL_n] <;> first | assumption | rfl | omega)) (by first | assumption | first | assumption | (simp (disch := omega) only [shI, shR, shL, shC, shD, shW, sh_V, shN_e, shN_n, crI, crL, crC, crW, crV, crR_e, crR_n, crN_e, crN_n, ciR, ciL, ciD, ciN_e, ciN_n, rdI_e, rdI_n, rdC_i, rdC_o, rdW, rdU_e, rdU_n, rdLW, clI, clR, clC, clD, clW, clV, clN_e, clN_n, clL_e, clL_n]; done) | (simp (disch := omega) only [shI, shR, shL, shC, shD, shW, sh_V, shN_e, shN_n, crI, crL, crC, crW, crV, crR_e, crR_n, crN_e, crN_n, ciR, ciL, ciD, ciN_e, ciN_n, rdI_e, rdI_n, rdC_i, rdC_o, rdW, rdU_e, rdU_n, rdLW, clI, clR, clC, clD, clW, clV, clN_e, clN_n, clL_e, clL_n] <;> first | assumption | rfl | omega)) ?_
              refine g_getI (kI := 8) rfl dX1_partBy_29 fX1_101_3 (by first | assumption | first | assumption | (simp (disch := omega) only [shI, shR, shL, shC, shD, shW, sh_V, shN_e, shN_n, crI, crL, crC, crW, crV, crR_e, crR_n, crN_e, crN_n, ciR, ciL, ciD, ciN_e, ciN_n, rdI_e, rdI_n, rdC_i, rdC_o, rdW, rdU_e, rdU_n, rdLW, clI, clR, clC, clD, clW, clV, clN_e, clN_n, clL_e, clL_n]; done) | (simp (disch := omega) only [shI, shR, shL, shC, shD, shW, sh_V, shN_e, shN_n, crI, crL, crC, crW, crV, crR_e, crR_n, crN_e, crN_n, ciR, ciL, ciD, ciN_e, ciN_n, rdI_e, rdI_n, rdC_i, rdC_o, rdW, rdU_e, rdU_n, rdLW, clI, clR, clC, clD, clW, clV, clN_e, clN_n, clL_e, clL_n] <;> first | assumption | rfl | omega)) ?_
              try simp (disch := omega) only [rdI_e, rdI_n, rdC_i, rdC_o, rdW, rdR, rdU_e, rdU_n, rdLW, Int.add_zero, b1]
              refine x_icmp_ge (tgt := 83) dX1_partBy_32 (by decide) (fun h32 => ?_) (fun h32 => ?_)
              · omega
              · refine x_iload dX1_partBy_35 rfl ?_
                refine x_iload_n dX1_partBy_37 rfl rfl ?_
                refine x_iload dX1_partBy_38 rfl ?_
                refine x_ishr dX1_partBy_40 ?_
                refine x_iload_n dX1_partBy_41 rfl rfl ?_
                refine x_iload dX1_partBy_42 rfl ?_
                refine x_ishr dX1_partBy_44 ?_
                refine x_iand dX1_partBy_45 ?_
                refine x_iconst dX1_partBy_46 rfl ?_
                refine x_iand dX1_partBy_47 ?_
                rw [two_bits (by omega) (by omega) (by omega)]
                refine x_iconst dX1_partBy_48 rfl ?_
                refine x_icmp_ne (tgt := 73) dX1_partBy_49 (by decide) (fun h49 => ?_) (fun h49 => ?_)
                · refine x_iconst dX1_partBy_73 rfl ?_
                  first | refine x_iaddN dX1_partBy_74 (by unfold i32; omega) ?_ | refine x_iadd dX1_partBy_74 ?_
                  refine x_istore (L' := [some _, some _, some _, some _, some _, some _, some _]) dX1_partBy_75 (by decide) rfl ?_
                  first | refine x_iincN (L' := [some _, some _, some _, some _, some _, some _, some _]) dX1_partBy_77 rfl (by decide) (by unfold i32; omega) rfl ?_ | refine x_iinc (L' := [some _, some _, some _, some _, some _, some _, some _]) dX1_partBy_77 rfl (by decide) rfl ?_
                  refine x_goto (tgt := 23) dX1_partBy_80 (by decide) ?_
                  refine ih2 _ (by omega) (b + 1) _ rfl (by omega) ?_
                  rw [es]
                  first
                  | exact congrArg (fun q => z + q) (if_pos (And.intro h49 h66)).symm
                  | exact congrArg (fun q => z + q) (if_neg (fun q : _ ∧ _ => absurd q.2 h66)).symm
                  | exact congrArg (fun q => z + q) (if_neg (fun q : _ ∧ _ => absurd q.1 h49)).symm
                · refine x_aload_n dX1_partBy_52 rfl rfl ?_
                  refine x_iload dX1_partBy_53 rfl ?_
                  refine x_iload_n dX1_partBy_55 rfl rfl ?_
                  refine g_callI (vs := [_, _, _]) (d' := d - 1) rfl (s_X1_told (by omega) hC (by omega) hwh (h1N a (by omega) (by omega))) dX1_partBy_56 kX1_393 (by omega) (by decide) rfl (Nat.le_of_ble_eq_true rfl) (rcv_o (by first | assumption | first | assumption | (simp (disch := omega) only [shI, shR, shL, shC, shD, shW, sh_V, shN_e, shN_n, crI, crL, crC, crW, crV, crR_e, crR_n, crN_e, crN_n, ciR, ciL, ciD, ciN_e, ciN_n, rdI_e, rdI_n, rdC_i, rdC_o, rdW, rdU_e, rdU_n, rdLW, clI, clR, clC, clD, clW, clV, clN_e, clN_n, clL_e, clL_n]; done) | (simp (disch := omega) only [shI, shR, shL, shC, shD, shW, sh_V, shN_e, shN_n, crI, crL, crC, crW, crV, crR_e, crR_n, crN_e, crN_n, ciR, ciL, ciD, ciN_e, ciN_n, rdI_e, rdI_n, rdC_i, rdC_o, rdW, rdU_e, rdU_n, rdLW, clI, clR, clC, clD, clW, clV, clN_e, clN_n, clL_e, clL_n] <;> first | assumption | rfl | omega)) rfl) (fun x56 M56 h56 => ?_)
                  obtain ⟨e56, f56⟩ := h56
                  have f56' := f56.symm
                  subst f56'
                  subst e56
                  try simp (disch := omega) only [rdI_e, rdI_n, rdC_i, rdC_o, rdW, rdR, rdU_e, rdU_n, rdLW, Int.add_zero, b1]
                  refine x_aload_n dX1_partBy_59 rfl rfl ?_
                  refine x_iload dX1_partBy_60 rfl ?_
                  refine x_iload_n dX1_partBy_62 rfl rfl ?_
                  refine g_callI (vs := [_, _, _]) (d' := d - 1) rfl (s_X1_told (by omega) hC (by omega) hwh (h1N b (by omega) (by omega))) dX1_partBy_63 kX1_393 (by omega) (by decide) rfl (Nat.le_of_ble_eq_true rfl) (rcv_o (by first | assumption | first | assumption | (simp (disch := omega) only [shI, shR, shL, shC, shD, shW, sh_V, shN_e, shN_n, crI, crL, crC, crW, crV, crR_e, crR_n, crN_e, crN_n, ciR, ciL, ciD, ciN_e, ciN_n, rdI_e, rdI_n, rdC_i, rdC_o, rdW, rdU_e, rdU_n, rdLW, clI, clR, clC, clD, clW, clV, clN_e, clN_n, clL_e, clL_n]; done) | (simp (disch := omega) only [shI, shR, shL, shC, shD, shW, sh_V, shN_e, shN_n, crI, crL, crC, crW, crV, crR_e, crR_n, crN_e, crN_n, ciR, ciL, ciD, ciN_e, ciN_n, rdI_e, rdI_n, rdC_i, rdC_o, rdW, rdU_e, rdU_n, rdLW, clI, clR, clC, clD, clW, clV, clN_e, clN_n, clL_e, clL_n] <;> first | assumption | rfl | omega)) rfl) (fun x63 M63 h63 => ?_)
                  obtain ⟨e63, f63⟩ := h63
                  have f63' := f63.symm
                  subst f63'
                  subst e63
                  try simp (disch := omega) only [rdI_e, rdI_n, rdC_i, rdC_o, rdW, rdR, rdU_e, rdU_n, rdLW, Int.add_zero, b1]
                  refine x_icmp_ne (tgt := 73) dX1_partBy_66 (by decide) (fun h66 => ?_) (fun h66 => ?_)
                  · refine x_iconst dX1_partBy_73 rfl ?_
                    first | refine x_iaddN dX1_partBy_74 (by unfold i32; omega) ?_ | refine x_iadd dX1_partBy_74 ?_
                    refine x_istore (L' := [some _, some _, some _, some _, some _, some _, some _]) dX1_partBy_75 (by decide) rfl ?_
                    first | refine x_iincN (L' := [some _, some _, some _, some _, some _, some _, some _]) dX1_partBy_77 rfl (by decide) (by unfold i32; omega) rfl ?_ | refine x_iinc (L' := [some _, some _, some _, some _, some _, some _, some _]) dX1_partBy_77 rfl (by decide) rfl ?_
                    refine x_goto (tgt := 23) dX1_partBy_80 (by decide) ?_
                    refine ih2 _ (by omega) (b + 1) _ rfl (by omega) ?_
                    rw [es]
                    first
                    | exact congrArg (fun q => z + q) (if_pos (And.intro h49 h66)).symm
                    | exact congrArg (fun q => z + q) (if_neg (fun q : _ ∧ _ => absurd q.2 h66)).symm
                    | exact congrArg (fun q => z + q) (if_neg (fun q : _ ∧ _ => absurd q.1 h49)).symm
                  · refine x_iconst dX1_partBy_69 rfl ?_
                    refine x_goto (tgt := 74) dX1_partBy_70 (by decide) ?_
                    first | refine x_iaddN dX1_partBy_74 (by unfold i32; omega) ?_ | refine x_iadd dX1_partBy_74 ?_
                    refine x_istore (L' := [some _, some _, some _, some _, some _, some _, some _]) dX1_partBy_75 (by decide) rfl ?_
                    first | refine x_iincN (L' := [some _, some _, some _, some _, some _, some _, some _]) dX1_partBy_77 rfl (by decide) (by unfold i32; omega) rfl ?_ | refine x_iinc (L' := [some _, some _, some _, some _, some _, some _, some _]) dX1_partBy_77 rfl (by decide) rfl ?_
                    refine x_goto (tgt := 23) dX1_partBy_80 (by decide) ?_
                    refine ih2 _ (by omega) (b + 1) _ rfl (by omega) ?_
                    rw [es]
                    first
                    | exact congrArg (fun q => z + q) (if_pos (And.intro h49 h66)).symm
                    | exact congrArg (fun q => z + q) (if_neg (fun q : _ ∧ _ => absurd q.2 h66)).symm
                    | exact congrArg (fun q => z + q) (if_neg (fun q : _ ∧ _ => absurd q.1 h49)).symm
            · have eb : b = v 0 := by omega
              refine x_iload dX1_partBy_23 rfl ?_
              refine x_aload_n dX1_partBy_25 rfl rfl ?_
              refine g_getR (kI := 1) rfl dX1_partBy_26 fX1_22_1 (by first | assumption | first | assumption | (simp (disch := omega) only [shI, shR, shL, shC, shD, shW, sh_V, shN_e, shN_n, crI, crL, crC, crW, crV, crR_e, crR_n, crN_e, crN_n, ciR, ciL, ciD, ciN_e, ciN_n, rdI_e, rdI_n, rdC_i, rdC_o, rdW, rdU_e, rdU_n, rdLW, clI, clR, clC, clD, clW, clV, clN_e, clN_n, clL_e, clL_n]; done) | (simp (disch := omega) only [shI, shR, shL, shC, shD, shW, sh_V, shN_e, shN_n, crI, crL, crC, crW, crV, crR_e, crR_n, crN_e, crN_n, ciR, ciL, ciD, ciN_e, ciN_n, rdI_e, rdI_n, rdC_i, rdC_o, rdW, rdU_e, rdU_n, rdLW, clI, clR, clC, clD, clW, clV, clN_e, clN_n, clL_e, clL_n] <;> first | assumption | rfl | omega)) (by first | assumption | first | assumption | (simp (disch := omega) only [shI, shR, shL, shC, shD, shW, sh_V, shN_e, shN_n, crI, crL, crC, crW, crV, crR_e, crR_n, crN_e, crN_n, ciR, ciL, ciD, ciN_e, ciN_n, rdI_e, rdI_n, rdC_i, rdC_o, rdW, rdU_e, rdU_n, rdLW, clI, clR, clC, clD, clW, clV, clN_e, clN_n, clL_e, clL_n]; done) | (simp (disch := omega) only [shI, shR, shL, shC, shD, shW, sh_V, shN_e, shN_n, crI, crL, crC, crW, crV, crR_e, crR_n, crN_e, crN_n, ciR, ciL, ciD, ciN_e, ciN_n, rdI_e, rdI_n, rdC_i, rdC_o, rdW, rdU_e, rdU_n, rdLW, clI, clR, clC, clD, clW, clV, clN_e, clN_n, clL_e, clL_n] <;> first | assumption | rfl | omega)) ?_
              refine g_getI (kI := 8) rfl dX1_partBy_29 fX1_101_3 (by first | assumption | first | assumption | (simp (disch := omega) only [shI, shR, shL, shC, shD, shW, sh_V, shN_e, shN_n, crI, crL, crC, crW, crV, crR_e, crR_n, crN_e, crN_n, ciR, ciL, ciD, ciN_e, ciN_n, rdI_e, rdI_n, rdC_i, rdC_o, rdW, rdU_e, rdU_n, rdLW, clI, clR, clC, clD, clW, clV, clN_e, clN_n, clL_e, clL_n]; done) | (simp (disch := omega) only [shI, shR, shL, shC, shD, shW, sh_V, shN_e, shN_n, crI, crL, crC, crW, crV, crR_e, crR_n, crN_e, crN_n, ciR, ciL, ciD, ciN_e, ciN_n, rdI_e, rdI_n, rdC_i, rdC_o, rdW, rdU_e, rdU_n, rdLW, clI, clR, clC, clD, clW, clV, clN_e, clN_n, clL_e, clL_n] <;> first | assumption | rfl | omega)) ?_
              try simp (disch := omega) only [rdI_e, rdI_n, rdC_i, rdC_o, rdW, rdR, rdU_e, rdU_n, rdLW, Int.add_zero, b1]
              refine x_icmp_ge (tgt := 83) dX1_partBy_32 (by decide) (fun h32 => ?_) (fun h32 => ?_)
              · refine x_iload_n dX1_partBy_83 rfl rfl ?_
                refine x_iload dX1_partBy_84 rfl ?_
                refine g_callI (vs := [_, _]) (d' := d - 1) rfl (s_max (by omega)) dX1_partBy_86 kX1_335 (by omega) (by decide) rfl (Nat.le_of_ble_eq_true rfl) (rcv_n) (fun x86 M86 h86 => ?_)
                obtain ⟨e86, f86⟩ := h86
                have f86' := f86.symm
                subst f86'
                refine x_istore_n (L' := [some _, some _, some _, some _, some _, some _, some _]) dX1_partBy_89 rfl (by decide) rfl ?_
                first | refine x_iincN (L' := [some _, some _, some _, some _, some _, some _, some _]) dX1_partBy_90 rfl (by decide) (by unfold i32; omega) rfl ?_ | refine x_iinc (L' := [some _, some _, some _, some _, some _, some _, some _]) dX1_partBy_90 rfl (by decide) rfl ?_
                refine x_goto (tgt := 5) dX1_partBy_93 (by decide) ?_
                refine x_fgt (L' := [some (dR 0), some (dI s), some (dI w), some (dI x86), some (dI (a + 1)), none, none]) (by repeat (first | exact trivial | refine ⟨rfl, ?_⟩)) (ih _ (by omega) (a + 1) x86 rfl (by omega) ?_)
                rw [show (a + 1).toNat = a.toNat + 1 by omega]
                show _ = if pbM v s w a.toNat ≤ pbC v s w ((a.toNat : Nat) : Int) (v 0).toNat then pbC v s w ((a.toNat : Nat) : Int) (v 0).toNat else pbM v s w a.toNat
                rw [show ((a.toNat : Nat) : Int) = a by omega, ← hy, ← eb, ← hz]
                split <;> omega
              · omega
        refine x_iload dX1_partBy_5 rfl ?_
        refine x_aload_n dX1_partBy_7 rfl rfl ?_
        refine g_getR (kI := 1) rfl dX1_partBy_8 fX1_22_1 (by first | assumption | first | assumption | (simp (disch := omega) only [shI, shR, shL, shC, shD, shW, sh_V, shN_e, shN_n, crI, crL, crC, crW, crV, crR_e, crR_n, crN_e, crN_n, ciR, ciL, ciD, ciN_e, ciN_n, rdI_e, rdI_n, rdC_i, rdC_o, rdW, rdU_e, rdU_n, rdLW, clI, clR, clC, clD, clW, clV, clN_e, clN_n, clL_e, clL_n]; done) | (simp (disch := omega) only [shI, shR, shL, shC, shD, shW, sh_V, shN_e, shN_n, crI, crL, crC, crW, crV, crR_e, crR_n, crN_e, crN_n, ciR, ciL, ciD, ciN_e, ciN_n, rdI_e, rdI_n, rdC_i, rdC_o, rdW, rdU_e, rdU_n, rdLW, clI, clR, clC, clD, clW, clV, clN_e, clN_n, clL_e, clL_n] <;> first | assumption | rfl | omega)) (by first | assumption | first | assumption | (simp (disch := omega) only [shI, shR, shL, shC, shD, shW, sh_V, shN_e, shN_n, crI, crL, crC, crW, crV, crR_e, crR_n, crN_e, crN_n, ciR, ciL, ciD, ciN_e, ciN_n, rdI_e, rdI_n, rdC_i, rdC_o, rdW, rdU_e, rdU_n, rdLW, clI, clR, clC, clD, clW, clV, clN_e, clN_n, clL_e, clL_n]; done) | (simp (disch := omega) only [shI, shR, shL, shC, shD, shW, sh_V, shN_e, shN_n, crI, crL, crC, crW, crV, crR_e, crR_n, crN_e, crN_n, ciR, ciL, ciD, ciN_e, ciN_n, rdI_e, rdI_n, rdC_i, rdC_o, rdW, rdU_e, rdU_n, rdLW, clI, clR, clC, clD, clW, clV, clN_e, clN_n, clL_e, clL_n] <;> first | assumption | rfl | omega)) ?_
        refine g_getI (kI := 8) rfl dX1_partBy_11 fX1_101_3 (by first | assumption | first | assumption | (simp (disch := omega) only [shI, shR, shL, shC, shD, shW, sh_V, shN_e, shN_n, crI, crL, crC, crW, crV, crR_e, crR_n, crN_e, crN_n, ciR, ciL, ciD, ciN_e, ciN_n, rdI_e, rdI_n, rdC_i, rdC_o, rdW, rdU_e, rdU_n, rdLW, clI, clR, clC, clD, clW, clV, clN_e, clN_n, clL_e, clL_n]; done) | (simp (disch := omega) only [shI, shR, shL, shC, shD, shW, sh_V, shN_e, shN_n, crI, crL, crC, crW, crV, crR_e, crR_n, crN_e, crN_n, ciR, ciL, ciD, ciN_e, ciN_n, rdI_e, rdI_n, rdC_i, rdC_o, rdW, rdU_e, rdU_n, rdLW, clI, clR, clC, clD, clW, clV, clN_e, clN_n, clL_e, clL_n] <;> first | assumption | rfl | omega)) ?_
        try simp (disch := omega) only [rdI_e, rdI_n, rdC_i, rdC_o, rdW, rdR, rdU_e, rdU_n, rdLW, Int.add_zero, b1]
        refine x_icmp_ge (tgt := 96) dX1_partBy_14 (by decide) (fun h14 => ?_) (fun h14 => ?_)
        · omega
        · refine x_iconst dX1_partBy_17 rfl ?_
          refine x_istore (L' := [some _, some _, some _, some _, some _, some _, none]) dX1_partBy_18 (by decide) rfl ?_
          refine x_iconst dX1_partBy_20 rfl ?_
          refine x_istore (L' := [some _, some _, some _, some _, some _, some _, some _]) dX1_partBy_21 (by decide) rfl ?_
          refine lp2 _ 0 0 rfl (by omega) ?_
          unfold pbC
          split <;> rfl
      · refine x_iload dX1_partBy_5 rfl ?_
        refine x_aload_n dX1_partBy_7 rfl rfl ?_
        refine g_getR (kI := 1) rfl dX1_partBy_8 fX1_22_1 (by first | assumption | first | assumption | (simp (disch := omega) only [shI, shR, shL, shC, shD, shW, sh_V, shN_e, shN_n, crI, crL, crC, crW, crV, crR_e, crR_n, crN_e, crN_n, ciR, ciL, ciD, ciN_e, ciN_n, rdI_e, rdI_n, rdC_i, rdC_o, rdW, rdU_e, rdU_n, rdLW, clI, clR, clC, clD, clW, clV, clN_e, clN_n, clL_e, clL_n]; done) | (simp (disch := omega) only [shI, shR, shL, shC, shD, shW, sh_V, shN_e, shN_n, crI, crL, crC, crW, crV, crR_e, crR_n, crN_e, crN_n, ciR, ciL, ciD, ciN_e, ciN_n, rdI_e, rdI_n, rdC_i, rdC_o, rdW, rdU_e, rdU_n, rdLW, clI, clR, clC, clD, clW, clV, clN_e, clN_n, clL_e, clL_n] <;> first | assumption | rfl | omega)) (by first | assumption | first | assumption | (simp (disch := omega) only [shI, shR, shL, shC, shD, shW, sh_V, shN_e, shN_n, crI, crL, crC, crW, crV, crR_e, crR_n, crN_e, crN_n, ciR, ciL, ciD, ciN_e, ciN_n, rdI_e, rdI_n, rdC_i, rdC_o, rdW, rdU_e, rdU_n, rdLW, clI, clR, clC, clD, clW, clV, clN_e, clN_n, clL_e, clL_n]; done) | (simp (disch := omega) only [shI, shR, shL, shC, shD, shW, sh_V, shN_e, shN_n, crI, crL, crC, crW, crV, crR_e, crR_n, crN_e, crN_n, ciR, ciL, ciD, ciN_e, ciN_n, rdI_e, rdI_n, rdC_i, rdC_o, rdW, rdU_e, rdU_n, rdLW, clI, clR, clC, clD, clW, clV, clN_e, clN_n, clL_e, clL_n] <;> first | assumption | rfl | omega)) ?_
        refine g_getI (kI := 8) rfl dX1_partBy_11 fX1_101_3 (by first | assumption | first | assumption | (simp (disch := omega) only [shI, shR, shL, shC, shD, shW, sh_V, shN_e, shN_n, crI, crL, crC, crW, crV, crR_e, crR_n, crN_e, crN_n, ciR, ciL, ciD, ciN_e, ciN_n, rdI_e, rdI_n, rdC_i, rdC_o, rdW, rdU_e, rdU_n, rdLW, clI, clR, clC, clD, clW, clV, clN_e, clN_n, clL_e, clL_n]; done) | (simp (disch := omega) only [shI, shR, shL, shC, shD, shW, sh_V, shN_e, shN_n, crI, crL, crC, crW, crV, crR_e, crR_n, crN_e, crN_n, ciR, ciL, ciD, ciN_e, ciN_n, rdI_e, rdI_n, rdC_i, rdC_o, rdW, rdU_e, rdU_n, rdLW, clI, clR, clC, clD, clW, clV, clN_e, clN_n, clL_e, clL_n] <;> first | assumption | rfl | omega)) ?_
        try simp (disch := omega) only [rdI_e, rdI_n, rdC_i, rdC_o, rdW, rdR, rdU_e, rdU_n, rdLW, Int.add_zero, b1]
        refine x_icmp_ge (tgt := 96) dX1_partBy_14 (by decide) (fun h14 => ?_) (fun h14 => ?_)
        · refine x_iload_n dX1_partBy_96 rfl rfl ?_
          refine x_ireturn rfl dX1_partBy_97 ?_
          refine hQ _ _ ⟨_, rfl, ?_, rfl⟩
          rw [hy, show a = v 0 by omega]
          exact pbM_e hv0 fun a x1 x2 => told a ⟨x1, x2⟩
        · omega
  refine x_iconst dX1_partBy_0 rfl ?_
  refine x_istore_n (L' := [some _, some _, some _, some _, none, none, none]) dX1_partBy_1 rfl (by decide) rfl ?_
  refine x_iconst dX1_partBy_2 rfl ?_
  refine x_istore (L' := [some _, some _, some _, some _, some _, none, none]) dX1_partBy_3 (by decide) rfl ?_
  exact x_fgt (by repeat (first | exact trivial | refine ⟨rfl, ?_⟩)) (lp _ 0 0 rfl (by omega) rfl)
theorem s_X1_ask (hd : 18 ≤ d) (hC : CI M v n A hi vi tp sz fa N) (h1N : ∀ p, 0 ≤ p → p < v 0 → 1 ≤ opN v p) : CS G d mX1_ask [dR 0] M (orT (postI fun y M1 => toldOk tp sz ∧ y = askAns v tp sz ∧ CO M v n A hi vi tp 0 fa N 0 0 M1) (fun a E M1 => CO M v n A hi vi tp 0 fa N 1 6 M1 ∧ ¬ toldOk tp sz ∧ E = "java/lang/IllegalArgumentException")) := by
  have s0 : msh M 0 = some (1, 0) := hC.1.1.1.1
  have hv8 := hC.2.1.1.1.n8
  have hv0 := hC.2.1.1.1.1.1
  have r1 := fit1_r (v := v) (tp := tp) (sz := sz) (w := 1) (by omega)
  refine CS.mkQ (by decide) (Nat.le_of_ble_eq_true rfl) fun Q hQ => ?_
  have lp : ∀ (t : Nat) (w y z : Int) (M' : Mem), (7 - w).toNat = t → (0 ≤ w ∧ w ≤ 7) → (toldOk tp sz) → (CO M v n A hi vi tp 0 fa N 0 0 M') → (y = (askB v (fitV v tp sz 1) w.toNat).1) → (z = (askB v (fitV v tp sz 1) w.toNat).2 ∨ (w = 0 ∧ z = 1000000)) → (w = 0 ∨ 1 < bc0 (fitV v tp sz 1)) → WP G d mX1_ask 14 [some (dR 0), some (dI (fitV v tp sz 1)), some (dI y), some (dI z), some (dI w), none] [] (M') Q := by
    intro t
    induction t using Nat.strongRecOn with
    | _ t ih =>
      intro w y z M' ht h0 hok hCO hy hz h1
      have hC1 := hCO.1
      have s0 : msh M' 0 = some (1, 0) := hC1.1.1.1.1
      by_cases hgo : w ≤ 6 ∧ 1 < bc0 (fitV v tp sz 1)
      · have es : askB v (fitV v tp sz 1) (w + 1).toNat = if partV v (fitV v tp sz 1) w < (askB v (fitV v tp sz 1) w.toNat).2 then (w, partV v (fitV v tp sz 1) w) else askB v (fitV v tp sz 1) w.toNat := by
          rw [show (w + 1).toNat = w.toNat + 1 by omega, askB_s, show ((w.toNat : Nat) : Int) = w by omega]
        have hpr := partR_r v (fitV v tp sz 1) w (by omega) 11
        have hz' : (partV v (fitV v tp sz 1) w < (askB v (fitV v tp sz 1) w.toNat).2 ↔ partV v (fitV v tp sz 1) w < z) := by
          rcases hz with q | ⟨q1, q2⟩
          · rw [q]
          · have : (askB v (fitV v tp sz 1) w.toNat).2 = 1000000 := by rw [q1]; rfl
            rw [this, q2]
        refine x_iload dX1_ask_14 rfl ?_
        refine x_bipush dX1_ask_16 rfl ?_
        refine x_icmp_ge (tgt := 59) dX1_ask_18 (by decide) (fun h18 => ?_) (fun h18 => ?_)
        · omega
        · refine x_iload_n dX1_ask_21 rfl rfl ?_
          refine g_callI (vs := [_]) (d' := d - 1) rfl (s_bitCount (by omega) (by omega)) dX1_ask_22 kX1_388 (by omega) (by decide) rfl (Nat.le_of_ble_eq_true rfl) (rcv_n) (fun x22 M22 h22 => ?_)
          obtain ⟨e22, f22⟩ := h22
          have f22' := f22.symm
          subst f22'
          subst e22
          refine x_iconst dX1_ask_25 rfl ?_
          refine x_icmp_le (tgt := 59) dX1_ask_26 (by decide) (fun h26 => ?_) (fun h26 => ?_)
          · omega
          · refine x_aload_n dX1_ask_29 rfl rfl ?_
            refine x_iload_n dX1_ask_30 rfl rfl ?_
            refine x_iload dX1_ask_31 rfl ?_
            refine g_callI (vs := [_, _, _]) (d' := d - 1) rfl (s_X1_partBy (by omega) hC1 h1N r1 (by omega)) dX1_ask_33 kX1_400 (by omega) (by decide) rfl (Nat.le_of_ble_eq_true rfl) (rcv_o (by first | assumption | first | assumption | (simp (disch := omega) only [shI, shR, shL, shC, shD, shW, sh_V, shN_e, shN_n, crI, crL, crC, crW, crV, crR_e, crR_n, crN_e, crN_n, ciR, ciL, ciD, ciN_e, ciN_n, rdI_e, rdI_n, rdC_i, rdC_o, rdW, rdU_e, rdU_n, rdLW, clI, clR, clC, clD, clW, clV, clN_e, clN_n, clL_e, clL_n]; done) | (simp (disch := omega) only [shI, shR, shL, shC, shD, shW, sh_V, shN_e, shN_n, crI, crL, crC, crW, crV, crR_e, crR_n, crN_e, crN_n, ciR, ciL, ciD, ciN_e, ciN_n, rdI_e, rdI_n, rdC_i, rdC_o, rdW, rdU_e, rdU_n, rdLW, clI, clR, clC, clD, clW, clV, clN_e, clN_n, clL_e, clL_n] <;> first | assumption | rfl | omega)) rfl) (fun x33 M33 h33 => ?_)
            obtain ⟨e33, f33⟩ := h33
            have f33' := f33.symm
            subst f33'
            subst e33
            refine x_istore (L' := [some _, some _, some _, some _, some _, some _]) dX1_ask_36 (by decide) rfl ?_
            refine x_iload dX1_ask_38 rfl ?_
            refine x_iload_n dX1_ask_40 rfl rfl ?_
            refine x_icmp_lt (tgt := 47) dX1_ask_41 (by decide) (fun h41 => ?_) (fun h41 => ?_)
            · refine x_iload dX1_ask_47 rfl ?_
              refine x_istore_n (L' := [some _, some _, some _, some _, some _, some _]) dX1_ask_49 rfl (by decide) rfl ?_
              refine x_iload dX1_ask_50 rfl ?_
              refine x_istore_n (L' := [some _, some _, some _, some _, some _, some _]) dX1_ask_52 rfl (by decide) rfl ?_
              first | refine x_iincN (L' := [some _, some _, some _, some _, some _, some _]) dX1_ask_53 rfl (by decide) (by unfold i32; omega) rfl ?_ | refine x_iinc (L' := [some _, some _, some _, some _, some _, some _]) dX1_ask_53 rfl (by decide) rfl ?_
              refine x_goto (tgt := 14) dX1_ask_56 (by decide) ?_
              first
              | (rw [if_pos (hz'.mpr h41)] at es
                 exact x_fgt (L' := [some (dR 0), some (dI (fitV v tp sz 1)), some (dI w), some (dI (partV v (fitV v tp sz 1) w)), some (dI (w + 1)), none]) (by repeat (first | exact trivial | refine ⟨rfl, ?_⟩)) (ih _ (by omega) (w + 1) w _ M' rfl (by omega) hok hCO (by rw [es]) (Or.inl (by rw [es])) (Or.inr hgo.2)))
              | (rw [if_neg (fun q => h41 (hz'.mp q))] at es
                 refine x_fgt (L' := [some (dR 0), some (dI (fitV v tp sz 1)), some (dI y), some (dI z), some (dI (w + 1)), none]) (by repeat (first | exact trivial | refine ⟨rfl, ?_⟩)) (ih _ (by omega) (w + 1) y z M' rfl (by omega) hok hCO (by rw [es]; exact hy) (Or.inl ?_) (Or.inr hgo.2))
                 rw [es]
                 rcases hz with q | ⟨q1, q2⟩
                 · exact q
                 · exfalso
                   unfold partV at h41
                   omega)
            · refine x_goto (tgt := 53) dX1_ask_44 (by decide) ?_
              first | refine x_iincN (L' := [some _, some _, some _, some _, some _, some _]) dX1_ask_53 rfl (by decide) (by unfold i32; omega) rfl ?_ | refine x_iinc (L' := [some _, some _, some _, some _, some _, some _]) dX1_ask_53 rfl (by decide) rfl ?_
              refine x_goto (tgt := 14) dX1_ask_56 (by decide) ?_
              first
              | (rw [if_pos (hz'.mpr h41)] at es
                 exact x_fgt (L' := [some (dR 0), some (dI (fitV v tp sz 1)), some (dI w), some (dI (partV v (fitV v tp sz 1) w)), some (dI (w + 1)), none]) (by repeat (first | exact trivial | refine ⟨rfl, ?_⟩)) (ih _ (by omega) (w + 1) w _ M' rfl (by omega) hok hCO (by rw [es]) (Or.inl (by rw [es])) (Or.inr hgo.2)))
              | (rw [if_neg (fun q => h41 (hz'.mp q))] at es
                 refine x_fgt (L' := [some (dR 0), some (dI (fitV v tp sz 1)), some (dI y), some (dI z), some (dI (w + 1)), none]) (by repeat (first | exact trivial | refine ⟨rfl, ?_⟩)) (ih _ (by omega) (w + 1) y z M' rfl (by omega) hok hCO (by rw [es]; exact hy) (Or.inl ?_) (Or.inr hgo.2))
                 rw [es]
                 rcases hz with q | ⟨q1, q2⟩
                 · exact q
                 · exfalso
                   unfold partV at h41
                   omega)
      · refine x_iload dX1_ask_14 rfl ?_
        refine x_bipush dX1_ask_16 rfl ?_
        refine x_icmp_ge (tgt := 59) dX1_ask_18 (by decide) (fun h18 => ?_) (fun h18 => ?_)
        · refine x_iload_n dX1_ask_59 rfl rfl ?_
          refine x_ireturn rfl dX1_ask_60 ?_
          refine hQ _ _ (Or.inl ⟨_, rfl, hok, ?_, hCO⟩)
          unfold askAns
          by_cases q : bc0 (fitV v tp sz 1) ≤ 1
          · rw [if_pos q, hy, show w = 0 by omega]
            rfl
          · rw [if_neg q, hy, show w = 7 by omega]
            rfl
        · refine x_iload_n dX1_ask_21 rfl rfl ?_
          refine g_callI (vs := [_]) (d' := d - 1) rfl (s_bitCount (by omega) (by omega)) dX1_ask_22 kX1_388 (by omega) (by decide) rfl (Nat.le_of_ble_eq_true rfl) (rcv_n) (fun x22 M22 h22 => ?_)
          obtain ⟨e22, f22⟩ := h22
          have f22' := f22.symm
          subst f22'
          subst e22
          refine x_iconst dX1_ask_25 rfl ?_
          refine x_icmp_le (tgt := 59) dX1_ask_26 (by decide) (fun h26 => ?_) (fun h26 => ?_)
          · refine x_iload_n dX1_ask_59 rfl rfl ?_
            refine x_ireturn rfl dX1_ask_60 ?_
            refine hQ _ _ (Or.inl ⟨_, rfl, hok, ?_, hCO⟩)
            unfold askAns
            by_cases q : bc0 (fitV v tp sz 1) ≤ 1
            · rw [if_pos q, hy, show w = 0 by omega]
              rfl
            · rw [if_neg q, hy, show w = 7 by omega]
              rfl
          · omega
  refine x_aload_n dX1_ask_0 rfl rfl ?_
  refine g_callIX (vs := [_]) (d' := d - 1) rfl (s_X1_hears (by omega) hC h1N) dX1_ask_1 kX1_396 (by omega) (by decide) rfl (Nat.le_of_ble_eq_true rfl) (rcv_o (by first | assumption | first | assumption | (simp (disch := omega) only [shI, shR, shL, shC, shD, shW, sh_V, shN_e, shN_n, crI, crL, crC, crW, crV, crR_e, crR_n, crN_e, crN_n, ciR, ciL, ciD, ciN_e, ciN_n, rdI_e, rdI_n, rdC_i, rdC_o, rdW, rdU_e, rdU_n, rdLW, clI, clR, clC, clD, clW, clV, clN_e, clN_n, clL_e, clL_n]; done) | (simp (disch := omega) only [shI, shR, shL, shC, shD, shW, sh_V, shN_e, shN_n, crI, crL, crC, crW, crV, crR_e, crR_n, crN_e, crN_n, ciR, ciL, ciD, ciN_e, ciN_n, rdI_e, rdI_n, rdC_i, rdC_o, rdW, rdU_e, rdU_n, rdLW, clI, clR, clC, clD, clW, clV, clN_e, clN_n, clL_e, clL_n] <;> first | assumption | rfl | omega)) rfl) (fun x1 M1 h1 => ?_) (fun a1 E1 M1 h1 => ?_)
  · obtain ⟨q1, e1, f1, w1⟩ := h1
    subst e1
    refine x_istore_n (L' := [some _, some _, none, none, none, none]) dX1_ask_4 rfl (by decide) rfl ?_
    refine x_iconst dX1_ask_5 rfl ?_
    refine x_istore_n (L' := [some _, some _, some _, none, none, none]) dX1_ask_6 rfl (by decide) rfl ?_
    refine x_ldcw (z := 1000000) dX1_ask_7 q1548 (by decide) ?_
    refine x_istore_n (L' := [some _, some _, some _, some _, none, none]) dX1_ask_10 rfl (by decide) rfl ?_
    refine x_iconst dX1_ask_11 rfl ?_
    refine x_istore (L' := [some _, some _, some _, some _, some _, none]) dX1_ask_12 (by decide) rfl ?_
    exact x_fgt (by repeat (first | exact trivial | refine ⟨rfl, ?_⟩)) (lp _ 0 (-1) 1000000 _ rfl (by omega) q1 f1 rfl (Or.inr ⟨rfl, rfl⟩) (Or.inl rfl))
  · obtain ⟨hM1, q1, eE1⟩ := h1
    subst eE1
    exact th_nil rfl (hQ _ _ (Or.inr ⟨_, _, rfl, hM1, q1, rfl⟩))
end X1

