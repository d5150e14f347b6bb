/-! GuestView: lead, side -/
def LdL (f : Int → Int) (c : Int → Int) (t i : Int) : Prop := ∀ i' k', 0 ≤ i' → i' ≤ k' → k' ≤ 8 → (k' - i' < t ∨ k' - i' = t ∧ i' < i) → f (9 * i' + k') = ldV c (k' - i').toNat i'
section X1
variable {G : GW} {d : Nat} {M M1 : Mem} {a b c e k n x y op w st hi sz fa N i p T s j : Int} {v vi : Vw} {A : Int → Vw} {tp : Int → Int}
theorem s_X1_allLeads (hd : 12 ≤ d) (hC : CI M v n A hi vi tp sz fa N) : CS G d mX1_allLeads [dR 0] M (postN fun M1 => ∃ g, M1 = wI M g ∧ LdL (g 202) (fun k => v (22 + k)) 9 0 ∧ ∀ b k, ¬ b = 202 → g b k = mci M b k) := by
  obtain ⟨hC1, hC54, hCA, hCR⟩ := id hC; obtain ⟨hS, hTab, hTx, hLn, hSk, hnx⟩ := id hC1; obtain ⟨hA, hL, hR⟩ := id hC54; obtain ⟨⟨s0, s199, s200, s201, s202, s203⟩, ⟨c0, c1, c2, c3, c4, c5, c6, c7, c8, c9, c10, c11, c12⟩, c203, hSt, m189, m191, g193, g196, ⟨⟨r2, r3, r4, r5, r6, r7, r53⟩, ⟨w0, w1, w2, w3, w4, w5, w6⟩, wx1, wx2, wx3⟩⟩ := id hS; have hv := hA.1; have hv8 := hv.n8; have hv0 := hv.1.1; have hv3 := hv.2.2.2.1; have hs54 := hSt 54 (by unfold SB; omega); obtain ⟨p0, p1, ⟨d0, d1, d2, d3, d4, d5, d6, d7⟩, ⟨t1, t2, t3, t4, t5, t6⟩, p5, p6, p7⟩ := id hs54; have t7 : msh M (54 + 7) = some (4, 0) := p5.2.1; have t10 : msh M (54 + 10) = some (4, 0) := p6.2.1; obtain ⟨hB, hW, hLw⟩ := id hR.1; obtain ⟨b1, b2, b3, b4, b5, b6, b7, b8, b9, b10, b11, b12, b13, b14, b15⟩ := id hB; obtain ⟨hn, hn2, hat, hAc⟩ := id hCA; obtain ⟨⟨hki, hhi⟩, hIm, ⟨htp, hsz, hsz2⟩, hfa⟩ := id hCR
  have hc : ∀ k, 0 ≤ k → k < 8 → 0 ≤ (fun k => v (22 + k)) k ∧ (fun k => v (22 + k)) k < 4 := fun k a b => hv.ce k a b
  refine CS.mkQ (by decide) (Nat.le_of_ble_eq_true rfl) fun Q hQ => ?_
  have loop : ∀ (t1 : Nat) (t : Int) (g : Ci), (9 - t).toNat = t1 → (1 ≤ t) → (t ≤ 9) → (LdL (g 202) (fun k => v (22 + k)) t 0) → (∀ b k, ¬ b = 202 → g b k = mci M b k) → WP G d mX1_allLeads 27 [some (dR 0), some (dI t), none, none] [] (wI M g) Q := by
    intro t1
    induction t1 using Nat.strongRecOn with
    | _ t1 ih1 =>
      intro t g ht1 z0 z1 hl hf
      by_cases ht : t ≤ 8
      · skip
        have inner : ∀ (t2 : Nat) (i : Int) (g : Ci), (9 - i).toNat = t2 → (0 ≤ i) → (i + t ≤ 9) → (LdL (g 202) (fun k => v (22 + k)) t i) → (∀ b k, ¬ b = 202 → g b k = mci M b k) → WP G d mX1_allLeads 35 [some (dR 0), some (dI t), some (dI i), none] [] (wI M g) Q := by
          intro t2
          induction t2 using Nat.strongRecOn with
          | _ t2 ih2 =>
            intro i g ht2 i0 i1 hl hf
            by_cases hi : i + t ≤ 8
            · have e1 : g 202 (9 * (i + 1) + (i + t)) = ldV (fun k => v (22 + k)) (i + t - (i + 1)).toNat (i + 1) := hl (i + 1) (i + t) (by omega) (by omega) hi (Or.inl (by omega))
              have e2 : g 202 (9 * i + (i + t - 1)) = ldV (fun k => v (22 + k)) (i + t - 1 - i).toNat i := hl i (i + t - 1) (by omega) (by omega) (by omega) (Or.inl (by omega))
              have r1 := ldV_r hc (i + t - (i + 1)).toNat (i + 1) (by omega) (by omega)
              have r2 := ldV_r hc (i + t - 1 - i).toNat i (by omega) (by omega)
              have c1 := hc i i0 (by omega)
              have c2 := hc (i + t - 1) (by omega) (by omega)
              simp only [] at c1 c2
              have f1 : g (54 + 6) i = v (22 + i) := (hf _ _ (by omega)).trans (b13 i (by omega) (by omega))
              have f2 : g (54 + 6) (i + t - 1) = v (22 + (i + t - 1)) := (hf _ _ (by omega)).trans (b13 _ (by omega) (by omega))
              have es : ldV (fun k => v (22 + k)) (i + t - i).toNat i = if v (22 + i) - ldV (fun k => v (22 + k)) (i + t - (i + 1)).toNat (i + 1) ≤ v (22 + (i + t - 1)) - ldV (fun k => v (22 + k)) (i + t - 1 - i).toNat i then v (22 + (i + t - 1)) - ldV (fun k => v (22 + k)) (i + t - 1 - i).toNat i else v (22 + i) - ldV (fun k => v (22 + k)) (i + t - (i + 1)).toNat (i + 1) := by
                rw [show (i + t - i).toNat = (i + t - (i + 1)).toNat + 1 by omega, ldV_s, show (i + t - 1 - i).toNat = (i + t - (i + 1)).toNat by omega]
                show (if v (22 + i) - _ ≤ v (22 + (i + ((i + t - (i + 1)).toNat : Int))) - _ then v (22 + (i + ((i + t - (i + 1)).toNat : Int))) - _ else _) = _
                rw [show i + (((i + t - (i + 1)).toNat : Nat) : Int) = i + t - 1 by omega]
              refine x_iload_n dX1_allLeads_35 rfl rfl ?_
              refine x_iload_n dX1_allLeads_36 rfl rfl ?_
              first | refine x_iaddN dX1_allLeads_37 (by unfold i32; omega) ?_ | refine x_iadd dX1_allLeads_37 ?_
              refine x_bipush dX1_allLeads_38 rfl ?_
              refine x_icmp_gt (tgt := 112) dX1_allLeads_40 (by decide) (fun h40 => ?_) (fun h40 => ?_)
              · omega
              · refine x_iload_n dX1_allLeads_43 rfl rfl ?_
                refine x_iload_n dX1_allLeads_44 rfl rfl ?_
                first | refine x_iaddN dX1_allLeads_45 (by unfold i32; omega) ?_ | refine x_iadd dX1_allLeads_45 ?_
                refine x_istore_n (L' := [some _, some _, some _, some _]) dX1_allLeads_46 rfl (by decide) rfl ?_
                refine x_aload_n dX1_allLeads_47 rfl rfl ?_
                refine g_getR (kI := 12) rfl dX1_allLeads_48 fX1_62_1 (by first | assumption | first | assumption | (simp (disch := omega) only [shI, shR, shL, shC, shD, shW, sh_V, shN_e, shN_n, crI, crL, crC, crW, crV, crR_e, crR_n, crN_e, crN_n, ciR, ciL, ciD, ciN_e, ciN_n, rdI_e, rdI_n, rdC_i, rdC_o, rdW, rdU_e, rdU_n, rdLW, clI, clR, clC, clD, clW, clV, clN_e, clN_n, clL_e, clL_n]; done) | (simp (disch := omega) only [shI, shR, shL, shC, shD, shW, sh_V, shN_e, shN_n, crI, crL, crC, crW, crV, crR_e, crR_n, crN_e, crN_n, ciR, ciL, ciD, ciN_e, ciN_n, rdI_e, rdI_n, rdC_i, rdC_o, rdW, rdU_e, rdU_n, rdLW, clI, clR, clC, clD, clW, clV, clN_e, clN_n, clL_e, clL_n] <;> first | assumption | rfl | omega)) (by first | assumption | first | assumption | (simp (disch := omega) only [shI, shR, shL, shC, shD, shW, sh_V, shN_e, shN_n, crI, crL, crC, crW, crV, crR_e, crR_n, crN_e, crN_n, ciR, ciL, ciD, ciN_e, ciN_n, rdI_e, rdI_n, rdC_i, rdC_o, rdW, rdU_e, rdU_n, rdLW, clI, clR, clC, clD, clW, clV, clN_e, clN_n, clL_e, clL_n]; done) | (simp (disch := omega) only [shI, shR, shL, shC, shD, shW, sh_V, shN_e, shN_n, crI, crL, crC, crW, crV, crR_e, crR_n, crN_e, crN_n, ciR, ciL, ciD, ciN_e, ciN_n, rdI_e, rdI_n, rdC_i, rdC_o, rdW, rdU_e, rdU_n, rdLW, clI, clR, clC, clD, clW, clV, clN_e, clN_n, clL_e, clL_n] <;> first | assumption | rfl | omega)) ?_
                refine x_iload_n dX1_allLeads_51 rfl rfl ?_
                refine x_iload_n dX1_allLeads_52 rfl rfl ?_
                refine g_callI (vs := [_, _]) (d' := d - 1) rfl (s_X1_stretch (by omega) (by omega) (by omega)) dX1_allLeads_53 kX1_403 (by omega) (by decide) rfl (Nat.le_of_ble_eq_true rfl) (rcv_n) (fun x53 M53 h53 => ?_)
                obtain ⟨e53, f53⟩ := h53
                have f53' := f53.symm
                subst f53'
                subst e53
                try simp (disch := omega) only [rdI_e, rdI_n, rdC_i, rdC_o, rdW, rdR, rdU_e, rdU_n, rdLW, Int.add_zero, e1, e2, f1, f2]
                refine x_aload_n dX1_allLeads_56 rfl rfl ?_
                refine g_getR (kI := 1) rfl dX1_allLeads_57 fX1_22_1 (by first | assumption | first | assumption | (simp (disch := omega) only [shI, shR, shL, shC, shD, shW, sh_V, shN_e, shN_n, crI, crL, crC, crW, crV, crR_e, crR_n, crN_e, crN_n, ciR, ciL, ciD, ciN_e, ciN_n, rdI_e, rdI_n, rdC_i, rdC_o, rdW, rdU_e, rdU_n, rdLW, clI, clR, clC, clD, clW, clV, clN_e, clN_n, clL_e, clL_n]; done) | (simp (disch := omega) only [shI, shR, shL, shC, shD, shW, sh_V, shN_e, shN_n, crI, crL, crC, crW, crV, crR_e, crR_n, crN_e, crN_n, ciR, ciL, ciD, ciN_e, ciN_n, rdI_e, rdI_n, rdC_i, rdC_o, rdW, rdU_e, rdU_n, rdLW, clI, clR, clC, clD, clW, clV, clN_e, clN_n, clL_e, clL_n] <;> first | assumption | rfl | omega)) (by first | assumption | first | assumption | (simp (disch := omega) only [shI, shR, shL, shC, shD, shW, sh_V, shN_e, shN_n, crI, crL, crC, crW, crV, crR_e, crR_n, crN_e, crN_n, ciR, ciL, ciD, ciN_e, ciN_n, rdI_e, rdI_n, rdC_i, rdC_o, rdW, rdU_e, rdU_n, rdLW, clI, clR, clC, clD, clW, clV, clN_e, clN_n, clL_e, clL_n]; done) | (simp (disch := omega) only [shI, shR, shL, shC, shD, shW, sh_V, shN_e, shN_n, crI, crL, crC, crW, crV, crR_e, crR_n, crN_e, crN_n, ciR, ciL, ciD, ciN_e, ciN_n, rdI_e, rdI_n, rdC_i, rdC_o, rdW, rdU_e, rdU_n, rdLW, clI, clR, clC, clD, clW, clV, clN_e, clN_n, clL_e, clL_n] <;> first | assumption | rfl | omega)) ?_
                refine g_getR (kI := 5) rfl dX1_allLeads_60 fX1_73_3 (by first | assumption | first | assumption | (simp (disch := omega) only [shI, shR, shL, shC, shD, shW, sh_V, shN_e, shN_n, crI, crL, crC, crW, crV, crR_e, crR_n, crN_e, crN_n, ciR, ciL, ciD, ciN_e, ciN_n, rdI_e, rdI_n, rdC_i, rdC_o, rdW, rdU_e, rdU_n, rdLW, clI, clR, clC, clD, clW, clV, clN_e, clN_n, clL_e, clL_n]; done) | (simp (disch := omega) only [shI, shR, shL, shC, shD, shW, sh_V, shN_e, shN_n, crI, crL, crC, crW, crV, crR_e, crR_n, crN_e, crN_n, ciR, ciL, ciD, ciN_e, ciN_n, rdI_e, rdI_n, rdC_i, rdC_o, rdW, rdU_e, rdU_n, rdLW, clI, clR, clC, clD, clW, clV, clN_e, clN_n, clL_e, clL_n] <;> first | assumption | rfl | omega)) (by first | assumption | first | assumption | (simp (disch := omega) only [shI, shR, shL, shC, shD, shW, sh_V, shN_e, shN_n, crI, crL, crC, crW, crV, crR_e, crR_n, crN_e, crN_n, ciR, ciL, ciD, ciN_e, ciN_n, rdI_e, rdI_n, rdC_i, rdC_o, rdW, rdU_e, rdU_n, rdLW, clI, clR, clC, clD, clW, clV, clN_e, clN_n, clL_e, clL_n]; done) | (simp (disch := omega) only [shI, shR, shL, shC, shD, shW, sh_V, shN_e, shN_n, crI, crL, crC, crW, crV, crR_e, crR_n, crN_e, crN_n, ciR, ciL, ciD, ciN_e, ciN_n, rdI_e, rdI_n, rdC_i, rdC_o, rdW, rdU_e, rdU_n, rdLW, clI, clR, clC, clD, clW, clV, clN_e, clN_n, clL_e, clL_n] <;> first | assumption | rfl | omega)) ?_
                refine x_iload_n dX1_allLeads_63 rfl rfl ?_
                refine x_iald dX1_allLeads_64 (by first | assumption | first | assumption | (simp (disch := omega) only [shI, shR, shL, shC, shD, shW, sh_V, shN_e, shN_n, crI, crL, crC, crW, crV, crR_e, crR_n, crN_e, crN_n, ciR, ciL, ciD, ciN_e, ciN_n, rdI_e, rdI_n, rdC_i, rdC_o, rdW, rdU_e, rdU_n, rdLW, clI, clR, clC, clD, clW, clV, clN_e, clN_n, clL_e, clL_n]; done) | (simp (disch := omega) only [shI, shR, shL, shC, shD, shW, sh_V, shN_e, shN_n, crI, crL, crC, crW, crV, crR_e, crR_n, crN_e, crN_n, ciR, ciL, ciD, ciN_e, ciN_n, rdI_e, rdI_n, rdC_i, rdC_o, rdW, rdU_e, rdU_n, rdLW, clI, clR, clC, clD, clW, clV, clN_e, clN_n, clL_e, clL_n] <;> first | assumption | rfl | omega)) (by omega) (by omega) ?_
                try simp (disch := omega) only [rdI_e, rdI_n, rdC_i, rdC_o, rdW, rdR, rdU_e, rdU_n, rdLW, Int.add_zero, e1, e2, f1, f2]
                refine x_aload_n dX1_allLeads_65 rfl rfl ?_
                refine g_getR (kI := 12) rfl dX1_allLeads_66 fX1_62_1 (by first | assumption | first | assumption | (simp (disch := omega) only [shI, shR, shL, shC, shD, shW, sh_V, shN_e, shN_n, crI, crL, crC, crW, crV, crR_e, crR_n, crN_e, crN_n, ciR, ciL, ciD, ciN_e, ciN_n, rdI_e, rdI_n, rdC_i, rdC_o, rdW, rdU_e, rdU_n, rdLW, clI, clR, clC, clD, clW, clV, clN_e, clN_n, clL_e, clL_n]; done) | (simp (disch := omega) only [shI, shR, shL, shC, shD, shW, sh_V, shN_e, shN_n, crI, crL, crC, crW, crV, crR_e, crR_n, crN_e, crN_n, ciR, ciL, ciD, ciN_e, ciN_n, rdI_e, rdI_n, rdC_i, rdC_o, rdW, rdU_e, rdU_n, rdLW, clI, clR, clC, clD, clW, clV, clN_e, clN_n, clL_e, clL_n] <;> first | assumption | rfl | omega)) (by first | assumption | first | assumption | (simp (disch := omega) only [shI, shR, shL, shC, shD, shW, sh_V, shN_e, shN_n, crI, crL, crC, crW, crV, crR_e, crR_n, crN_e, crN_n, ciR, ciL, ciD, ciN_e, ciN_n, rdI_e, rdI_n, rdC_i, rdC_o, rdW, rdU_e, rdU_n, rdLW, clI, clR, clC, clD, clW, clV, clN_e, clN_n, clL_e, clL_n]; done) | (simp (disch := omega) only [shI, shR, shL, shC, shD, shW, sh_V, shN_e, shN_n, crI, crL, crC, crW, crV, crR_e, crR_n, crN_e, crN_n, ciR, ciL, ciD, ciN_e, ciN_n, rdI_e, rdI_n, rdC_i, rdC_o, rdW, rdU_e, rdU_n, rdLW, clI, clR, clC, clD, clW, clV, clN_e, clN_n, clL_e, clL_n] <;> first | assumption | rfl | omega)) ?_
                refine x_iload_n dX1_allLeads_69 rfl rfl ?_
                refine x_iconst dX1_allLeads_70 rfl ?_
                first | refine x_iaddN dX1_allLeads_71 (by unfold i32; omega) ?_ | refine x_iadd dX1_allLeads_71 ?_
                refine x_iload_n dX1_allLeads_72 rfl rfl ?_
                refine g_callI (vs := [_, _]) (d' := d - 1) rfl (s_X1_stretch (by omega) (by omega) (by omega)) dX1_allLeads_73 kX1_403 (by omega) (by decide) rfl (Nat.le_of_ble_eq_true rfl) (rcv_n) (fun x73 M73 h73 => ?_)
                obtain ⟨e73, f73⟩ := h73
                have f73' := f73.symm
                subst f73'
                subst e73
                try simp (disch := omega) only [rdI_e, rdI_n, rdC_i, rdC_o, rdW, rdR, rdU_e, rdU_n, rdLW, Int.add_zero, e1, e2, f1, f2]
                refine x_iald dX1_allLeads_76 (by first | assumption | first | assumption | (simp (disch := omega) only [shI, shR, shL, shC, shD, shW, sh_V, shN_e, shN_n, crI, crL, crC, crW, crV, crR_e, crR_n, crN_e, crN_n, ciR, ciL, ciD, ciN_e, ciN_n, rdI_e, rdI_n, rdC_i, rdC_o, rdW, rdU_e, rdU_n, rdLW, clI, clR, clC, clD, clW, clV, clN_e, clN_n, clL_e, clL_n]; done) | (simp (disch := omega) only [shI, shR, shL, shC, shD, shW, sh_V, shN_e, shN_n, crI, crL, crC, crW, crV, crR_e, crR_n, crN_e, crN_n, ciR, ciL, ciD, ciN_e, ciN_n, rdI_e, rdI_n, rdC_i, rdC_o, rdW, rdU_e, rdU_n, rdLW, clI, clR, clC, clD, clW, clV, clN_e, clN_n, clL_e, clL_n] <;> first | assumption | rfl | omega)) (by omega) (by omega) ?_
                try simp (disch := omega) only [rdI_e, rdI_n, rdC_i, rdC_o, rdW, rdR, rdU_e, rdU_n, rdLW, Int.add_zero, e1, e2, f1, f2]
                first | refine x_isubN dX1_allLeads_77 (by unfold i32; omega) ?_ | refine x_isub dX1_allLeads_77 ?_
                refine x_aload_n dX1_allLeads_78 rfl rfl ?_
                refine g_getR (kI := 1) rfl dX1_allLeads_79 fX1_22_1 (by first | assumption | first | assumption | (simp (disch := omega) only [shI, shR, shL, shC, shD, shW, sh_V, shN_e, shN_n, crI, crL, crC, crW, crV, crR_e, crR_n, crN_e, crN_n, ciR, ciL, ciD, ciN_e, ciN_n, rdI_e, rdI_n, rdC_i, rdC_o, rdW, rdU_e, rdU_n, rdLW, clI, clR, clC, clD, clW, clV, clN_e, clN_n, clL_e, clL_n]; done) | (simp (disch := omega) only [shI, shR, shL, shC, shD, shW, sh_V, shN_e, shN_n, crI, crL, crC, crW, crV, crR_e, crR_n, crN_e, crN_n, ciR, ciL, ciD, ciN_e, ciN_n, rdI_e, rdI_n, rdC_i, rdC_o, rdW, rdU_e, rdU_n, rdLW, clI, clR, clC, clD, clW, clV, clN_e, clN_n, clL_e, clL_n] <;> first | assumption | rfl | omega)) (by first | assumption | first | assumption | (simp (disch := omega) only [shI, shR, shL, shC, shD, shW, sh_V, shN_e, shN_n, crI, crL, crC, crW, crV, crR_e, crR_n, crN_e, crN_n, ciR, ciL, ciD, ciN_e, ciN_n, rdI_e, rdI_n, rdC_i, rdC_o, rdW, rdU_e, rdU_n, rdLW, clI, clR, clC, clD, clW, clV, clN_e, clN_n, clL_e, clL_n]; done) | (simp (disch := omega) only [shI, shR, shL, shC, shD, shW, sh_V, shN_e, shN_n, crI, crL, crC, crW, crV, crR_e, crR_n, crN_e, crN_n, ciR, ciL, ciD, ciN_e, ciN_n, rdI_e, rdI_n, rdC_i, rdC_o, rdW, rdU_e, rdU_n, rdLW, clI, clR, clC, clD, clW, clV, clN_e, clN_n, clL_e, clL_n] <;> first | assumption | rfl | omega)) ?_
                refine g_getR (kI := 5) rfl dX1_allLeads_82 fX1_73_3 (by first | assumption | first | assumption | (simp (disch := omega) only [shI, shR, shL, shC, shD, shW, sh_V, shN_e, shN_n, crI, crL, crC, crW, crV, crR_e, crR_n, crN_e, crN_n, ciR, ciL, ciD, ciN_e, ciN_n, rdI_e, rdI_n, rdC_i, rdC_o, rdW, rdU_e, rdU_n, rdLW, clI, clR, clC, clD, clW, clV, clN_e, clN_n, clL_e, clL_n]; done) | (simp (disch := omega) only [shI, shR, shL, shC, shD, shW, sh_V, shN_e, shN_n, crI, crL, crC, crW, crV, crR_e, crR_n, crN_e, crN_n, ciR, ciL, ciD, ciN_e, ciN_n, rdI_e, rdI_n, rdC_i, rdC_o, rdW, rdU_e, rdU_n, rdLW, clI, clR, clC, clD, clW, clV, clN_e, clN_n, clL_e, clL_n] <;> first | assumption | rfl | omega)) (by first | assumption | first | assumption | (simp (disch := omega) only [shI, shR, shL, shC, shD, shW, sh_V, shN_e, shN_n, crI, crL, crC, crW, crV, crR_e, crR_n, crN_e, crN_n, ciR, ciL, ciD, ciN_e, ciN_n, rdI_e, rdI_n, rdC_i, rdC_o, rdW, rdU_e, rdU_n, rdLW, clI, clR, clC, clD, clW, clV, clN_e, clN_n, clL_e, clL_n]; done) | (simp (disch := omega) only [shI, shR, shL, shC, shD, shW, sh_V, shN_e, shN_n, crI, crL, crC, crW, crV, crR_e, crR_n, crN_e, crN_n, ciR, ciL, ciD, ciN_e, ciN_n, rdI_e, rdI_n, rdC_i, rdC_o, rdW, rdU_e, rdU_n, rdLW, clI, clR, clC, clD, clW, clV, clN_e, clN_n, clL_e, clL_n] <;> first | assumption | rfl | omega)) ?_
                refine x_iload_n dX1_allLeads_85 rfl rfl ?_
                refine x_iconst dX1_allLeads_86 rfl ?_
                first | refine x_isubN dX1_allLeads_87 (by unfold i32; omega) ?_ | refine x_isub dX1_allLeads_87 ?_
                refine x_iald dX1_allLeads_88 (by first | assumption | first | assumption | (simp (disch := omega) only [shI, shR, shL, shC, shD, shW, sh_V, shN_e, shN_n, crI, crL, crC, crW, crV, crR_e, crR_n, crN_e, crN_n, ciR, ciL, ciD, ciN_e, ciN_n, rdI_e, rdI_n, rdC_i, rdC_o, rdW, rdU_e, rdU_n, rdLW, clI, clR, clC, clD, clW, clV, clN_e, clN_n, clL_e, clL_n]; done) | (simp (disch := omega) only [shI, shR, shL, shC, shD, shW, sh_V, shN_e, shN_n, crI, crL, crC, crW, crV, crR_e, crR_n, crN_e, crN_n, ciR, ciL, ciD, ciN_e, ciN_n, rdI_e, rdI_n, rdC_i, rdC_o, rdW, rdU_e, rdU_n, rdLW, clI, clR, clC, clD, clW, clV, clN_e, clN_n, clL_e, clL_n] <;> first | assumption | rfl | omega)) (by omega) (by omega) ?_
                try simp (disch := omega) only [rdI_e, rdI_n, rdC_i, rdC_o, rdW, rdR, rdU_e, rdU_n, rdLW, Int.add_zero, e1, e2, f1, f2]
                refine x_aload_n dX1_allLeads_89 rfl rfl ?_
                refine g_getR (kI := 12) rfl dX1_allLeads_90 fX1_62_1 (by first | assumption | first | assumption | (simp (disch := omega) only [shI, shR, shL, shC, shD, shW, sh_V, shN_e, shN_n, crI, crL, crC, crW, crV, crR_e, crR_n, crN_e, crN_n, ciR, ciL, ciD, ciN_e, ciN_n, rdI_e, rdI_n, rdC_i, rdC_o, rdW, rdU_e, rdU_n, rdLW, clI, clR, clC, clD, clW, clV, clN_e, clN_n, clL_e, clL_n]; done) | (simp (disch := omega) only [shI, shR, shL, shC, shD, shW, sh_V, shN_e, shN_n, crI, crL, crC, crW, crV, crR_e, crR_n, crN_e, crN_n, ciR, ciL, ciD, ciN_e, ciN_n, rdI_e, rdI_n, rdC_i, rdC_o, rdW, rdU_e, rdU_n, rdLW, clI, clR, clC, clD, clW, clV, clN_e, clN_n, clL_e, clL_n] <;> first | assumption | rfl | omega)) (by first | assumption | first | assumption | (simp (disch := omega) only [shI, shR, shL, shC, shD, shW, sh_V, shN_e, shN_n, crI, crL, crC, crW, crV, crR_e, crR_n, crN_e, crN_n, ciR, ciL, ciD, ciN_e, ciN_n, rdI_e, rdI_n, rdC_i, rdC_o, rdW, rdU_e, rdU_n, rdLW, clI, clR, clC, clD, clW, clV, clN_e, clN_n, clL_e, clL_n]; done) | (simp (disch := omega) only [shI, shR, shL, shC, shD, shW, sh_V, shN_e, shN_n, crI, crL, crC, crW, crV, crR_e, crR_n, crN_e, crN_n, ciR, ciL, ciD, ciN_e, ciN_n, rdI_e, rdI_n, rdC_i, rdC_o, rdW, rdU_e, rdU_n, rdLW, clI, clR, clC, clD, clW, clV, clN_e, clN_n, clL_e, clL_n] <;> first | assumption | rfl | omega)) ?_
                refine x_iload_n dX1_allLeads_93 rfl rfl ?_
                refine x_iload_n dX1_allLeads_94 rfl rfl ?_
                refine x_iconst dX1_allLeads_95 rfl ?_
                first | refine x_isubN dX1_allLeads_96 (by unfold i32; omega) ?_ | refine x_isub dX1_allLeads_96 ?_
                refine g_callIW (vs := [_, _]) (d' := d - 1) rfl (s_X1_stretch (by omega) (by omega) (by omega)) dX1_allLeads_97 kX1_403W (by omega) (by decide) rfl (Nat.le_of_ble_eq_true rfl) (rcv_n) (fun x97 M97 h97 => ?_)
                obtain ⟨e97, f97⟩ := h97
                have f97' := f97.symm
                subst f97'
                subst e97
                try simp (disch := omega) only [rdI_e, rdI_n, rdC_i, rdC_o, rdW, rdR, rdU_e, rdU_n, rdLW, Int.add_zero, e1, e2, f1, f2]
                refine x_iald dX1_allLeads_100 (by first | assumption | first | assumption | (simp (disch := omega) only [shI, shR, shL, shC, shD, shW, sh_V, shN_e, shN_n, crI, crL, crC, crW, crV, crR_e, crR_n, crN_e, crN_n, ciR, ciL, ciD, ciN_e, ciN_n, rdI_e, rdI_n, rdC_i, rdC_o, rdW, rdU_e, rdU_n, rdLW, clI, clR, clC, clD, clW, clV, clN_e, clN_n, clL_e, clL_n]; done) | (simp (disch := omega) only [shI, shR, shL, shC, shD, shW, sh_V, shN_e, shN_n, crI, crL, crC, crW, crV, crR_e, crR_n, crN_e, crN_n, ciR, ciL, ciD, ciN_e, ciN_n, rdI_e, rdI_n, rdC_i, rdC_o, rdW, rdU_e, rdU_n, rdLW, clI, clR, clC, clD, clW, clV, clN_e, clN_n, clL_e, clL_n] <;> first | assumption | rfl | omega)) (by omega) (by omega) ?_
                try simp (disch := omega) only [rdI_e, rdI_n, rdC_i, rdC_o, rdW, rdR, rdU_e, rdU_n, rdLW, Int.add_zero, e1, e2, f1, f2]
                first | refine x_isubN dX1_allLeads_101 (by unfold i32; omega) ?_ | refine x_isub dX1_allLeads_101 ?_
                refine g_callI (vs := [_, _]) (d' := d - 1) rfl (s_max (by omega)) dX1_allLeads_102 kX1_335 (by omega) (by decide) rfl (Nat.le_of_ble_eq_true rfl) (rcv_n) (fun x102 M102 h102 => ?_)
                obtain ⟨e102, f102⟩ := h102
                have f102' := f102.symm
                subst f102'
                refine x_iast (by omega) dX1_allLeads_105 (by first | assumption | first | assumption | (simp (disch := omega) only [shI, shR, shL, shC, shD, shW, sh_V, shN_e, shN_n, crI, crL, crC, crW, crV, crR_e, crR_n, crN_e, crN_n, ciR, ciL, ciD, ciN_e, ciN_n, rdI_e, rdI_n, rdC_i, rdC_o, rdW, rdU_e, rdU_n, rdLW, clI, clR, clC, clD, clW, clV, clN_e, clN_n, clL_e, clL_n]; done) | (simp (disch := omega) only [shI, shR, shL, shC, shD, shW, sh_V, shN_e, shN_n, crI, crL, crC, crW, crV, crR_e, crR_n, crN_e, crN_n, ciR, ciL, ciD, ciN_e, ciN_n, rdI_e, rdI_n, rdC_i, rdC_o, rdW, rdU_e, rdU_n, rdLW, clI, clR, clC, clD, clW, clV, clN_e, clN_n, clL_e, clL_n] <;> first | assumption | rfl | omega)) (by omega) (by omega) ?_
                first | refine x_iincN (L' := [some _, some _, some _, some _]) dX1_allLeads_106 rfl (by decide) (by unfold i32; omega) rfl ?_ | refine x_iinc (L' := [some _, some _, some _, some _]) dX1_allLeads_106 rfl (by decide) rfl ?_
                refine x_goto (tgt := 35) dX1_allLeads_109 (by decide) ?_
                have ex : x102 = ldV (fun k => v (22 + k)) (i + t - i).toNat i := by
                  rw [es]
                  split <;> omega
                refine x_fgt (L' := [some (dR 0), some (dI t), some (dI (i + 1)), none]) (by repeat (first | exact trivial | refine ⟨rfl, ?_⟩)) (WP.mem (M1 := wI M (up g 202 (9 * i + (i + t)) x102)) rfl (ih2 _ (by omega) (i + 1) (up g 202 (9 * i + (i + t)) x102) rfl (by omega) (by omega) (fun i' k' q1 q2 q3 q4 => ?_) (fun a' k' q => (rdU_n (by omega)).trans (hf a' k' q))))
                by_cases e : i' = i ∧ k' = i + t
                · rw [e.1, e.2, ← ex]
                  exact rdU_e ⟨rfl, rfl⟩
                · exact (rdU_n (by omega)).trans (hl i' k' q1 q2 q3 (by omega))
            · refine x_iload_n dX1_allLeads_35 rfl rfl ?_
              refine x_iload_n dX1_allLeads_36 rfl rfl ?_
              first | refine x_iaddN dX1_allLeads_37 (by unfold i32; omega) ?_ | refine x_iadd dX1_allLeads_37 ?_
              refine x_bipush dX1_allLeads_38 rfl ?_
              refine x_icmp_gt (tgt := 112) dX1_allLeads_40 (by decide) (fun h40 => ?_) (fun h40 => ?_)
              · first | refine x_iincN (L' := [some _, some _, some _, none]) dX1_allLeads_112 rfl (by decide) (by unfold i32; omega) rfl ?_ | refine x_iinc (L' := [some _, some _, some _, none]) dX1_allLeads_112 rfl (by decide) rfl ?_
                refine x_goto (tgt := 27) dX1_allLeads_115 (by decide) ?_
                exact x_fgt (by repeat (first | exact trivial | refine ⟨rfl, ?_⟩)) (ih1 _ (by omega) (t + 1) g rfl (by omega) (by omega) (fun i' k' q1 q2 q3 q4 => hl i' k' q1 q2 q3 (by omega)) hf)
              · omega
        refine x_iload_n dX1_allLeads_27 rfl rfl ?_
        refine x_bipush dX1_allLeads_28 rfl ?_
        refine x_icmp_gt (tgt := 118) dX1_allLeads_30 (by decide) (fun h30 => ?_) (fun h30 => ?_)
        · omega
        · refine x_iconst dX1_allLeads_33 rfl ?_
          refine x_istore_n (L' := [some _, some _, some _, none]) dX1_allLeads_34 rfl (by decide) rfl ?_
          exact inner _ 0 g rfl (by omega) (by omega) hl hf
      · refine x_iload_n dX1_allLeads_27 rfl rfl ?_
        refine x_bipush dX1_allLeads_28 rfl ?_
        refine x_icmp_gt (tgt := 118) dX1_allLeads_30 (by decide) (fun h30 => ?_) (fun h30 => ?_)
        · refine x_vreturn rfl dX1_allLeads_118 ?_
          exact hQ _ _ ⟨rfl, g, rfl, fun i' k' q1 q2 q3 q4 => hl i' k' q1 q2 q3 (by omega), hf⟩
        · omega
  have zero : ∀ (t3 : Nat) (i : Int) (g : Ci), (9 - i).toNat = t3 → (0 ≤ i) → (i ≤ 9) → (LdL (g 202) (fun k => v (22 + k)) 0 i) → (∀ b k, ¬ b = 202 → g b k = mci M b k) → WP G d mX1_allLeads 2 [some (dR 0), some (dI i), none, none] [] (wI M g) Q := by
    intro t3
    induction t3 using Nat.strongRecOn with
    | _ t3 ih3 =>
      intro i g ht3 z0 z1 hl hf
      by_cases hi : i ≤ 8
      · refine x_iload_n dX1_allLeads_2 rfl rfl ?_
        refine x_bipush dX1_allLeads_3 rfl ?_
        refine x_icmp_gt (tgt := 25) dX1_allLeads_5 (by decide) (fun h5 => ?_) (fun h5 => ?_)
        · omega
        · refine x_aload_n dX1_allLeads_8 rfl rfl ?_
          refine g_getR (kI := 12) rfl dX1_allLeads_9 fX1_62_1 (by first | assumption | first | assumption | (simp (disch := omega) only [shI, shR, shL, shC, shD, shW, sh_V, shN_e, shN_n, crI, crL, crC, crW, crV, crR_e, crR_n, crN_e, crN_n, ciR, ciL, ciD, ciN_e, ciN_n, rdI_e, rdI_n, rdC_i, rdC_o, rdW, rdU_e, rdU_n, rdLW, clI, clR, clC, clD, clW, clV, clN_e, clN_n, clL_e, clL_n]; done) | (simp (disch := omega) only [shI, shR, shL, shC, shD, shW, sh_V, shN_e, shN_n, crI, crL, crC, crW, crV, crR_e, crR_n, crN_e, crN_n, ciR, ciL, ciD, ciN_e, ciN_n, rdI_e, rdI_n, rdC_i, rdC_o, rdW, rdU_e, rdU_n, rdLW, clI, clR, clC, clD, clW, clV, clN_e, clN_n, clL_e, clL_n] <;> first | assumption | rfl | omega)) (by first | assumption | first | assumption | (simp (disch := omega) only [shI, shR, shL, shC, shD, shW, sh_V, shN_e, shN_n, crI, crL, crC, crW, crV, crR_e, crR_n, crN_e, crN_n, ciR, ciL, ciD, ciN_e, ciN_n, rdI_e, rdI_n, rdC_i, rdC_o, rdW, rdU_e, rdU_n, rdLW, clI, clR, clC, clD, clW, clV, clN_e, clN_n, clL_e, clL_n]; done) | (simp (disch := omega) only [shI, shR, shL, shC, shD, shW, sh_V, shN_e, shN_n, crI, crL, crC, crW, crV, crR_e, crR_n, crN_e, crN_n, ciR, ciL, ciD, ciN_e, ciN_n, rdI_e, rdI_n, rdC_i, rdC_o, rdW, rdU_e, rdU_n, rdLW, clI, clR, clC, clD, clW, clV, clN_e, clN_n, clL_e, clL_n] <;> first | assumption | rfl | omega)) ?_
          refine x_iload_n dX1_allLeads_12 rfl rfl ?_
          refine x_iload_n dX1_allLeads_13 rfl rfl ?_
          refine g_callI (vs := [_, _]) (d' := d - 1) rfl (s_X1_stretch (by omega) (by omega) (by omega)) dX1_allLeads_14 kX1_403 (by omega) (by decide) rfl (Nat.le_of_ble_eq_true rfl) (rcv_n) (fun x14 M14 h14 => ?_)
          obtain ⟨e14, f14⟩ := h14
          have f14' := f14.symm
          subst f14'
          subst e14
          refine x_iconst dX1_allLeads_17 rfl ?_
          refine x_iast (by omega) dX1_allLeads_18 (by first | assumption | first | assumption | (simp (disch := omega) only [shI, shR, shL, shC, shD, shW, sh_V, shN_e, shN_n, crI, crL, crC, crW, crV, crR_e, crR_n, crN_e, crN_n, ciR, ciL, ciD, ciN_e, ciN_n, rdI_e, rdI_n, rdC_i, rdC_o, rdW, rdU_e, rdU_n, rdLW, clI, clR, clC, clD, clW, clV, clN_e, clN_n, clL_e, clL_n]; done) | (simp (disch := omega) only [shI, shR, shL, shC, shD, shW, sh_V, shN_e, shN_n, crI, crL, crC, crW, crV, crR_e, crR_n, crN_e, crN_n, ciR, ciL, ciD, ciN_e, ciN_n, rdI_e, rdI_n, rdC_i, rdC_o, rdW, rdU_e, rdU_n, rdLW, clI, clR, clC, clD, clW, clV, clN_e, clN_n, clL_e, clL_n] <;> first | assumption | rfl | omega)) (by omega) (by omega) ?_
          first | refine x_iincN (L' := [some _, some _, none, none]) dX1_allLeads_19 rfl (by decide) (by unfold i32; omega) rfl ?_ | refine x_iinc (L' := [some _, some _, none, none]) dX1_allLeads_19 rfl (by decide) rfl ?_
          refine x_goto (tgt := 2) dX1_allLeads_22 (by decide) ?_
          refine WP.mem (M1 := wI M (up g 202 (9 * i + i) 0)) rfl (ih3 _ (by omega) (i + 1) (up g 202 (9 * i + i) 0) rfl (by omega) (by omega) (fun i' k' q1 q2 q3 q4 => ?_) (fun a' k' q => (rdU_n (by omega)).trans (hf a' k' q)))
          by_cases e : i' = i
          · rw [e, show k' = i by omega, show (i - i).toNat = 0 by omega]
            exact rdU_e ⟨rfl, rfl⟩
          · exact (rdU_n (by omega)).trans (hl i' k' q1 q2 q3 (by omega))
      · refine x_iload_n dX1_allLeads_2 rfl rfl ?_
        refine x_bipush dX1_allLeads_3 rfl ?_
        refine x_icmp_gt (tgt := 25) dX1_allLeads_5 (by decide) (fun h5 => ?_) (fun h5 => ?_)
        · refine x_iconst dX1_allLeads_25 rfl ?_
          refine x_istore_n (L' := [some _, some _, none, none]) dX1_allLeads_26 rfl (by decide) rfl ?_
          exact x_fgt (by repeat (first | exact trivial | refine ⟨rfl, ?_⟩)) (loop _ 1 g rfl (by omega) (by omega) (fun i' k' q1 q2 q3 q4 => hl i' k' q1 q2 q3 (by omega)) hf)
        · omega
  refine x_iconst dX1_allLeads_0 rfl ?_
  refine x_istore_n (L' := [some _, some _, none, none]) dX1_allLeads_1 rfl (by decide) rfl ?_
  exact zero _ 0 (mci M) rfl (by omega) (by omega) (fun i' k' q1 q2 q3 q4 => by omega) fun _ _ _ => rfl
theorem s_X1_lead (hd : 14 ≤ d) (hC : CI M v n A hi vi tp sz fa N) : CS G d mX1_lead [dR 0] M (postI fun y M1 => y = leadAns v ∧ CO M v n A hi vi tp sz fa N 0 0 M1) := by
  obtain ⟨hC1, hC54, hCA, hCR⟩ := id hC; obtain ⟨hS, hTab, hTx, hLn, hSk, hnx⟩ := id hC1; obtain ⟨hA, hL, hR⟩ := id hC54; obtain ⟨⟨s0, s199, s200, s201, s202, s203⟩, ⟨c0, c1, c2, c3, c4, c5, c6, c7, c8, c9, c10, c11, c12⟩, c203, hSt, m189, m191, g193, g196, ⟨⟨r2, r3, r4, r5, r6, r7, r53⟩, ⟨w0, w1, w2, w3, w4, w5, w6⟩, wx1, wx2, wx3⟩⟩ := id hS; have hv := hA.1; have hv8 := hv.n8; have hv0 := hv.1.1; have hv3 := hv.2.2.2.1; have hs54 := hSt 54 (by unfold SB; omega); obtain ⟨p0, p1, ⟨d0, d1, d2, d3, d4, d5, d6, d7⟩, ⟨t1, t2, t3, t4, t5, t6⟩, p5, p6, p7⟩ := id hs54; have t7 : msh M (54 + 7) = some (4, 0) := p5.2.1; have t10 : msh M (54 + 10) = some (4, 0) := p6.2.1; obtain ⟨hB, hW, hLw⟩ := id hR.1; obtain ⟨b1, b2, b3, b4, b5, b6, b7, b8, b9, b10, b11, b12, b13, b14, b15⟩ := id hB; obtain ⟨hn, hn2, hat, hAc⟩ := id hCA; obtain ⟨⟨hki, hhi⟩, hIm, ⟨htp, hsz, hsz2⟩, hfa⟩ := id hCR
  refine CS.mkQ (by decide) (Nat.le_of_ble_eq_true rfl) fun Q hQ => ?_
  refine x_aload_n dX1_lead_0 rfl rfl ?_
  refine g_callN (vs := [_]) (d' := d - 1) rfl (s_X1_allLeads (by omega) hC) dX1_lead_1 kX1_406 (by omega) (by decide) rfl (Nat.le_of_ble_eq_true rfl) (rcv_o (by first | assumption | first | assumption | (simp (disch := omega) only [shI, shR, shL, shC, shD, shW, sh_V, shN_e, shN_n, crI, crL, crC, crW, crV, crR_e, crR_n, crN_e, crN_n, ciR, ciL, ciD, ciN_e, ciN_n, rdI_e, rdI_n, rdC_i, rdC_o, rdW, rdU_e, rdU_n, rdLW, clI, clR, clC, clD, clW, clV, clN_e, clN_n, clL_e, clL_n]; done) | (simp (disch := omega) only [shI, shR, shL, shC, shD, shW, sh_V, shN_e, shN_n, crI, crL, crC, crW, crV, crR_e, crR_n, crN_e, crN_n, ciR, ciL, ciD, ciN_e, ciN_n, rdI_e, rdI_n, rdC_i, rdC_o, rdW, rdU_e, rdU_n, rdLW, clI, clR, clC, clD, clW, clV, clN_e, clN_n, clL_e, clL_n] <;> first | assumption | rfl | omega)) rfl) (fun M1 h1 => ?_)
  obtain ⟨g1, e1, l1, f1⟩ := h1
  subst e1
  refine x_aload_n dX1_lead_4 rfl rfl ?_
  refine g_getR (kI := 12) rfl dX1_lead_5 fX1_62_1 (by first | assumption | first | assumption | (simp (disch := omega) only [shI, shR, shL, shC, shD, shW, sh_V, shN_e, shN_n, crI, crL, crC, crW, crV, crR_e, crR_n, crN_e, crN_n, ciR, ciL, ciD, ciN_e, ciN_n, rdI_e, rdI_n, rdC_i, rdC_o, rdW, rdU_e, rdU_n, rdLW, clI, clR, clC, clD, clW, clV, clN_e, clN_n, clL_e, clL_n]; done) | (simp (disch := omega) only [shI, shR, shL, shC, shD, shW, sh_V, shN_e, shN_n, crI, crL, crC, crW, crV, crR_e, crR_n, crN_e, crN_n, ciR, ciL, ciD, ciN_e, ciN_n, rdI_e, rdI_n, rdC_i, rdC_o, rdW, rdU_e, rdU_n, rdLW, clI, clR, clC, clD, clW, clV, clN_e, clN_n, clL_e, clL_n] <;> first | assumption | rfl | omega)) (by first | assumption | first | assumption | (simp (disch := omega) only [shI, shR, shL, shC, shD, shW, sh_V, shN_e, shN_n, crI, crL, crC, crW, crV, crR_e, crR_n, crN_e, crN_n, ciR, ciL, ciD, ciN_e, ciN_n, rdI_e, rdI_n, rdC_i, rdC_o, rdW, rdU_e, rdU_n, rdLW, clI, clR, clC, clD, clW, clV, clN_e, clN_n, clL_e, clL_n]; done) | (simp (disch := omega) only [shI, shR, shL, shC, shD, shW, sh_V, shN_e, shN_n, crI, crL, crC, crW, crV, crR_e, crR_n, crN_e, crN_n, ciR, ciL, ciD, ciN_e, ciN_n, rdI_e, rdI_n, rdC_i, rdC_o, rdW, rdU_e, rdU_n, rdLW, clI, clR, clC, clD, clW, clV, clN_e, clN_n, clL_e, clL_n] <;> first | assumption | rfl | omega)) ?_
  refine x_iconst dX1_lead_8 rfl ?_
  refine x_bipush dX1_lead_9 rfl ?_
  refine g_callI (vs := [_, _]) (d' := d - 1) rfl (s_X1_stretch (by omega) (by omega) (by omega)) dX1_lead_11 kX1_403 (by omega) (by decide) rfl (Nat.le_of_ble_eq_true rfl) (rcv_n) (fun x11 M11 h11 => ?_)
  obtain ⟨e11, f11⟩ := h11
  have f11' := f11.symm
  subst f11'
  subst e11
  refine x_iald dX1_lead_14 (by first | assumption | first | assumption | (simp (disch := omega) only [shI, shR, shL, shC, shD, shW, sh_V, shN_e, shN_n, crI, crL, crC, crW, crV, crR_e, crR_n, crN_e, crN_n, ciR, ciL, ciD, ciN_e, ciN_n, rdI_e, rdI_n, rdC_i, rdC_o, rdW, rdU_e, rdU_n, rdLW, clI, clR, clC, clD, clW, clV, clN_e, clN_n, clL_e, clL_n]; done) | (simp (disch := omega) only [shI, shR, shL, shC, shD, shW, sh_V, shN_e, shN_n, crI, crL, crC, crW, crV, crR_e, crR_n, crN_e, crN_n, ciR, ciL, ciD, ciN_e, ciN_n, rdI_e, rdI_n, rdC_i, rdC_o, rdW, rdU_e, rdU_n, rdLW, clI, clR, clC, clD, clW, clV, clN_e, clN_n, clL_e, clL_n] <;> first | assumption | rfl | omega)) (by omega) (by omega) ?_
  refine x_ireturn rfl dX1_lead_15 ?_
  refine hQ _ _ ⟨_, rfl, l1 0 8 (by omega) (by omega) (by omega) (by omega), CO.o hC fun b k q1 q2 => f1 b k (by omega)⟩
theorem s_X1_side (hd : 14 ≤ d) (hC : CI M v n A hi vi tp sz fa N) : CS G d mX1_side [dR 0] M (postI fun y M1 => y = sideAns v ∧ CO M v n A hi vi tp sz fa N 0 0 M1) := by
  obtain ⟨hC1, hC54, hCA, hCR⟩ := id hC; obtain ⟨hS, hTab, hTx, hLn, hSk, hnx⟩ := id hC1; obtain ⟨hA, hL, hR⟩ := id hC54; obtain ⟨⟨s0, s199, s200, s201, s202, s203⟩, ⟨c0, c1, c2, c3, c4, c5, c6, c7, c8, c9, c10, c11, c12⟩, c203, hSt, m189, m191, g193, g196, ⟨⟨r2, r3, r4, r5, r6, r7, r53⟩, ⟨w0, w1, w2, w3, w4, w5, w6⟩, wx1, wx2, wx3⟩⟩ := id hS; have hv := hA.1; have hv8 := hv.n8; have hv0 := hv.1.1; have hv3 := hv.2.2.2.1; have hs54 := hSt 54 (by unfold SB; omega); obtain ⟨p0, p1, ⟨d0, d1, d2, d3, d4, d5, d6, d7⟩, ⟨t1, t2, t3, t4, t5, t6⟩, p5, p6, p7⟩ := id hs54; have t7 : msh M (54 + 7) = some (4, 0) := p5.2.1; have t10 : msh M (54 + 10) = some (4, 0) := p6.2.1; obtain ⟨hB, hW, hLw⟩ := id hR.1; obtain ⟨b1, b2, b3, b4, b5, b6, b7, b8, b9, b10, b11, b12, b13, b14, b15⟩ := id hB; obtain ⟨hn, hn2, hat, hAc⟩ := id hCA; obtain ⟨⟨hki, hhi⟩, hIm, ⟨htp, hsz, hsz2⟩, hfa⟩ := id hCR
  have hc : ∀ k, 0 ≤ k → k < 8 → 0 ≤ (fun k => v (22 + k)) k ∧ (fun k => v (22 + k)) k < 4 := fun k a b => hv.ce k a b
  have r1 := ldV_r hc 7 1 (by omega) (by omega)
  have r2 := ldV_r hc 7 0 (by omega) (by omega)
  have cc1 : 0 ≤ v 22 ∧ v 22 < 4 := hc 0 (by omega) (by omega)
  have cc2 : 0 ≤ v 29 ∧ v 29 < 4 := hc 7 (by omega) (by omega)
  refine CS.mkQ (by decide) (Nat.le_of_ble_eq_true rfl) fun Q hQ => ?_
  refine x_aload_n dX1_side_0 rfl rfl ?_
  refine g_callN (vs := [_]) (d' := d - 1) rfl (s_X1_allLeads (by omega) hC) dX1_side_1 kX1_406 (by omega) (by decide) rfl (Nat.le_of_ble_eq_true rfl) (rcv_o (by first | assumption | first | assumption | (simp (disch := omega) only [shI, shR, shL, shC, shD, shW, sh_V, shN_e, shN_n, crI, crL, crC, crW, crV, crR_e, crR_n, crN_e, crN_n, ciR, ciL, ciD, ciN_e, ciN_n, rdI_e, rdI_n, rdC_i, rdC_o, rdW, rdU_e, rdU_n, rdLW, clI, clR, clC, clD, clW, clV, clN_e, clN_n, clL_e, clL_n]; done) | (simp (disch := omega) only [shI, shR, shL, shC, shD, shW, sh_V, shN_e, shN_n, crI, crL, crC, crW, crV, crR_e, crR_n, crN_e, crN_n, ciR, ciL, ciD, ciN_e, ciN_n, rdI_e, rdI_n, rdC_i, rdC_o, rdW, rdU_e, rdU_n, rdLW, clI, clR, clC, clD, clW, clV, clN_e, clN_n, clL_e, clL_n] <;> first | assumption | rfl | omega)) rfl) (fun M1 h1 => ?_)
  obtain ⟨g1, e1, l1, f1⟩ := h1
  subst e1
  have f0 : g1 (54 + 6) 0 = v 22 := (f1 _ _ (by omega)).trans (b13 0 (by omega) (by omega))
  have e1 : g1 202 (9 * 1 + 8) = ldV (fun k => v (22 + k)) 7 1 := l1 1 8 (by omega) (by omega) (by omega) (by omega)
  have e2 : g1 202 (9 * 0 + 8) = ldV (fun k => v (22 + k)) 8 0 := l1 0 8 (by omega) (by omega) (by omega) (by omega)
  have e3 : ldV (fun k => v (22 + k)) 8 0 = if v 22 - ldV (fun k => v (22 + k)) 7 1 ≤ v 29 - ldV (fun k => v (22 + k)) 7 0 then v 29 - ldV (fun k => v (22 + k)) 7 0 else v 22 - ldV (fun k => v (22 + k)) 7 1 := rfl
  refine x_aload_n dX1_side_4 rfl rfl ?_
  refine g_getR (kI := 1) rfl dX1_side_5 fX1_22_1 (by first | assumption | first | assumption | (simp (disch := omega) only [shI, shR, shL, shC, shD, shW, sh_V, shN_e, shN_n, crI, crL, crC, crW, crV, crR_e, crR_n, crN_e, crN_n, ciR, ciL, ciD, ciN_e, ciN_n, rdI_e, rdI_n, rdC_i, rdC_o, rdW, rdU_e, rdU_n, rdLW, clI, clR, clC, clD, clW, clV, clN_e, clN_n, clL_e, clL_n]; done) | (simp (disch := omega) only [shI, shR, shL, shC, shD, shW, sh_V, shN_e, shN_n, crI, crL, crC, crW, crV, crR_e, crR_n, crN_e, crN_n, ciR, ciL, ciD, ciN_e, ciN_n, rdI_e, rdI_n, rdC_i, rdC_o, rdW, rdU_e, rdU_n, rdLW, clI, clR, clC, clD, clW, clV, clN_e, clN_n, clL_e, clL_n] <;> first | assumption | rfl | omega)) (by first | assumption | first | assumption | (simp (disch := omega) only [shI, shR, shL, shC, shD, shW, sh_V, shN_e, shN_n, crI, crL, crC, crW, crV, crR_e, crR_n, crN_e, crN_n, ciR, ciL, ciD, ciN_e, ciN_n, rdI_e, rdI_n, rdC_i, rdC_o, rdW, rdU_e, rdU_n, rdLW, clI, clR, clC, clD, clW, clV, clN_e, clN_n, clL_e, clL_n]; done) | (simp (disch := omega) only [shI, shR, shL, shC, shD, shW, sh_V, shN_e, shN_n, crI, crL, crC, crW, crV, crR_e, crR_n, crN_e, crN_n, ciR, ciL, ciD, ciN_e, ciN_n, rdI_e, rdI_n, rdC_i, rdC_o, rdW, rdU_e, rdU_n, rdLW, clI, clR, clC, clD, clW, clV, clN_e, clN_n, clL_e, clL_n] <;> first | assumption | rfl | omega)) ?_
  refine g_getR (kI := 5) rfl dX1_side_8 fX1_73_3 (by first | assumption | first | assumption | (simp (disch := omega) only [shI, shR, shL, shC, shD, shW, sh_V, shN_e, shN_n, crI, crL, crC, crW, crV, crR_e, crR_n, crN_e, crN_n, ciR, ciL, ciD, ciN_e, ciN_n, rdI_e, rdI_n, rdC_i, rdC_o, rdW, rdU_e, rdU_n, rdLW, clI, clR, clC, clD, clW, clV, clN_e, clN_n, clL_e, clL_n]; done) | (simp (disch := omega) only [shI, shR, shL, shC, shD, shW, sh_V, shN_e, shN_n, crI, crL, crC, crW, crV, crR_e, crR_n, crN_e, crN_n, ciR, ciL, ciD, ciN_e, ciN_n, rdI_e, rdI_n, rdC_i, rdC_o, rdW, rdU_e, rdU_n, rdLW, clI, clR, clC, clD, clW, clV, clN_e, clN_n, clL_e, clL_n] <;> first | assumption | rfl | omega)) (by first | assumption | first | assumption | (simp (disch := omega) only [shI, shR, shL, shC, shD, shW, sh_V, shN_e, shN_n, crI, crL, crC, crW, crV, crR_e, crR_n, crN_e, crN_n, ciR, ciL, ciD, ciN_e, ciN_n, rdI_e, rdI_n, rdC_i, rdC_o, rdW, rdU_e, rdU_n, rdLW, clI, clR, clC, clD, clW, clV, clN_e, clN_n, clL_e, clL_n]; done) | (simp (disch := omega) only [shI, shR, shL, shC, shD, shW, sh_V, shN_e, shN_n, crI, crL, crC, crW, crV, crR_e, crR_n, crN_e, crN_n, ciR, ciL, ciD, ciN_e, ciN_n, rdI_e, rdI_n, rdC_i, rdC_o, rdW, rdU_e, rdU_n, rdLW, clI, clR, clC, clD, clW, clV, clN_e, clN_n, clL_e, clL_n] <;> first | assumption | rfl | omega)) ?_
  refine x_iconst dX1_side_11 rfl ?_
  refine x_iald dX1_side_12 (by first | assumption | first | assumption | (simp (disch := omega) only [shI, shR, shL, shC, shD, shW, sh_V, shN_e, shN_n, crI, crL, crC, crW, crV, crR_e, crR_n, crN_e, crN_n, ciR, ciL, ciD, ciN_e, ciN_n, rdI_e, rdI_n, rdC_i, rdC_o, rdW, rdU_e, rdU_n, rdLW, clI, clR, clC, clD, clW, clV, clN_e, clN_n, clL_e, clL_n]; done) | (simp (disch := omega) only [shI, shR, shL, shC, shD, shW, sh_V, shN_e, shN_n, crI, crL, crC, crW, crV, crR_e, crR_n, crN_e, crN_n, ciR, ciL, ciD, ciN_e, ciN_n, rdI_e, rdI_n, rdC_i, rdC_o, rdW, rdU_e, rdU_n, rdLW, clI, clR, clC, clD, clW, clV, clN_e, clN_n, clL_e, clL_n] <;> first | assumption | rfl | omega)) (by omega) (by omega) ?_
  try simp (disch := omega) only [rdI_e, rdI_n, rdC_i, rdC_o, rdW, rdR, rdU_e, rdU_n, rdLW, Int.add_zero, f0, e1, e2]
  refine x_aload_n dX1_side_13 rfl rfl ?_
  refine g_getR (kI := 12) rfl dX1_side_14 fX1_62_1 (by first | assumption | first | assumption | (simp (disch := omega) only [shI, shR, shL, shC, shD, shW, sh_V, shN_e, shN_n, crI, crL, crC, crW, crV, crR_e, crR_n, crN_e, crN_n, ciR, ciL, ciD, ciN_e, ciN_n, rdI_e, rdI_n, rdC_i, rdC_o, rdW, rdU_e, rdU_n, rdLW, clI, clR, clC, clD, clW, clV, clN_e, clN_n, clL_e, clL_n]; done) | (simp (disch := omega) only [shI, shR, shL, shC, shD, shW, sh_V, shN_e, shN_n, crI, crL, crC, crW, crV, crR_e, crR_n, crN_e, crN_n, ciR, ciL, ciD, ciN_e, ciN_n, rdI_e, rdI_n, rdC_i, rdC_o, rdW, rdU_e, rdU_n, rdLW, clI, clR, clC, clD, clW, clV, clN_e, clN_n, clL_e, clL_n] <;> first | assumption | rfl | omega)) (by first | assumption | first | assumption | (simp (disch := omega) only [shI, shR, shL, shC, shD, shW, sh_V, shN_e, shN_n, crI, crL, crC, crW, crV, crR_e, crR_n, crN_e, crN_n, ciR, ciL, ciD, ciN_e, ciN_n, rdI_e, rdI_n, rdC_i, rdC_o, rdW, rdU_e, rdU_n, rdLW, clI, clR, clC, clD, clW, clV, clN_e, clN_n, clL_e, clL_n]; done) | (simp (disch := omega) only [shI, shR, shL, shC, shD, shW, sh_V, shN_e, shN_n, crI, crL, crC, crW, crV, crR_e, crR_n, crN_e, crN_n, ciR, ciL, ciD, ciN_e, ciN_n, rdI_e, rdI_n, rdC_i, rdC_o, rdW, rdU_e, rdU_n, rdLW, clI, clR, clC, clD, clW, clV, clN_e, clN_n, clL_e, clL_n] <;> first | assumption | rfl | omega)) ?_
  refine x_iconst dX1_side_17 rfl ?_
  refine x_bipush dX1_side_18 rfl ?_
  refine g_callI (vs := [_, _]) (d' := d - 1) rfl (s_X1_stretch (by omega) (by omega) (by omega)) dX1_side_20 kX1_403 (by omega) (by decide) rfl (Nat.le_of_ble_eq_true rfl) (rcv_n) (fun x20 M20 h20 => ?_)
  obtain ⟨e20, f20⟩ := h20
  have f20' := f20.symm
  subst f20'
  subst e20
  try simp (disch := omega) only [rdI_e, rdI_n, rdC_i, rdC_o, rdW, rdR, rdU_e, rdU_n, rdLW, Int.add_zero, f0, e1, e2]
  refine x_iald dX1_side_23 (by first | assumption | first | assumption | (simp (disch := omega) only [shI, shR, shL, shC, shD, shW, sh_V, shN_e, shN_n, crI, crL, crC, crW, crV, crR_e, crR_n, crN_e, crN_n, ciR, ciL, ciD, ciN_e, ciN_n, rdI_e, rdI_n, rdC_i, rdC_o, rdW, rdU_e, rdU_n, rdLW, clI, clR, clC, clD, clW, clV, clN_e, clN_n, clL_e, clL_n]; done) | (simp (disch := omega) only [shI, shR, shL, shC, shD, shW, sh_V, shN_e, shN_n, crI, crL, crC, crW, crV, crR_e, crR_n, crN_e, crN_n, ciR, ciL, ciD, ciN_e, ciN_n, rdI_e, rdI_n, rdC_i, rdC_o, rdW, rdU_e, rdU_n, rdLW, clI, clR, clC, clD, clW, clV, clN_e, clN_n, clL_e, clL_n] <;> first | assumption | rfl | omega)) (by omega) (by omega) ?_
  try simp (disch := omega) only [rdI_e, rdI_n, rdC_i, rdC_o, rdW, rdR, rdU_e, rdU_n, rdLW, Int.add_zero, f0, e1, e2]
  first | refine x_isubN dX1_side_24 (by unfold i32; omega) ?_ | refine x_isub dX1_side_24 ?_
  refine x_aload_n dX1_side_25 rfl rfl ?_
  refine g_getR (kI := 12) rfl dX1_side_26 fX1_62_1 (by first | assumption | first | assumption | (simp (disch := omega) only [shI, shR, shL, shC, shD, shW, sh_V, shN_e, shN_n, crI, crL, crC, crW, crV, crR_e, crR_n, crN_e, crN_n, ciR, ciL, ciD, ciN_e, ciN_n, rdI_e, rdI_n, rdC_i, rdC_o, rdW, rdU_e, rdU_n, rdLW, clI, clR, clC, clD, clW, clV, clN_e, clN_n, clL_e, clL_n]; done) | (simp (disch := omega) only [shI, shR, shL, shC, shD, shW, sh_V, shN_e, shN_n, crI, crL, crC, crW, crV, crR_e, crR_n, crN_e, crN_n, ciR, ciL, ciD, ciN_e, ciN_n, rdI_e, rdI_n, rdC_i, rdC_o, rdW, rdU_e, rdU_n, rdLW, clI, clR, clC, clD, clW, clV, clN_e, clN_n, clL_e, clL_n] <;> first | assumption | rfl | omega)) (by first | assumption | first | assumption | (simp (disch := omega) only [shI, shR, shL, shC, shD, shW, sh_V, shN_e, shN_n, crI, crL, crC, crW, crV, crR_e, crR_n, crN_e, crN_n, ciR, ciL, ciD, ciN_e, ciN_n, rdI_e, rdI_n, rdC_i, rdC_o, rdW, rdU_e, rdU_n, rdLW, clI, clR, clC, clD, clW, clV, clN_e, clN_n, clL_e, clL_n]; done) | (simp (disch := omega) only [shI, shR, shL, shC, shD, shW, sh_V, shN_e, shN_n, crI, crL, crC, crW, crV, crR_e, crR_n, crN_e, crN_n, ciR, ciL, ciD, ciN_e, ciN_n, rdI_e, rdI_n, rdC_i, rdC_o, rdW, rdU_e, rdU_n, rdLW, clI, clR, clC, clD, clW, clV, clN_e, clN_n, clL_e, clL_n] <;> first | assumption | rfl | omega)) ?_
  refine x_iconst dX1_side_29 rfl ?_
  refine x_bipush dX1_side_30 rfl ?_
  refine g_callI (vs := [_, _]) (d' := d - 1) rfl (s_X1_stretch (by omega) (by omega) (by omega)) dX1_side_32 kX1_403 (by omega) (by decide) rfl (Nat.le_of_ble_eq_true rfl) (rcv_n) (fun x32 M32 h32 => ?_)
  obtain ⟨e32, f32⟩ := h32
  have f32' := f32.symm
  subst f32'
  subst e32
  try simp (disch := omega) only [rdI_e, rdI_n, rdC_i, rdC_o, rdW, rdR, rdU_e, rdU_n, rdLW, Int.add_zero, f0, e1, e2]
  refine x_iald dX1_side_35 (by first | assumption | first | assumption | (simp (disch := omega) only [shI, shR, shL, shC, shD, shW, sh_V, shN_e, shN_n, crI, crL, crC, crW, crV, crR_e, crR_n, crN_e, crN_n, ciR, ciL, ciD, ciN_e, ciN_n, rdI_e, rdI_n, rdC_i, rdC_o, rdW, rdU_e, rdU_n, rdLW, clI, clR, clC, clD, clW, clV, clN_e, clN_n, clL_e, clL_n]; done) | (simp (disch := omega) only [shI, shR, shL, shC, shD, shW, sh_V, shN_e, shN_n, crI, crL, crC, crW, crV, crR_e, crR_n, crN_e, crN_n, ciR, ciL, ciD, ciN_e, ciN_n, rdI_e, rdI_n, rdC_i, rdC_o, rdW, rdU_e, rdU_n, rdLW, clI, clR, clC, clD, clW, clV, clN_e, clN_n, clL_e, clL_n] <;> first | assumption | rfl | omega)) (by omega) (by omega) ?_
  try simp (disch := omega) only [rdI_e, rdI_n, rdC_i, rdC_o, rdW, rdR, rdU_e, rdU_n, rdLW, Int.add_zero, f0, e1, e2]
  refine x_icmp_ne (tgt := 43) dX1_side_36 (by decide) (fun h36 => ?_) (fun h36 => ?_)
  · refine x_iconst dX1_side_43 rfl ?_
    refine x_ireturn rfl dX1_side_44 ?_
    refine hQ _ _ ⟨_, rfl, ?_, CO.o hC fun b k q1 q2 => f1 b k (by omega)⟩
    unfold sideAns
    have e4 : ldV (fun k => v (22 + k)) 8 0 = v 22 - ldV (fun k => v (22 + k)) 7 1 ↔ v 29 - ldV (fun k => v (22 + k)) 7 0 ≤ v 22 - ldV (fun k => v (22 + k)) 7 1 := by
      rw [e3]
      split <;> omega
    first
    | exact (if_pos (e4.mp h36.symm)).symm
    | exact (if_neg fun q => h36 (e4.mpr q).symm).symm
  · refine x_iconst dX1_side_39 rfl ?_
    refine x_goto (tgt := 44) dX1_side_40 (by decide) ?_
    refine x_ireturn rfl dX1_side_44 ?_
    refine hQ _ _ ⟨_, rfl, ?_, CO.o hC fun b k q1 q2 => f1 b k (by omega)⟩
    unfold sideAns
    have e4 : ldV (fun k => v (22 + k)) 8 0 = v 22 - ldV (fun k => v (22 + k)) 7 1 ↔ v 29 - ldV (fun k => v (22 + k)) 7 0 ≤ v 22 - ldV (fun k => v (22 + k)) 7 1 := by
      rw [e3]
      split <;> omega
    first
    | exact (if_pos (e4.mp h36.symm)).symm
    | exact (if_neg fun q => h36 (e4.mpr q).symm).symm
end X1

