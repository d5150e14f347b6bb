/-! GuestView: what is heard of the operations -/
section X1
variable {G : GW} {d : Nat} {M M1 : Mem} {a b c e k n x y op w st hi sz fa N i p T s : Int} {v vi : Vw} {A : Int → Vw} {tp : Int → Int}
theorem CO.hea (hC : CI M v n A hi vi tp sz fa N) : CO M v n A hi vi tp 0 fa N 0 0 (mI M 2 7 0) := by
  obtain ⟨hC1, hC54, hCA, hCR⟩ := id hC; obtain ⟨hS, hTab, hTx, hLn, hSk, hnx⟩ := id hC1; obtain ⟨hA, hL, hR⟩ := id hC54; obtain ⟨⟨s0, s199, s200, s201, s202, s203⟩, ⟨c0, c1, c2, c3, c4, c5, c6, c7, c8, c9, c10, c11, c12⟩, c203, hSt, m189, m191, g193, g196, ⟨⟨r2, r3, r4, r5, r6, r7, r53⟩, ⟨w0, w1, w2, w3, w4, w5, w6⟩, wx1, wx2, wx3⟩⟩ := id hS; have hv := hA.1; have hv8 := hv.n8; have hv0 := hv.1.1; have hv3 := hv.2.2.2.1; have hs54 := hSt 54 (by unfold SB; omega); obtain ⟨p0, p1, ⟨d0, d1, d2, d3, d4, d5, d6, d7⟩, ⟨t1, t2, t3, t4, t5, t6⟩, p5, p6, p7⟩ := id hs54; have t7 : msh M (54 + 7) = some (4, 0) := p5.2.1; have t10 : msh M (54 + 10) = some (4, 0) := p6.2.1; obtain ⟨hB, hW, hLw⟩ := id hR.1; obtain ⟨b1, b2, b3, b4, b5, b6, b7, b8, b9, b10, b11, b12, b13, b14, b15⟩ := id hB; obtain ⟨hn, hn2, hat, hAc⟩ := id hCA; obtain ⟨⟨hki, hhi⟩, hIm, ⟨htp, hsz, hsz2⟩, hfa⟩ := id hCR
  exact hC.rd (g := mci (mI M 2 7 0)) (fun b k q1 q2 q3 => rdI_n (by omega)) ((funext fun k => rdI_n (by omega)).trans htp) (rdI_e ⟨rfl, rfl⟩) (by omega) ((rdI_n (by omega)).trans hfa)
theorem s_X1_hears (hd : 14 ≤ d) (hC0 : CI M v n A hi vi tp sz fa N) (h1N : ∀ p, 0 ≤ p → p < v 0 → 1 ≤ opN v p) : CS G d mX1_hears [dR 0] M (orT (postI fun y M1 => toldOk tp sz ∧ y = fitV v tp sz 1 ∧ CO M v n A hi vi tp 0 fa N 0 0 M1 ∧ ∀ o, 0 ≤ o → o < v 0 → mci M1 199 o = wrgV v tp sz o) (fun a E M1 => CO M v n A hi vi tp 0 fa N 1 6 M1 ∧ ¬ toldOk tp sz ∧ E = "java/lang/IllegalArgumentException")) := by
  obtain ⟨M', hM'⟩ : ∃ M', M' = mI M 2 7 0 := ⟨_, rfl⟩
  have hCO := CO.hea hC0
  rw [← hM'] at hCO
  obtain ⟨hC, hCr⟩ := hCO
  have hz0 := hC0.2.2.2.2.2.1.2.2
  have s00 : msh M 0 = some (1, 0) := hC0.1.1.1.1
  obtain ⟨hC1, hC54, hCA, hCR⟩ := id hC; obtain ⟨hS, hTab, hTx, hLn, hSk, hnx⟩ := id hC1; obtain ⟨hA, hL, hR⟩ := id hC54; obtain ⟨⟨s0, s199, s200, s201, s202, s203⟩, ⟨c0, c1, c2, c3, c4, c5, c6, c7, c8, c9, c10, c11, c12⟩, c203, hSt, m189, m191, g193, g196, ⟨⟨r2, r3, r4, r5, r6, r7, r53⟩, ⟨w0, w1, w2, w3, w4, w5, w6⟩, wx1, wx2, wx3⟩⟩ := id hS; have hv := hA.1; have hv8 := hv.n8; have hv0 := hv.1.1; have hv3 := hv.2.2.2.1; have hs54 := hSt 54 (by unfold SB; omega); obtain ⟨p0, p1, ⟨d0, d1, d2, d3, d4, d5, d6, d7⟩, ⟨t1, t2, t3, t4, t5, t6⟩, p5, p6, p7⟩ := id hs54; have t7 : msh (M') (54 + 7) = some (4, 0) := p5.2.1; have t10 : msh (M') (54 + 10) = some (4, 0) := p6.2.1; obtain ⟨hB, hW, hLw⟩ := id hR.1; obtain ⟨b1, b2, b3, b4, b5, b6, b7, b8, b9, b10, b11, b12, b13, b14, b15⟩ := id hB; obtain ⟨hn, hn2, hat, hAc⟩ := id hCA; obtain ⟨⟨hki, hhi⟩, hIm, ⟨htp, hsz, hsz2⟩, hfa⟩ := id hCR
  have htk : ∀ k, mci M' 3 k = tp k := fun k => congrFun htp k
  refine CS.mkQ (by decide) (Nat.le_of_ble_eq_true rfl) fun Q hQ => ?_
  have lp : ∀ (t : Nat) (p x : Int) (g : Ci), (v 0 - p).toNat = t → (0 ≤ p ∧ p ≤ v 0) → (toldOk tp sz) → (∀ b k, b ≠ 199 → g b k = mci M' b k) → (∀ o, 0 ≤ o → o < p → g 199 o = wrgV v tp sz o) → (x = numR (fun p => wrgV v tp sz p ≤ 1) p.toNat) → WP G d mX1_hears 94 [some (dR 0), some (dI sz), some (dR 3), some (dI 1), some (dI x), some (dI p), none] [] (wI M' g) Q := by
    intro t
    induction t using Nat.strongRecOn with
    | _ t ih =>
      intro p x g ht h0 hok hg hw hx
      have gb1 : g 54 8 = v 0 := (hg _ _ (by omega)).trans b1
      have hr := num_r (fun p => wrgV v tp sz p ≤ 1) p.toNat
      have h8 := pw_le8 (t := p.toNat) (by omega)
      rw [show ((p.toNat : Nat) : Int) = p by omega] at hr h8
      have hs : numR (fun p => wrgV v tp sz p ≤ 1) (p + 1).toNat = numR (fun p => wrgV v tp sz p ≤ 1) p.toNat + (@ite Int (wrgV v tp sz p ≤ 1) (Classical.propDecidable _) (pw p) 0) := by
        rw [show (p + 1).toNat = p.toNat + 1 by omega, num_s, show ((p.toNat : Nat) : Int) = p by omega]
      by_cases hp : p < v 0
      · skip
        have lp2 : ∀ (t2 : Nat) (k : Int) (g : Ci), (sz - k).toNat = t2 → (0 ≤ k ∧ k ≤ sz) → (k % 2 = 0) → (∀ b k, b ≠ 199 → g b k = mci M' b k) → (∀ o, 0 ≤ o → o < p → g 199 o = wrgV v tp sz o) → (g 199 p = wrgR v tp p (k / 2).toNat) → WP G d mX1_hears 117 [some (dR 0), some (dI sz), some (dR 3), some (dI 1), some (dI x), some (dI p), some (dI k)] [] (wI M' g) Q := by
          intro t2
          induction t2 using Nat.strongRecOn with
          | _ t2 ih2 =>
            intro k g ht2 k0 k2 hg hw hc
            have gb1 : g 54 8 = v 0 := (hg _ _ (by omega)).trans b1
            have gt : ∀ k, g 3 k = tp k := fun k => (hg _ _ (by omega)).trans (htk k)
            have hCg : CI (wI M' g) v n A hi vi tp 0 fa N := (CO.o hC fun b k q1 q2 => hg b k (by omega)).1
            have hr2 := wrgR_r v tp p (k / 2).toNat
            have es : wrgR v tp p ((k + 2) / 2).toNat = wrgR v tp p (k / 2).toNat + (if toldV v p (tp k) = tp (k + 1) then 0 else 1) := by
              rw [show ((k + 2) / 2).toNat = (k / 2).toNat + 1 by omega]
              show wrgR v tp p (k / 2).toNat + (if toldV v p (tp (2 * (((k / 2).toNat : Nat) : Int))) = tp (2 * (((k / 2).toNat : Nat) : Int) + 1) then 0 else 1) = _
              rw [show 2 * (((k / 2).toNat : Nat) : Int) = k by omega]
            have ns : ∀ y, y = wrgR v tp p ((k + 2) / 2).toNat → k < sz → WP G d mX1_hears 117 [some (dR 0), some (dI sz), some (dR 3), some (dI 1), some (dI x), some (dI p), some (dI (k + 2))] [] (wI M' (up g 199 p y)) Q := fun y hy hk => ih2 _ (by omega) (k + 2) _ rfl (by have := hok.1; omega) (by omega) (fun b i q => (rdU_n (by omega)).trans (hg b i q)) (fun o q1 q2 => (rdU_n (by omega)).trans (hw o q1 q2)) ((rdU_e ⟨rfl, rfl⟩).trans hy)
            by_cases hk : k < sz
            · have ot := hok.2.2 k k0.1 hk k2
              have he1 := hok.1
              refine x_iload dX1_hears_117 rfl ?_
              refine x_iload_n dX1_hears_119 rfl rfl ?_
              refine x_icmp_ge (tgt := 163) dX1_hears_120 (by decide) (fun h120 => ?_) (fun h120 => ?_)
              · omega
              · refine x_aload_n dX1_hears_123 rfl rfl ?_
                refine g_getR (kI := 9) rfl dX1_hears_124 fX1_52_1 (by first | assumption | first | assumption | (simp (disch := omega) only [shI, shR, shL, shC, shD, shW, sh_V, shN_e, shN_n, crI, crL, crC, crW, crV, crR_e, crR_n, crN_e, crN_n, ciR, ciL, ciD, ciN_e, ciN_n, rdI_e, rdI_n, rdC_i, rdC_o, rdW, rdU_e, rdU_n, rdLW, clI, clR, clC, clD, clW, clV, clN_e, clN_n, clL_e, clL_n]; done) | (simp (disch := omega) only [shI, shR, shL, shC, shD, shW, sh_V, shN_e, shN_n, crI, crL, crC, crW, crV, crR_e, crR_n, crN_e, crN_n, ciR, ciL, ciD, ciN_e, ciN_n, rdI_e, rdI_n, rdC_i, rdC_o, rdW, rdU_e, rdU_n, rdLW, clI, clR, clC, clD, clW, clV, clN_e, clN_n, clL_e, clL_n] <;> first | assumption | rfl | omega)) (by first | assumption | first | assumption | (simp (disch := omega) only [shI, shR, shL, shC, shD, shW, sh_V, shN_e, shN_n, crI, crL, crC, crW, crV, crR_e, crR_n, crN_e, crN_n, ciR, ciL, ciD, ciN_e, ciN_n, rdI_e, rdI_n, rdC_i, rdC_o, rdW, rdU_e, rdU_n, rdLW, clI, clR, clC, clD, clW, clV, clN_e, clN_n, clL_e, clL_n]; done) | (simp (disch := omega) only [shI, shR, shL, shC, shD, shW, sh_V, shN_e, shN_n, crI, crL, crC, crW, crV, crR_e, crR_n, crN_e, crN_n, ciR, ciL, ciD, ciN_e, ciN_n, rdI_e, rdI_n, rdC_i, rdC_o, rdW, rdU_e, rdU_n, rdLW, clI, clR, clC, clD, clW, clV, clN_e, clN_n, clL_e, clL_n] <;> first | assumption | rfl | omega)) ?_
                refine x_iload dX1_hears_127 rfl ?_
                refine x_dup2 dX1_hears_129 rfl rfl ?_
                refine x_iald dX1_hears_130 (by first | assumption | first | assumption | (simp (disch := omega) only [shI, shR, shL, shC, shD, shW, sh_V, shN_e, shN_n, crI, crL, crC, crW, crV, crR_e, crR_n, crN_e, crN_n, ciR, ciL, ciD, ciN_e, ciN_n, rdI_e, rdI_n, rdC_i, rdC_o, rdW, rdU_e, rdU_n, rdLW, clI, clR, clC, clD, clW, clV, clN_e, clN_n, clL_e, clL_n]; done) | (simp (disch := omega) only [shI, shR, shL, shC, shD, shW, sh_V, shN_e, shN_n, crI, crL, crC, crW, crV, crR_e, crR_n, crN_e, crN_n, ciR, ciL, ciD, ciN_e, ciN_n, rdI_e, rdI_n, rdC_i, rdC_o, rdW, rdU_e, rdU_n, rdLW, clI, clR, clC, clD, clW, clV, clN_e, clN_n, clL_e, clL_n] <;> first | assumption | rfl | omega)) (by omega) (by omega) ?_
                try simp (disch := omega) only [rdI_e, rdI_n, rdC_i, rdC_o, rdW, rdR, rdU_e, rdU_n, rdLW, Int.add_zero, gt, hc, gb1]
                refine x_aload_n dX1_hears_131 rfl rfl ?_
                refine x_iload dX1_hears_132 rfl ?_
                refine x_aload_n dX1_hears_134 rfl rfl ?_
                refine x_iload dX1_hears_135 rfl ?_
                refine x_bald dX1_hears_137 (by first | assumption | first | assumption | (simp (disch := omega) only [shI, shR, shL, shC, shD, shW, sh_V, shN_e, shN_n, crI, crL, crC, crW, crV, crR_e, crR_n, crN_e, crN_n, ciR, ciL, ciD, ciN_e, ciN_n, rdI_e, rdI_n, rdC_i, rdC_o, rdW, rdU_e, rdU_n, rdLW, clI, clR, clC, clD, clW, clV, clN_e, clN_n, clL_e, clL_n]; done) | (simp (disch := omega) only [shI, shR, shL, shC, shD, shW, sh_V, shN_e, shN_n, crI, crL, crC, crW, crV, crR_e, crR_n, crN_e, crN_n, ciR, ciL, ciD, ciN_e, ciN_n, rdI_e, rdI_n, rdC_i, rdC_o, rdW, rdU_e, rdU_n, rdLW, clI, clR, clC, clD, clW, clV, clN_e, clN_n, clL_e, clL_n] <;> first | assumption | rfl | omega)) (by omega) (by omega) ?_
                try simp (disch := omega) only [rdI_e, rdI_n, rdC_i, rdC_o, rdW, rdR, rdU_e, rdU_n, rdLW, Int.add_zero, gt, hc, gb1]
                refine g_callI (vs := [_, _, _]) (d' := d - 1) rfl (s_X1_told (M := wI M' g) (by omega) hCg (by omega) ot.1 (h1N p (by omega) (by omega))) dX1_hears_138 kX1_393 (by omega) (by decide) rfl (Nat.le_of_ble_eq_true rfl) (rcv_o (by first | assumption | first | assumption | (simp (disch := omega) only [shI, shR, shL, shC, shD, shW, sh_V, shN_e, shN_n, crI, crL, crC, crW, crV, crR_e, crR_n, crN_e, crN_n, ciR, ciL, ciD, ciN_e, ciN_n, rdI_e, rdI_n, rdC_i, rdC_o, rdW, rdU_e, rdU_n, rdLW, clI, clR, clC, clD, clW, clV, clN_e, clN_n, clL_e, clL_n]; done) | (simp (disch := omega) only [shI, shR, shL, shC, shD, shW, sh_V, shN_e, shN_n, crI, crL, crC, crW, crV, crR_e, crR_n, crN_e, crN_n, ciR, ciL, ciD, ciN_e, ciN_n, rdI_e, rdI_n, rdC_i, rdC_o, rdW, rdU_e, rdU_n, rdLW, clI, clR, clC, clD, clW, clV, clN_e, clN_n, clL_e, clL_n] <;> first | assumption | rfl | omega)) rfl) (fun x138 M138 h138 => ?_)
                obtain ⟨e138, f138⟩ := h138
                have f138' := f138.symm
                subst f138'
                subst e138
                try simp (disch := omega) only [rdI_e, rdI_n, rdC_i, rdC_o, rdW, rdR, rdU_e, rdU_n, rdLW, Int.add_zero, gt, hc, gb1]
                refine x_aload_n dX1_hears_141 rfl rfl ?_
                refine x_iload dX1_hears_142 rfl ?_
                refine x_iconst dX1_hears_144 rfl ?_
                first | refine x_iaddN dX1_hears_145 (by unfold i32; omega) ?_ | refine x_iadd dX1_hears_145 ?_
                refine x_bald dX1_hears_146 (by first | assumption | first | assumption | (simp (disch := omega) only [shI, shR, shL, shC, shD, shW, sh_V, shN_e, shN_n, crI, crL, crC, crW, crV, crR_e, crR_n, crN_e, crN_n, ciR, ciL, ciD, ciN_e, ciN_n, rdI_e, rdI_n, rdC_i, rdC_o, rdW, rdU_e, rdU_n, rdLW, clI, clR, clC, clD, clW, clV, clN_e, clN_n, clL_e, clL_n]; done) | (simp (disch := omega) only [shI, shR, shL, shC, shD, shW, sh_V, shN_e, shN_n, crI, crL, crC, crW, crV, crR_e, crR_n, crN_e, crN_n, ciR, ciL, ciD, ciN_e, ciN_n, rdI_e, rdI_n, rdC_i, rdC_o, rdW, rdU_e, rdU_n, rdLW, clI, clR, clC, clD, clW, clV, clN_e, clN_n, clL_e, clL_n] <;> first | assumption | rfl | omega)) (by omega) (by omega) ?_
                try simp (disch := omega) only [rdI_e, rdI_n, rdC_i, rdC_o, rdW, rdR, rdU_e, rdU_n, rdLW, Int.add_zero, gt, hc, gb1]
                refine x_icmp_ne (tgt := 154) dX1_hears_147 (by decide) (fun h147 => ?_) (fun h147 => ?_)
                · refine x_iconst dX1_hears_154 rfl ?_
                  first | refine x_iaddN dX1_hears_155 (by unfold i32; omega) ?_ | refine x_iadd dX1_hears_155 ?_
                  refine x_iast (by omega) dX1_hears_156 (by first | assumption | first | assumption | (simp (disch := omega) only [shI, shR, shL, shC, shD, shW, sh_V, shN_e, shN_n, crI, crL, crC, crW, crV, crR_e, crR_n, crN_e, crN_n, ciR, ciL, ciD, ciN_e, ciN_n, rdI_e, rdI_n, rdC_i, rdC_o, rdW, rdU_e, rdU_n, rdLW, clI, clR, clC, clD, clW, clV, clN_e, clN_n, clL_e, clL_n]; done) | (simp (disch := omega) only [shI, shR, shL, shC, shD, shW, sh_V, shN_e, shN_n, crI, crL, crC, crW, crV, crR_e, crR_n, crN_e, crN_n, ciR, ciL, ciD, ciN_e, ciN_n, rdI_e, rdI_n, rdC_i, rdC_o, rdW, rdU_e, rdU_n, rdLW, clI, clR, clC, clD, clW, clV, clN_e, clN_n, clL_e, clL_n] <;> first | assumption | rfl | omega)) (by omega) (by omega) ?_
                  first | refine x_iincN (L' := [some _, some _, some _, some _, some _, some _, some _]) dX1_hears_157 rfl (by decide) (by unfold i32; omega) rfl ?_ | refine x_iinc (L' := [some _, some _, some _, some _, some _, some _, some _]) dX1_hears_157 rfl (by decide) rfl ?_
                  refine x_goto (tgt := 117) dX1_hears_160 (by decide) ?_
                  first
                  | (rw [if_pos h147] at es; exact ns _ (by omega) hk)
                  | (rw [if_neg h147] at es; exact ns _ (by omega) hk)
                · refine x_iconst dX1_hears_150 rfl ?_
                  refine x_goto (tgt := 155) dX1_hears_151 (by decide) ?_
                  first | refine x_iaddN dX1_hears_155 (by unfold i32; omega) ?_ | refine x_iadd dX1_hears_155 ?_
                  refine x_iast (by omega) dX1_hears_156 (by first | assumption | first | assumption | (simp (disch := omega) only [shI, shR, shL, shC, shD, shW, sh_V, shN_e, shN_n, crI, crL, crC, crW, crV, crR_e, crR_n, crN_e, crN_n, ciR, ciL, ciD, ciN_e, ciN_n, rdI_e, rdI_n, rdC_i, rdC_o, rdW, rdU_e, rdU_n, rdLW, clI, clR, clC, clD, clW, clV, clN_e, clN_n, clL_e, clL_n]; done) | (simp (disch := omega) only [shI, shR, shL, shC, shD, shW, sh_V, shN_e, shN_n, crI, crL, crC, crW, crV, crR_e, crR_n, crN_e, crN_n, ciR, ciL, ciD, ciN_e, ciN_n, rdI_e, rdI_n, rdC_i, rdC_o, rdW, rdU_e, rdU_n, rdLW, clI, clR, clC, clD, clW, clV, clN_e, clN_n, clL_e, clL_n] <;> first | assumption | rfl | omega)) (by omega) (by omega) ?_
                  first | refine x_iincN (L' := [some _, some _, some _, some _, some _, some _, some _]) dX1_hears_157 rfl (by decide) (by unfold i32; omega) rfl ?_ | refine x_iinc (L' := [some _, some _, some _, some _, some _, some _, some _]) dX1_hears_157 rfl (by decide) rfl ?_
                  refine x_goto (tgt := 117) dX1_hears_160 (by decide) ?_
                  first
                  | (rw [if_pos h147] at es; exact ns _ (by omega) hk)
                  | (rw [if_neg h147] at es; exact ns _ (by omega) hk)
            · have ek : k = sz := by omega
              have hcw : g 199 p = wrgV v tp sz p := by
                rw [hc, ek]; rfl
              refine x_iload dX1_hears_117 rfl ?_
              refine x_iload_n dX1_hears_119 rfl rfl ?_
              refine x_icmp_ge (tgt := 163) dX1_hears_120 (by decide) (fun h120 => ?_) (fun h120 => ?_)
              · refine x_iload dX1_hears_163 rfl ?_
                refine x_aload_n dX1_hears_165 rfl rfl ?_
                refine g_getR (kI := 9) rfl dX1_hears_166 fX1_52_1 (by first | assumption | first | assumption | (simp (disch := omega) only [shI, shR, shL, shC, shD, shW, sh_V, shN_e, shN_n, crI, crL, crC, crW, crV, crR_e, crR_n, crN_e, crN_n, ciR, ciL, ciD, ciN_e, ciN_n, rdI_e, rdI_n, rdC_i, rdC_o, rdW, rdU_e, rdU_n, rdLW, clI, clR, clC, clD, clW, clV, clN_e, clN_n, clL_e, clL_n]; done) | (simp (disch := omega) only [shI, shR, shL, shC, shD, shW, sh_V, shN_e, shN_n, crI, crL, crC, crW, crV, crR_e, crR_n, crN_e, crN_n, ciR, ciL, ciD, ciN_e, ciN_n, rdI_e, rdI_n, rdC_i, rdC_o, rdW, rdU_e, rdU_n, rdLW, clI, clR, clC, clD, clW, clV, clN_e, clN_n, clL_e, clL_n] <;> first | assumption | rfl | omega)) (by first | assumption | first | assumption | (simp (disch := omega) only [shI, shR, shL, shC, shD, shW, sh_V, shN_e, shN_n, crI, crL, crC, crW, crV, crR_e, crR_n, crN_e, crN_n, ciR, ciL, ciD, ciN_e, ciN_n, rdI_e, rdI_n, rdC_i, rdC_o, rdW, rdU_e, rdU_n, rdLW, clI, clR, clC, clD, clW, clV, clN_e, clN_n, clL_e, clL_n]; done) | (simp (disch := omega) only [shI, shR, shL, shC, shD, shW, sh_V, shN_e, shN_n, crI, crL, crC, crW, crV, crR_e, crR_n, crN_e, crN_n, ciR, ciL, ciD, ciN_e, ciN_n, rdI_e, rdI_n, rdC_i, rdC_o, rdW, rdU_e, rdU_n, rdLW, clI, clR, clC, clD, clW, clV, clN_e, clN_n, clL_e, clL_n] <;> first | assumption | rfl | omega)) ?_
                refine x_iload dX1_hears_169 rfl ?_
                refine x_iald dX1_hears_171 (by first | assumption | first | assumption | (simp (disch := omega) only [shI, shR, shL, shC, shD, shW, sh_V, shN_e, shN_n, crI, crL, crC, crW, crV, crR_e, crR_n, crN_e, crN_n, ciR, ciL, ciD, ciN_e, ciN_n, rdI_e, rdI_n, rdC_i, rdC_o, rdW, rdU_e, rdU_n, rdLW, clI, clR, clC, clD, clW, clV, clN_e, clN_n, clL_e, clL_n]; done) | (simp (disch := omega) only [shI, shR, shL, shC, shD, shW, sh_V, shN_e, shN_n, crI, crL, crC, crW, crV, crR_e, crR_n, crN_e, crN_n, ciR, ciL, ciD, ciN_e, ciN_n, rdI_e, rdI_n, rdC_i, rdC_o, rdW, rdU_e, rdU_n, rdLW, clI, clR, clC, clD, clW, clV, clN_e, clN_n, clL_e, clL_n] <;> first | assumption | rfl | omega)) (by omega) (by omega) ?_
                try simp (disch := omega) only [rdI_e, rdI_n, rdC_i, rdC_o, rdW, rdR, rdU_e, rdU_n, rdLW, Int.add_zero, hcw, gb1]
                refine x_iconst dX1_hears_172 rfl ?_
                refine x_icmp_gt (tgt := 183) dX1_hears_173 (by decide) (fun h173 => ?_) (fun h173 => ?_)
                · refine x_iconst dX1_hears_183 rfl ?_
                  refine x_ior dX1_hears_184 ?_
                  first
                  | rw [jshl_1 (by omega), hx, jor_lt (by omega) hr]
                  | rw [hx, jor_z (by omega)]
                  refine x_istore (L' := [some _, some _, some _, some _, some _, some _, some _]) dX1_hears_185 (by decide) rfl ?_
                  first | refine x_iincN (L' := [some _, some _, some _, some _, some _, some _, some _]) dX1_hears_187 rfl (by decide) (by unfold i32; omega) rfl ?_ | refine x_iinc (L' := [some _, some _, some _, some _, some _, some _, some _]) dX1_hears_187 rfl (by decide) rfl ?_
                  refine x_goto (tgt := 94) dX1_hears_190 (by decide) ?_
                  refine x_fgt (L' := [some (dR 0), some (dI sz), some (dR 3), some (dI 1), some (dI _), some (dI (p + 1)), none]) (by repeat (first | exact trivial | refine ⟨rfl, ?_⟩)) (ih _ (by omega) (p + 1) _ g rfl (by omega) hok hg (fun o q1 q2 => ?_) ?_)
                  · by_cases q : o = p
                    · rw [q]; exact hcw
                    · exact hw o q1 (by omega)
                  · first
                    | (rw [if_pos (show wrgV v tp sz p ≤ 1 by omega)] at hs
                       exact hs.symm)
                    | (rw [if_neg (show ¬ wrgV v tp sz p ≤ 1 by omega), Int.add_zero] at hs
                       exact hs.symm)
                · refine x_iconst dX1_hears_176 rfl ?_
                  refine x_iload dX1_hears_177 rfl ?_
                  refine x_ishl dX1_hears_179 ?_
                  refine x_goto (tgt := 184) dX1_hears_180 (by decide) ?_
                  refine x_ior dX1_hears_184 ?_
                  first
                  | rw [jshl_1 (by omega), hx, jor_lt (by omega) hr]
                  | rw [hx, jor_z (by omega)]
                  refine x_istore (L' := [some _, some _, some _, some _, some _, some _, some _]) dX1_hears_185 (by decide) rfl ?_
                  first | refine x_iincN (L' := [some _, some _, some _, some _, some _, some _, some _]) dX1_hears_187 rfl (by decide) (by unfold i32; omega) rfl ?_ | refine x_iinc (L' := [some _, some _, some _, some _, some _, some _, some _]) dX1_hears_187 rfl (by decide) rfl ?_
                  refine x_goto (tgt := 94) dX1_hears_190 (by decide) ?_
                  refine x_fgt (L' := [some (dR 0), some (dI sz), some (dR 3), some (dI 1), some (dI _), some (dI (p + 1)), none]) (by repeat (first | exact trivial | refine ⟨rfl, ?_⟩)) (ih _ (by omega) (p + 1) _ g rfl (by omega) hok hg (fun o q1 q2 => ?_) ?_)
                  · by_cases q : o = p
                    · rw [q]; exact hcw
                    · exact hw o q1 (by omega)
                  · first
                    | (rw [if_pos (show wrgV v tp sz p ≤ 1 by omega)] at hs
                       exact hs.symm)
                    | (rw [if_neg (show ¬ wrgV v tp sz p ≤ 1 by omega), Int.add_zero] at hs
                       exact hs.symm)
              · omega
        refine x_iload dX1_hears_94 rfl ?_
        refine x_aload_n dX1_hears_96 rfl rfl ?_
        refine g_getR (kI := 1) rfl dX1_hears_97 fX1_22_1 (by first | assumption | first | assumption | (simp (disch := omega) only [shI, shR, shL, shC, shD, shW, sh_V, shN_e, shN_n, crI, crL, crC, crW, crV, crR_e, crR_n, crN_e, crN_n, ciR, ciL, ciD, ciN_e, ciN_n, rdI_e, rdI_n, rdC_i, rdC_o, rdW, rdU_e, rdU_n, rdLW, clI, clR, clC, clD, clW, clV, clN_e, clN_n, clL_e, clL_n]; done) | (simp (disch := omega) only [shI, shR, shL, shC, shD, shW, sh_V, shN_e, shN_n, crI, crL, crC, crW, crV, crR_e, crR_n, crN_e, crN_n, ciR, ciL, ciD, ciN_e, ciN_n, rdI_e, rdI_n, rdC_i, rdC_o, rdW, rdU_e, rdU_n, rdLW, clI, clR, clC, clD, clW, clV, clN_e, clN_n, clL_e, clL_n] <;> first | assumption | rfl | omega)) (by first | assumption | first | assumption | (simp (disch := omega) only [shI, shR, shL, shC, shD, shW, sh_V, shN_e, shN_n, crI, crL, crC, crW, crV, crR_e, crR_n, crN_e, crN_n, ciR, ciL, ciD, ciN_e, ciN_n, rdI_e, rdI_n, rdC_i, rdC_o, rdW, rdU_e, rdU_n, rdLW, clI, clR, clC, clD, clW, clV, clN_e, clN_n, clL_e, clL_n]; done) | (simp (disch := omega) only [shI, shR, shL, shC, shD, shW, sh_V, shN_e, shN_n, crI, crL, crC, crW, crV, crR_e, crR_n, crN_e, crN_n, ciR, ciL, ciD, ciN_e, ciN_n, rdI_e, rdI_n, rdC_i, rdC_o, rdW, rdU_e, rdU_n, rdLW, clI, clR, clC, clD, clW, clV, clN_e, clN_n, clL_e, clL_n] <;> first | assumption | rfl | omega)) ?_
        refine g_getI (kI := 8) rfl dX1_hears_100 fX1_101_3 (by first | assumption | first | assumption | (simp (disch := omega) only [shI, shR, shL, shC, shD, shW, sh_V, shN_e, shN_n, crI, crL, crC, crW, crV, crR_e, crR_n, crN_e, crN_n, ciR, ciL, ciD, ciN_e, ciN_n, rdI_e, rdI_n, rdC_i, rdC_o, rdW, rdU_e, rdU_n, rdLW, clI, clR, clC, clD, clW, clV, clN_e, clN_n, clL_e, clL_n]; done) | (simp (disch := omega) only [shI, shR, shL, shC, shD, shW, sh_V, shN_e, shN_n, crI, crL, crC, crW, crV, crR_e, crR_n, crN_e, crN_n, ciR, ciL, ciD, ciN_e, ciN_n, rdI_e, rdI_n, rdC_i, rdC_o, rdW, rdU_e, rdU_n, rdLW, clI, clR, clC, clD, clW, clV, clN_e, clN_n, clL_e, clL_n] <;> first | assumption | rfl | omega)) ?_
        try simp (disch := omega) only [rdI_e, rdI_n, rdC_i, rdC_o, rdW, rdR, rdU_e, rdU_n, rdLW, Int.add_zero, gb1]
        refine x_icmp_ge (tgt := 193) dX1_hears_103 (by decide) (fun h103 => ?_) (fun h103 => ?_)
        · omega
        · refine x_aload_n dX1_hears_106 rfl rfl ?_
          refine g_getR (kI := 9) rfl dX1_hears_107 fX1_52_1 (by first | assumption | first | assumption | (simp (disch := omega) only [shI, shR, shL, shC, shD, shW, sh_V, shN_e, shN_n, crI, crL, crC, crW, crV, crR_e, crR_n, crN_e, crN_n, ciR, ciL, ciD, ciN_e, ciN_n, rdI_e, rdI_n, rdC_i, rdC_o, rdW, rdU_e, rdU_n, rdLW, clI, clR, clC, clD, clW, clV, clN_e, clN_n, clL_e, clL_n]; done) | (simp (disch := omega) only [shI, shR, shL, shC, shD, shW, sh_V, shN_e, shN_n, crI, crL, crC, crW, crV, crR_e, crR_n, crN_e, crN_n, ciR, ciL, ciD, ciN_e, ciN_n, rdI_e, rdI_n, rdC_i, rdC_o, rdW, rdU_e, rdU_n, rdLW, clI, clR, clC, clD, clW, clV, clN_e, clN_n, clL_e, clL_n] <;> first | assumption | rfl | omega)) (by first | assumption | first | assumption | (simp (disch := omega) only [shI, shR, shL, shC, shD, shW, sh_V, shN_e, shN_n, crI, crL, crC, crW, crV, crR_e, crR_n, crN_e, crN_n, ciR, ciL, ciD, ciN_e, ciN_n, rdI_e, rdI_n, rdC_i, rdC_o, rdW, rdU_e, rdU_n, rdLW, clI, clR, clC, clD, clW, clV, clN_e, clN_n, clL_e, clL_n]; done) | (simp (disch := omega) only [shI, shR, shL, shC, shD, shW, sh_V, shN_e, shN_n, crI, crL, crC, crW, crV, crR_e, crR_n, crN_e, crN_n, ciR, ciL, ciD, ciN_e, ciN_n, rdI_e, rdI_n, rdC_i, rdC_o, rdW, rdU_e, rdU_n, rdLW, clI, clR, clC, clD, clW, clV, clN_e, clN_n, clL_e, clL_n] <;> first | assumption | rfl | omega)) ?_
          refine x_iload dX1_hears_110 rfl ?_
          refine x_iconst dX1_hears_112 rfl ?_
          refine x_iast (by omega) dX1_hears_113 (by first | assumption | first | assumption | (simp (disch := omega) only [shI, shR, shL, shC, shD, shW, sh_V, shN_e, shN_n, crI, crL, crC, crW, crV, crR_e, crR_n, crN_e, crN_n, ciR, ciL, ciD, ciN_e, ciN_n, rdI_e, rdI_n, rdC_i, rdC_o, rdW, rdU_e, rdU_n, rdLW, clI, clR, clC, clD, clW, clV, clN_e, clN_n, clL_e, clL_n]; done) | (simp (disch := omega) only [shI, shR, shL, shC, shD, shW, sh_V, shN_e, shN_n, crI, crL, crC, crW, crV, crR_e, crR_n, crN_e, crN_n, ciR, ciL, ciD, ciN_e, ciN_n, rdI_e, rdI_n, rdC_i, rdC_o, rdW, rdU_e, rdU_n, rdLW, clI, clR, clC, clD, clW, clV, clN_e, clN_n, clL_e, clL_n] <;> first | assumption | rfl | omega)) (by omega) (by omega) ?_
          refine x_iconst dX1_hears_114 rfl ?_
          refine x_istore (L' := [some _, some _, some _, some _, some _, some _, some _]) dX1_hears_115 (by decide) rfl ?_
          exact lp2 _ 0 (up g 199 p 0) rfl (by omega) rfl (fun b i q => (rdU_n (by omega)).trans (hg b i q)) (fun o q1 q2 => (rdU_n (by omega)).trans (hw o q1 q2)) (rdU_e ⟨rfl, rfl⟩)
      · refine x_iload dX1_hears_94 rfl ?_
        refine x_aload_n dX1_hears_96 rfl rfl ?_
        refine g_getR (kI := 1) rfl dX1_hears_97 fX1_22_1 (by first | assumption | first | assumption | (simp (disch := omega) only [shI, shR, shL, shC, shD, shW, sh_V, shN_e, shN_n, crI, crL, crC, crW, crV, crR_e, crR_n, crN_e, crN_n, ciR, ciL, ciD, ciN_e, ciN_n, rdI_e, rdI_n, rdC_i, rdC_o, rdW, rdU_e, rdU_n, rdLW, clI, clR, clC, clD, clW, clV, clN_e, clN_n, clL_e, clL_n]; done) | (simp (disch := omega) only [shI, shR, shL, shC, shD, shW, sh_V, shN_e, shN_n, crI, crL, crC, crW, crV, crR_e, crR_n, crN_e, crN_n, ciR, ciL, ciD, ciN_e, ciN_n, rdI_e, rdI_n, rdC_i, rdC_o, rdW, rdU_e, rdU_n, rdLW, clI, clR, clC, clD, clW, clV, clN_e, clN_n, clL_e, clL_n] <;> first | assumption | rfl | omega)) (by first | assumption | first | assumption | (simp (disch := omega) only [shI, shR, shL, shC, shD, shW, sh_V, shN_e, shN_n, crI, crL, crC, crW, crV, crR_e, crR_n, crN_e, crN_n, ciR, ciL, ciD, ciN_e, ciN_n, rdI_e, rdI_n, rdC_i, rdC_o, rdW, rdU_e, rdU_n, rdLW, clI, clR, clC, clD, clW, clV, clN_e, clN_n, clL_e, clL_n]; done) | (simp (disch := omega) only [shI, shR, shL, shC, shD, shW, sh_V, shN_e, shN_n, crI, crL, crC, crW, crV, crR_e, crR_n, crN_e, crN_n, ciR, ciL, ciD, ciN_e, ciN_n, rdI_e, rdI_n, rdC_i, rdC_o, rdW, rdU_e, rdU_n, rdLW, clI, clR, clC, clD, clW, clV, clN_e, clN_n, clL_e, clL_n] <;> first | assumption | rfl | omega)) ?_
        refine g_getI (kI := 8) rfl dX1_hears_100 fX1_101_3 (by first | assumption | first | assumption | (simp (disch := omega) only [shI, shR, shL, shC, shD, shW, sh_V, shN_e, shN_n, crI, crL, crC, crW, crV, crR_e, crR_n, crN_e, crN_n, ciR, ciL, ciD, ciN_e, ciN_n, rdI_e, rdI_n, rdC_i, rdC_o, rdW, rdU_e, rdU_n, rdLW, clI, clR, clC, clD, clW, clV, clN_e, clN_n, clL_e, clL_n]; done) | (simp (disch := omega) only [shI, shR, shL, shC, shD, shW, sh_V, shN_e, shN_n, crI, crL, crC, crW, crV, crR_e, crR_n, crN_e, crN_n, ciR, ciL, ciD, ciN_e, ciN_n, rdI_e, rdI_n, rdC_i, rdC_o, rdW, rdU_e, rdU_n, rdLW, clI, clR, clC, clD, clW, clV, clN_e, clN_n, clL_e, clL_n] <;> first | assumption | rfl | omega)) ?_
        try simp (disch := omega) only [rdI_e, rdI_n, rdC_i, rdC_o, rdW, rdR, rdU_e, rdU_n, rdLW, Int.add_zero, gb1]
        refine x_icmp_ge (tgt := 193) dX1_hears_103 (by decide) (fun h103 => ?_) (fun h103 => ?_)
        · refine x_iload dX1_hears_193 rfl ?_
          refine x_ireturn rfl dX1_hears_195 ?_
          refine hQ _ _ (Or.inl ⟨_, rfl, hok, ?_, CO.tr hCr (CO.o hC fun b k q1 q2 => hg b k (by omega)), fun o q1 q2 => hw o q1 (by omega)⟩)
          unfold fitV
          rw [hx, show p = v 0 by omega]
        · omega
  have lpa : ∀ (t3 : Nat) (k y : Int), (sz - k).toNat = t3 → (0 ≤ k) → (k ≤ sz ∨ y = 0) → (k % 2 = 0) → (k ≤ 402) → (y = vP (sz % 2 = 0 ∧ sz ≤ 40 ∧ ∀ j, 0 ≤ j → j < k → j < sz → j % 2 = 0 → (0 ≤ tp j ∧ tp j ≤ 6) ∧ 0 ≤ tp (j + 1) ∧ tp (j + 1) ≤ 10)) → WP G d mX1_hears 34 [some (dR 0), some (dI sz), some (dR 3), some (dI y), some (dI k), none, none] [] (M') Q := by
    intro t3
    induction t3 using Nat.strongRecOn with
    | _ t3 ih3 =>
      intro k y ht3 k0 k1 k2 k3 hy
      have hy01 : y = 0 ∨ y = 1 := by rw [hy]; exact vP_r _
      by_cases hgo : k < sz ∧ y = 1
      · have hq := vP_1.mp (hy.symm.trans hgo.2)
        have step : ∀ P : Prop, (P ↔ (0 ≤ tp k ∧ tp k ≤ 6) ∧ 0 ≤ tp (k + 1) ∧ tp (k + 1) ≤ 10) → vP P = vP (sz % 2 = 0 ∧ sz ≤ 40 ∧ ∀ j, 0 ≤ j → j < k + 2 → j < sz → j % 2 = 0 → (0 ≤ tp j ∧ tp j ≤ 6) ∧ 0 ≤ tp (j + 1) ∧ tp (j + 1) ≤ 10) := fun P hP => vP_c ⟨fun h => ⟨hq.1, hq.2.1, fun j j0 j1 j2 j3 => by
            by_cases e : j = k
            · subst e; exact hP.mp h
            · exact hq.2.2 j j0 (by omega) j2 j3⟩, fun h => hP.mpr (h.2.2 k k0 (by omega) hgo.1 k2)⟩
        have hn2 := hq.1
        have hn4 := hq.2.1
        refine x_iload dX1_hears_34 rfl ?_
        refine x_iload_n dX1_hears_36 rfl rfl ?_
        refine x_icmp_ge (tgt := 84) dX1_hears_37 (by decide) (fun h37 => ?_) (fun h37 => ?_)
        · omega
        · refine x_iload_n dX1_hears_40 rfl rfl ?_
          refine x_if_eq (tgt := 84) dX1_hears_41 (by decide) (fun h41 => ?_) (fun h41 => ?_)
          · omega
          · refine x_aload_n dX1_hears_44 rfl rfl ?_
            refine x_iload dX1_hears_45 rfl ?_
            refine x_bald dX1_hears_47 (by first | assumption | first | assumption | (simp (disch := omega) only [shI, shR, shL, shC, shD, shW, sh_V, shN_e, shN_n, crI, crL, crC, crW, crV, crR_e, crR_n, crN_e, crN_n, ciR, ciL, ciD, ciN_e, ciN_n, rdI_e, rdI_n, rdC_i, rdC_o, rdW, rdU_e, rdU_n, rdLW, clI, clR, clC, clD, clW, clV, clN_e, clN_n, clL_e, clL_n]; done) | (simp (disch := omega) only [shI, shR, shL, shC, shD, shW, sh_V, shN_e, shN_n, crI, crL, crC, crW, crV, crR_e, crR_n, crN_e, crN_n, ciR, ciL, ciD, ciN_e, ciN_n, rdI_e, rdI_n, rdC_i, rdC_o, rdW, rdU_e, rdU_n, rdLW, clI, clR, clC, clD, clW, clV, clN_e, clN_n, clL_e, clL_n] <;> first | assumption | rfl | omega)) (by omega) (by omega) ?_
            try simp (disch := omega) only [rdI_e, rdI_n, rdC_i, rdC_o, rdW, rdR, rdU_e, rdU_n, rdLW, Int.add_zero, htk]
            refine x_iconst dX1_hears_48 rfl ?_
            refine x_bipush dX1_hears_49 rfl ?_
            refine g_callI (vs := [_, _, _]) (d' := d - 1) rfl (s_X1_isIn (by omega)) dX1_hears_51 kX1_104 (by omega) (by decide) rfl (Nat.le_of_ble_eq_true rfl) (rcv_n) (fun x51 M51 h51 => ?_)
            obtain ⟨e51, f51⟩ := h51
            have f51' := f51.symm
            subst f51'
            subst e51
            try simp (disch := omega) only [rdI_e, rdI_n, rdC_i, rdC_o, rdW, rdR, rdU_e, rdU_n, rdLW, Int.add_zero, htk]
            refine x_if_eq (tgt := 76) dX1_hears_54 (by decide) (fun h54 => ?_) (fun h54 => ?_)
            · try simp only [vP_0, vP_1, vP_n0, vP_n1, Classical.not_not] at h54
              refine x_iconst dX1_hears_76 rfl ?_
              refine x_istore_n (L' := [some _, some _, some _, some _, some _, none, none]) dX1_hears_77 rfl (by decide) rfl ?_
              first | refine x_iincN (L' := [some _, some _, some _, some _, some _, none, none]) dX1_hears_78 rfl (by decide) (by unfold i32; omega) rfl ?_ | refine x_iinc (L' := [some _, some _, some _, some _, some _, none, none]) dX1_hears_78 rfl (by decide) rfl ?_
              refine x_goto (tgt := 34) dX1_hears_81 (by decide) ?_
              refine ih3 _ (by omega) (k + 2) _ rfl (by omega) (by omega) (by omega) (by omega) ?_
              rw [← step _ Iff.rfl]
              first
              | exact (vP_t ⟨h54, h69⟩).symm
              | (refine Eq.symm (vP_f ?_)
                 rintro ⟨q1, q2⟩
                 first | exact h54 q1 | exact h69 q2)
            · try simp only [vP_0, vP_1, vP_n0, vP_n1, Classical.not_not] at h54
              refine x_aload_n dX1_hears_57 rfl rfl ?_
              refine x_iload dX1_hears_58 rfl ?_
              refine x_iconst dX1_hears_60 rfl ?_
              first | refine x_iaddN dX1_hears_61 (by unfold i32; omega) ?_ | refine x_iadd dX1_hears_61 ?_
              refine x_bald dX1_hears_62 (by first | assumption | first | assumption | (simp (disch := omega) only [shI, shR, shL, shC, shD, shW, sh_V, shN_e, shN_n, crI, crL, crC, crW, crV, crR_e, crR_n, crN_e, crN_n, ciR, ciL, ciD, ciN_e, ciN_n, rdI_e, rdI_n, rdC_i, rdC_o, rdW, rdU_e, rdU_n, rdLW, clI, clR, clC, clD, clW, clV, clN_e, clN_n, clL_e, clL_n]; done) | (simp (disch := omega) only [shI, shR, shL, shC, shD, shW, sh_V, shN_e, shN_n, crI, crL, crC, crW, crV, crR_e, crR_n, crN_e, crN_n, ciR, ciL, ciD, ciN_e, ciN_n, rdI_e, rdI_n, rdC_i, rdC_o, rdW, rdU_e, rdU_n, rdLW, clI, clR, clC, clD, clW, clV, clN_e, clN_n, clL_e, clL_n] <;> first | assumption | rfl | omega)) (by omega) (by omega) ?_
              try simp (disch := omega) only [rdI_e, rdI_n, rdC_i, rdC_o, rdW, rdR, rdU_e, rdU_n, rdLW, Int.add_zero, htk]
              refine x_iconst dX1_hears_63 rfl ?_
              refine x_bipush dX1_hears_64 rfl ?_
              refine g_callI (vs := [_, _, _]) (d' := d - 1) rfl (s_X1_isIn (by omega)) dX1_hears_66 kX1_104 (by omega) (by decide) rfl (Nat.le_of_ble_eq_true rfl) (rcv_n) (fun x66 M66 h66 => ?_)
              obtain ⟨e66, f66⟩ := h66
              have f66' := f66.symm
              subst f66'
              subst e66
              try simp (disch := omega) only [rdI_e, rdI_n, rdC_i, rdC_o, rdW, rdR, rdU_e, rdU_n, rdLW, Int.add_zero, htk]
              refine x_if_eq (tgt := 76) dX1_hears_69 (by decide) (fun h69 => ?_) (fun h69 => ?_)
              · try simp only [vP_0, vP_1, vP_n0, vP_n1, Classical.not_not] at h69
                refine x_iconst dX1_hears_76 rfl ?_
                refine x_istore_n (L' := [some _, some _, some _, some _, some _, none, none]) dX1_hears_77 rfl (by decide) rfl ?_
                first | refine x_iincN (L' := [some _, some _, some _, some _, some _, none, none]) dX1_hears_78 rfl (by decide) (by unfold i32; omega) rfl ?_ | refine x_iinc (L' := [some _, some _, some _, some _, some _, none, none]) dX1_hears_78 rfl (by decide) rfl ?_
                refine x_goto (tgt := 34) dX1_hears_81 (by decide) ?_
                refine ih3 _ (by omega) (k + 2) _ rfl (by omega) (by omega) (by omega) (by omega) ?_
                rw [← step _ Iff.rfl]
                first
                | exact (vP_t ⟨h54, h69⟩).symm
                | (refine Eq.symm (vP_f ?_)
                   rintro ⟨q1, q2⟩
                   first | exact h54 q1 | exact h69 q2)
              · try simp only [vP_0, vP_1, vP_n0, vP_n1, Classical.not_not] at h69
                refine x_iconst dX1_hears_72 rfl ?_
                refine x_goto (tgt := 77) dX1_hears_73 (by decide) ?_
                refine x_istore_n (L' := [some _, some _, some _, some _, some _, none, none]) dX1_hears_77 rfl (by decide) rfl ?_
                first | refine x_iincN (L' := [some _, some _, some _, some _, some _, none, none]) dX1_hears_78 rfl (by decide) (by unfold i32; omega) rfl ?_ | refine x_iinc (L' := [some _, some _, some _, some _, some _, none, none]) dX1_hears_78 rfl (by decide) rfl ?_
                refine x_goto (tgt := 34) dX1_hears_81 (by decide) ?_
                refine ih3 _ (by omega) (k + 2) _ rfl (by omega) (by omega) (by omega) (by omega) ?_
                rw [← step _ Iff.rfl]
                first
                | exact (vP_t ⟨h54, h69⟩).symm
                | (refine Eq.symm (vP_f ?_)
                   rintro ⟨q1, q2⟩
                   first | exact h54 q1 | exact h69 q2)
      · have fin : y = vP (toldOk tp sz) := by
          rw [hy]
          rcases hy01 with y0 | y1
          · rw [y0] at hy
            have hq := vP_0.mp hy.symm
            rw [vP_f hq]
            exact (vP_f fun q => hq ⟨q.1, q.2.1, fun j j0 _ j2 j3 => q.2.2 j j0 j2 j3⟩).symm
          · exact vP_c ⟨fun q => ⟨q.1, q.2.1, fun j j0 j1 j3 => q.2.2 j j0 (by omega) j1 j3⟩, fun q => ⟨q.1, q.2.1, fun j j0 _ j2 j3 => q.2.2 j j0 j2 j3⟩⟩
        have lk := lp (v 0 - 0).toNat 0 0 (mci M') rfl (by omega)
        refine x_iload dX1_hears_34 rfl ?_
        refine x_iload_n dX1_hears_36 rfl rfl ?_
        refine x_icmp_ge (tgt := 84) dX1_hears_37 (by decide) (fun h37 => ?_) (fun h37 => ?_)
        · refine x_iload_n dX1_hears_84 rfl rfl ?_
          refine g_callNX (vs := [_]) (d' := d - 1) rfl (s_X1_must (by omega) hy01) dX1_hears_85 kX1_116 (by omega) (by decide) rfl (Nat.le_of_ble_eq_true rfl) (rcv_n) (fun M85 h85 => ?_) (fun a85 E85 M85 h85 => ?_)
          · obtain ⟨q85, e85⟩ := h85
            subst e85
            refine x_iconst dX1_hears_88 rfl ?_
            refine x_istore (L' := [some _, some _, some _, some _, some _, none, none]) dX1_hears_89 (by decide) rfl ?_
            refine x_iconst dX1_hears_91 rfl ?_
            refine x_istore (L' := [some _, some _, some _, some _, some _, some _, none]) dX1_hears_92 (by decide) rfl ?_
            rw [q85] at fin ⊢
            exact x_fgt (L' := [some (dR 0), some (dI sz), some (dR 3), some (dI 1), some (dI 0), some (dI 0), none]) (by repeat (first | exact trivial | refine ⟨rfl, ?_⟩)) (lk (vP_1.mp fin.symm) (fun _ _ _ => rfl) (fun o q1 q2 => by omega) rfl)
          · obtain ⟨q85, eE85, eM85⟩ := h85
            subst eE85
            subst eM85
            exact th_nil rfl (hQ _ _ (Or.inr ⟨_, _, rfl, CO.tr hCr (CO.xx hC), vP_0.mp (fin.symm.trans q85), rfl⟩))
        · refine x_iload_n dX1_hears_40 rfl rfl ?_
          refine x_if_eq (tgt := 84) dX1_hears_41 (by decide) (fun h41 => ?_) (fun h41 => ?_)
          · refine x_iload_n dX1_hears_84 rfl rfl ?_
            refine g_callNX (vs := [_]) (d' := d - 1) rfl (s_X1_must (by omega) hy01) dX1_hears_85 kX1_116 (by omega) (by decide) rfl (Nat.le_of_ble_eq_true rfl) (rcv_n) (fun M85 h85 => ?_) (fun a85 E85 M85 h85 => ?_)
            · obtain ⟨q85, e85⟩ := h85
              subst e85
              refine x_iconst dX1_hears_88 rfl ?_
              refine x_istore (L' := [some _, some _, some _, some _, some _, none, none]) dX1_hears_89 (by decide) rfl ?_
              refine x_iconst dX1_hears_91 rfl ?_
              refine x_istore (L' := [some _, some _, some _, some _, some _, some _, none]) dX1_hears_92 (by decide) rfl ?_
              rw [q85] at fin ⊢
              exact x_fgt (L' := [some (dR 0), some (dI sz), some (dR 3), some (dI 1), some (dI 0), some (dI 0), none]) (by repeat (first | exact trivial | refine ⟨rfl, ?_⟩)) (lk (vP_1.mp fin.symm) (fun _ _ _ => rfl) (fun o q1 q2 => by omega) rfl)
            · obtain ⟨q85, eE85, eM85⟩ := h85
              subst eE85
              subst eM85
              exact th_nil rfl (hQ _ _ (Or.inr ⟨_, _, rfl, CO.tr hCr (CO.xx hC), vP_0.mp (fin.symm.trans q85), rfl⟩))
          · omega
  refine x_aload_n dX1_hears_0 rfl rfl ?_
  refine g_callI (vs := [_]) (d' := d - 1) rfl (s_X1_took (by omega) hC0) dX1_hears_1 kX1_135 (by omega) (by decide) rfl (Nat.le_of_ble_eq_true rfl) (rcv_o (by first | assumption | first | assumption | (simp (disch := omega) only [shI, shR, shL, shC, shD, shW, sh_V, shN_e, shN_n, crI, crL, crC, crW, crV, crR_e, crR_n, crN_e, crN_n, ciR, ciL, ciD, ciN_e, ciN_n, rdI_e, rdI_n, rdC_i, rdC_o, rdW, rdU_e, rdU_n, rdLW, clI, clR, clC, clD, clW, clV, clN_e, clN_n, clL_e, clL_n]; done) | (simp (disch := omega) only [shI, shR, shL, shC, shD, shW, sh_V, shN_e, shN_n, crI, crL, crC, crW, crV, crR_e, crR_n, crN_e, crN_n, ciR, ciL, ciD, ciN_e, ciN_n, rdI_e, rdI_n, rdC_i, rdC_o, rdW, rdU_e, rdU_n, rdLW, clI, clR, clC, clD, clW, clV, clN_e, clN_n, clL_e, clL_n] <;> first | assumption | rfl | omega)) rfl) (fun x1 M1 h1 => ?_)
  obtain ⟨e1, hM1, f1⟩ := h1
  subst e1
  have z1 := (hM1.trans hM'.symm).symm
  subst z1
  refine x_istore_n (L' := [some _, some _, none, none, none, none, none]) dX1_hears_4 rfl (by decide) rfl ?_
  refine x_aload_n dX1_hears_5 rfl rfl ?_
  refine g_getR (kI := 0) rfl dX1_hears_6 fX1_15_1 (by first | assumption | first | assumption | (simp (disch := omega) only [shI, shR, shL, shC, shD, shW, sh_V, shN_e, shN_n, crI, crL, crC, crW, crV, crR_e, crR_n, crN_e, crN_n, ciR, ciL, ciD, ciN_e, ciN_n, rdI_e, rdI_n, rdC_i, rdC_o, rdW, rdU_e, rdU_n, rdLW, clI, clR, clC, clD, clW, clV, clN_e, clN_n, clL_e, clL_n]; done) | (simp (disch := omega) only [shI, shR, shL, shC, shD, shW, sh_V, shN_e, shN_n, crI, crL, crC, crW, crV, crR_e, crR_n, crN_e, crN_n, ciR, ciL, ciD, ciN_e, ciN_n, rdI_e, rdI_n, rdC_i, rdC_o, rdW, rdU_e, rdU_n, rdLW, clI, clR, clC, clD, clW, clV, clN_e, clN_n, clL_e, clL_n] <;> first | assumption | rfl | omega)) (by first | assumption | first | assumption | (simp (disch := omega) only [shI, shR, shL, shC, shD, shW, sh_V, shN_e, shN_n, crI, crL, crC, crW, crV, crR_e, crR_n, crN_e, crN_n, ciR, ciL, ciD, ciN_e, ciN_n, rdI_e, rdI_n, rdC_i, rdC_o, rdW, rdU_e, rdU_n, rdLW, clI, clR, clC, clD, clW, clV, clN_e, clN_n, clL_e, clL_n]; done) | (simp (disch := omega) only [shI, shR, shL, shC, shD, shW, sh_V, shN_e, shN_n, crI, crL, crC, crW, crV, crR_e, crR_n, crN_e, crN_n, ciR, ciL, ciD, ciN_e, ciN_n, rdI_e, rdI_n, rdC_i, rdC_o, rdW, rdU_e, rdU_n, rdLW, clI, clR, clC, clD, clW, clV, clN_e, clN_n, clL_e, clL_n] <;> first | assumption | rfl | omega)) ?_
  refine g_getR (kI := 0) rfl dX1_hears_9 fX1_119_2 (by first | assumption | first | assumption | (simp (disch := omega) only [shI, shR, shL, shC, shD, shW, sh_V, shN_e, shN_n, crI, crL, crC, crW, crV, crR_e, crR_n, crN_e, crN_n, ciR, ciL, ciD, ciN_e, ciN_n, rdI_e, rdI_n, rdC_i, rdC_o, rdW, rdU_e, rdU_n, rdLW, clI, clR, clC, clD, clW, clV, clN_e, clN_n, clL_e, clL_n]; done) | (simp (disch := omega) only [shI, shR, shL, shC, shD, shW, sh_V, shN_e, shN_n, crI, crL, crC, crW, crV, crR_e, crR_n, crN_e, crN_n, ciR, ciL, ciD, ciN_e, ciN_n, rdI_e, rdI_n, rdC_i, rdC_o, rdW, rdU_e, rdU_n, rdLW, clI, clR, clC, clD, clW, clV, clN_e, clN_n, clL_e, clL_n] <;> first | assumption | rfl | omega)) (by first | assumption | first | assumption | (simp (disch := omega) only [shI, shR, shL, shC, shD, shW, sh_V, shN_e, shN_n, crI, crL, crC, crW, crV, crR_e, crR_n, crN_e, crN_n, ciR, ciL, ciD, ciN_e, ciN_n, rdI_e, rdI_n, rdC_i, rdC_o, rdW, rdU_e, rdU_n, rdLW, clI, clR, clC, clD, clW, clV, clN_e, clN_n, clL_e, clL_n]; done) | (simp (disch := omega) only [shI, shR, shL, shC, shD, shW, sh_V, shN_e, shN_n, crI, crL, crC, crW, crV, crR_e, crR_n, crN_e, crN_n, ciR, ciL, ciD, ciN_e, ciN_n, rdI_e, rdI_n, rdC_i, rdC_o, rdW, rdU_e, rdU_n, rdLW, clI, clR, clC, clD, clW, clV, clN_e, clN_n, clL_e, clL_n] <;> first | assumption | rfl | omega)) ?_
  refine x_astore_n (L' := [some _, some _, some _, none, none, none, none]) dX1_hears_12 rfl (by decide) rfl ?_
  refine x_iload_n dX1_hears_13 rfl rfl ?_
  refine x_iconst dX1_hears_14 rfl ?_
  first | refine x_iremN dX1_hears_15 (by omega) (by omega) ?_ | refine x_irem dX1_hears_15 (by omega) ?_
  refine x_if_ne (tgt := 29) dX1_hears_16 (by decide) (fun h16 => ?_) (fun h16 => ?_)
  · refine x_iconst dX1_hears_29 rfl ?_
    refine x_istore_n (L' := [some _, some _, some _, some _, none, none, none]) dX1_hears_30 rfl (by decide) rfl ?_
    refine x_iconst dX1_hears_31 rfl ?_
    refine x_istore (L' := [some _, some _, some _, some _, some _, none, none]) dX1_hears_32 (by decide) rfl ?_
    refine x_fgt (by repeat (first | exact trivial | refine ⟨rfl, ?_⟩)) (lpa _ 0 _ rfl (by omega) (by omega) (by omega) (by omega) ?_)
    first
    | exact (vP_t ⟨h16, Int.not_lt.mp h22, fun j _ _ => by omega⟩).symm
    | (refine Eq.symm (vP_f ?_)
       rintro ⟨q1, q2, -⟩
       first | exact h16 q1 | omega)
  · refine x_iload_n dX1_hears_19 rfl rfl ?_
    refine x_bipush dX1_hears_20 rfl ?_
    refine x_icmp_gt (tgt := 29) dX1_hears_22 (by decide) (fun h22 => ?_) (fun h22 => ?_)
    · refine x_iconst dX1_hears_29 rfl ?_
      refine x_istore_n (L' := [some _, some _, some _, some _, none, none, none]) dX1_hears_30 rfl (by decide) rfl ?_
      refine x_iconst dX1_hears_31 rfl ?_
      refine x_istore (L' := [some _, some _, some _, some _, some _, none, none]) dX1_hears_32 (by decide) rfl ?_
      refine x_fgt (by repeat (first | exact trivial | refine ⟨rfl, ?_⟩)) (lpa _ 0 _ rfl (by omega) (by omega) (by omega) (by omega) ?_)
      first
      | exact (vP_t ⟨h16, Int.not_lt.mp h22, fun j _ _ => by omega⟩).symm
      | (refine Eq.symm (vP_f ?_)
         rintro ⟨q1, q2, -⟩
         first | exact h16 q1 | omega)
    · refine x_iconst dX1_hears_25 rfl ?_
      refine x_goto (tgt := 30) dX1_hears_26 (by decide) ?_
      refine x_istore_n (L' := [some _, some _, some _, some _, none, none, none]) dX1_hears_30 rfl (by decide) rfl ?_
      refine x_iconst dX1_hears_31 rfl ?_
      refine x_istore (L' := [some _, some _, some _, some _, some _, none, none]) dX1_hears_32 (by decide) rfl ?_
      refine x_fgt (by repeat (first | exact trivial | refine ⟨rfl, ?_⟩)) (lpa _ 0 _ rfl (by omega) (by omega) (by omega) (by omega) ?_)
      first
      | exact (vP_t ⟨h16, Int.not_lt.mp h22, fun j _ _ => by omega⟩).symm
      | (refine Eq.symm (vP_f ?_)
         rintro ⟨q1, q2, -⟩
         first | exact h16 q1 | omega)
end X1

