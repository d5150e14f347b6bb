/-! GuestView: what steps take -/
theorem RelG.eqf {f g : Ci} {q s i : Int} {v : Vw} (h : RelG f q s v i) (hg : ∀ b k, q ≤ b → b ≤ q + 2 → g b k = f b k) : RelG g q s v i := by
  obtain ⟨h1, h2, h3, h4, h5, h6, h7, h8⟩ := h
  exact ⟨by rw [hg _ _ (by omega) (by omega)]; exact h1, by rw [hg _ _ (by omega) (by omega)]; exact h2, by rw [hg _ _ (by omega) (by omega)]; exact h3, by rw [hg _ _ (by omega) (by omega)]; exact h4, by rw [hg _ _ (by omega) (by omega)]; exact h5, by rw [hg _ _ (by omega) (by omega)]; exact h6, by rw [hg _ _ (by omega) (by omega)]; exact h7, fun k a b => by rw [hg _ _ (by omega) (by omega)]; exact h8 k a b⟩
theorem any2 {M : Mem} {a x c e : Int} (h0 : mci M a 0 = c) (h1 : mci M a 1 = e) : (∃ k, 0 ≤ k ∧ k < 2 ∧ mci M a k = x) ↔ (x = c ∨ x = e) := by
  constructor
  · rintro ⟨k, k0, k1, hk⟩
    rcases (show k = 0 ∨ k = 1 by omega) with q | q
    · subst q; exact Or.inl (hk.symm.trans h0)
    · subst q; exact Or.inr (hk.symm.trans h1)
  · rintro (q | q)
    · exact ⟨0, by omega, by omega, h0.trans q.symm⟩
    · exact ⟨1, by omega, by omega, h1.trans q.symm⟩
section X1
variable {G : GW} {d : Nat} {M M1 : Mem} {a b c e k n x y q op w st hi sz fa N i p o T ea dp : Int} {v vi u : Vw} {A : Int → Vw} {tp : Int → Int}
theorem s_X1_steps (hd : 46 ≤ d) (hC : CI M v n A hi vi tp sz fa N) (hk : 0 ≤ k ∧ k ≤ 60) (he : ea = 0 ∨ ea = 1) (hdp : -1 ≤ dp ∧ dp ≤ 5) : CS G d mX1_steps [dR 0, dI k, dI ea, dI dp] M (postI fun y M1 => y = depthV v k ea dp ∧ CO M v n A hi vi tp sz fa N 60 120 M1) := by
  have hC0 := hC
  have hnx0 : 761 ≤ mnx M := hC.1.2.2.2.2.2
  refine CS.mkQ (by decide) (Nat.le_of_ble_eq_true rfl) fun Q hQ => ?_
  have lp : ∀ (t : Nat) (j x : Int) (u : Vw) (M' : Mem), (k - j).toNat = t → (0 ≤ j ∧ j ≤ k) → (CQ M M' j.toNat (2 * j.toNat)) → (okA u) → (eqB v u) → (RelG (mci M') 196 (u 5) u 1) → (depthV v k ea dp = x + depthR ea dp (k - j).toNat u) → (0 ≤ x ∧ x ≤ 3000 * j) → WP G d mX1_steps 21 [some (dR 0), some (dI k), some (dI ea), some (dI dp), some (dI x), some (dI j), none, none] [] (M') Q := by
    intro t
    induction t using Nat.strongRecOn with
    | _ t ih =>
      intro j x u M' ht j0 hq hu hBu hg1 hx hx0
      have hC := hC0.cq hq
      obtain ⟨hC1, hC54, hCA, hCR⟩ := id hC; obtain ⟨hS, hTab, hTx, hLn, hSk, hnx⟩ := id hC1; obtain ⟨hA, hL, hR⟩ := id hC54; obtain ⟨⟨s0, s199, s200, s201, s202, s203⟩, ⟨c0, c1, c2, c3, c4, c5, c6, c7, c8, c9, c10, c11, c12⟩, c203, hSt, m189, m191, g193, g196, ⟨⟨r2, r3, r4, r5, r6, r7, r53⟩, ⟨w0, w1, w2, w3, w4, w5, w6⟩, wx1, wx2, wx3⟩⟩ := id hS; have hv := hA.1; have hv8 := hv.n8; have hv0 := hv.1.1; have hv3 := hv.2.2.2.1; have hs54 := hSt 54 (by unfold SB; omega); obtain ⟨p0, p1, ⟨d0, d1, d2, d3, d4, d5, d6, d7⟩, ⟨t1, t2, t3, t4, t5, t6⟩, p5, p6, p7⟩ := id hs54; have t7 : msh (M') (54 + 7) = some (4, 0) := p5.2.1; have t10 : msh (M') (54 + 10) = some (4, 0) := p6.2.1; obtain ⟨hB, hW, hLw⟩ := id hR.1; obtain ⟨b1, b2, b3, b4, b5, b6, b7, b8, b9, b10, b11, b12, b13, b14, b15⟩ := id hB; obtain ⟨hn, hn2, hat, hAc⟩ := id hCA; obtain ⟨⟨hki, hhi⟩, hIm, ⟨htp, hsz, hsz2⟩, hfa⟩ := id hCR
      have hu5 : u 5 = v 5 := hBu 5 (by omega)
      have hpc := hu.2.2.1
      have hm : mnx M ≤ mnx M' := hq.2.2.2.1
      have m196 : msh M' 196 = some (4, 0) := g196.2.1
      by_cases hjk : j < k
      · have ek : (k - j).toNat = (k - (j + 1)).toNat + 1 := by omega
        rw [ek, depthR_s] at hx
        have hH := hostH_r u
        have hmB : eqM v u := hBu.m
        have hpr := fun (h3 : u (guA 1) < u 3) => hu.1.pr (u (guA 1)) hpc.1 h3
        have hu0 : u 0 = v 0 := hBu 0 (by omega)
        generalize hX : ((mnx M' : Nat) : Int) = X
        have hX7 : 761 ≤ X := by omega
        by_cases h6 : hostH u = 6
        · refine x_iload dX1_steps_21 rfl ?_
          refine x_iload_n dX1_steps_23 rfl rfl ?_
          refine x_icmp_ge (tgt := 120) dX1_steps_24 (by decide) (fun h24 => ?_) (fun h24 => ?_)
          · omega
          · refine x_aload_n dX1_steps_27 rfl rfl ?_
            refine g_getR (kI := 1) rfl dX1_steps_28 fX1_22_1 (by first | assumption | first | assumption | (simp (disch := omega) only [shI, shR, shL, shC, shD, shW, sh_V, shN_e, shN_n, crI, crL, crC, crW, crV, crR_e, crR_n, crN_e, crN_n, ciR, ciL, ciD, ciN_e, ciN_n, rdI_e, rdI_n, rdC_i, rdC_o, rdW, rdU_e, rdU_n, rdLW, clI, clR, clC, clD, clW, clV, clN_e, clN_n, clL_e, clL_n]; done) | (simp (disch := omega) only [shI, shR, shL, shC, shD, shW, sh_V, shN_e, shN_n, crI, crL, crC, crW, crV, crR_e, crR_n, crN_e, crN_n, ciR, ciL, ciD, ciN_e, ciN_n, rdI_e, rdI_n, rdC_i, rdC_o, rdW, rdU_e, rdU_n, rdLW, clI, clR, clC, clD, clW, clV, clN_e, clN_n, clL_e, clL_n] <;> first | assumption | rfl | omega)) (by first | assumption | first | assumption | (simp (disch := omega) only [shI, shR, shL, shC, shD, shW, sh_V, shN_e, shN_n, crI, crL, crC, crW, crV, crR_e, crR_n, crN_e, crN_n, ciR, ciL, ciD, ciN_e, ciN_n, rdI_e, rdI_n, rdC_i, rdC_o, rdW, rdU_e, rdU_n, rdLW, clI, clR, clC, clD, clW, clV, clN_e, clN_n, clL_e, clL_n]; done) | (simp (disch := omega) only [shI, shR, shL, shC, shD, shW, sh_V, shN_e, shN_n, crI, crL, crC, crW, crV, crR_e, crR_n, crN_e, crN_n, ciR, ciL, ciD, ciN_e, ciN_n, rdI_e, rdI_n, rdC_i, rdC_o, rdW, rdU_e, rdU_n, rdLW, clI, clR, clC, clD, clW, clV, clN_e, clN_n, clL_e, clL_n] <;> first | assumption | rfl | omega)) ?_
            refine x_aload_n dX1_steps_31 rfl rfl ?_
            refine g_getR (kI := 8) rfl dX1_steps_32 fX1_49_1 (by first | assumption | first | assumption | (simp (disch := omega) only [shI, shR, shL, shC, shD, shW, sh_V, shN_e, shN_n, crI, crL, crC, crW, crV, crR_e, crR_n, crN_e, crN_n, ciR, ciL, ciD, ciN_e, ciN_n, rdI_e, rdI_n, rdC_i, rdC_o, rdW, rdU_e, rdU_n, rdLW, clI, clR, clC, clD, clW, clV, clN_e, clN_n, clL_e, clL_n]; done) | (simp (disch := omega) only [shI, shR, shL, shC, shD, shW, sh_V, shN_e, shN_n, crI, crL, crC, crW, crV, crR_e, crR_n, crN_e, crN_n, ciR, ciL, ciD, ciN_e, ciN_n, rdI_e, rdI_n, rdC_i, rdC_o, rdW, rdU_e, rdU_n, rdLW, clI, clR, clC, clD, clW, clV, clN_e, clN_n, clL_e, clL_n] <;> first | assumption | rfl | omega)) (by first | assumption | first | assumption | (simp (disch := omega) only [shI, shR, shL, shC, shD, shW, sh_V, shN_e, shN_n, crI, crL, crC, crW, crV, crR_e, crR_n, crN_e, crN_n, ciR, ciL, ciD, ciN_e, ciN_n, rdI_e, rdI_n, rdC_i, rdC_o, rdW, rdU_e, rdU_n, rdLW, clI, clR, clC, clD, clW, clV, clN_e, clN_n, clL_e, clL_n]; done) | (simp (disch := omega) only [shI, shR, shL, shC, shD, shW, sh_V, shN_e, shN_n, crI, crL, crC, crW, crV, crR_e, crR_n, crN_e, crN_n, ciR, ciL, ciD, ciN_e, ciN_n, rdI_e, rdI_n, rdC_i, rdC_o, rdW, rdU_e, rdU_n, rdLW, clI, clR, clC, clD, clW, clV, clN_e, clN_n, clL_e, clL_n] <;> first | assumption | rfl | omega)) ?_
            refine g_callI (vs := [_, _]) (d' := d - 1) rfl (s_X3_opAt (by omega) hs54 g196 (hB.eqB hv hBu) hu.1 hg1 hpc.1) dX1_steps_35 kX1_303 (by omega) (by decide) rfl (Nat.le_of_ble_eq_true rfl) (rcv_o (by first | assumption | first | assumption | (simp (disch := omega) only [shI, shR, shL, shC, shD, shW, sh_V, shN_e, shN_n, crI, crL, crC, crW, crV, crR_e, crR_n, crN_e, crN_n, ciR, ciL, ciD, ciN_e, ciN_n, rdI_e, rdI_n, rdC_i, rdC_o, rdW, rdU_e, rdU_n, rdLW, clI, clR, clC, clD, clW, clV, clN_e, clN_n, clL_e, clL_n]; done) | (simp (disch := omega) only [shI, shR, shL, shC, shD, shW, sh_V, shN_e, shN_n, crI, crL, crC, crW, crV, crR_e, crR_n, crN_e, crN_n, ciR, ciL, ciD, ciN_e, ciN_n, rdI_e, rdI_n, rdC_i, rdC_o, rdW, rdU_e, rdU_n, rdLW, clI, clR, clC, clD, clW, clV, clN_e, clN_n, clL_e, clL_n] <;> first | assumption | rfl | omega)) rfl) (fun x35 M35 h35 => ?_)
            obtain ⟨e35, f35⟩ := h35
            have f35' := f35.symm
            subst f35'
            refine x_istore (L' := [some _, some _, some _, some _, some _, some _, some _, none]) dX1_steps_38 (by decide) rfl ?_
            refine x_aload_n dX1_steps_40 rfl rfl ?_
            refine g_getR (kI := 1) rfl dX1_steps_41 fX1_22_1 (by first | assumption | first | assumption | (simp (disch := omega) only [shI, shR, shL, shC, shD, shW, sh_V, shN_e, shN_n, crI, crL, crC, crW, crV, crR_e, crR_n, crN_e, crN_n, ciR, ciL, ciD, ciN_e, ciN_n, rdI_e, rdI_n, rdC_i, rdC_o, rdW, rdU_e, rdU_n, rdLW, clI, clR, clC, clD, clW, clV, clN_e, clN_n, clL_e, clL_n]; done) | (simp (disch := omega) only [shI, shR, shL, shC, shD, shW, sh_V, shN_e, shN_n, crI, crL, crC, crW, crV, crR_e, crR_n, crN_e, crN_n, ciR, ciL, ciD, ciN_e, ciN_n, rdI_e, rdI_n, rdC_i, rdC_o, rdW, rdU_e, rdU_n, rdLW, clI, clR, clC, clD, clW, clV, clN_e, clN_n, clL_e, clL_n] <;> first | assumption | rfl | omega)) (by first | assumption | first | assumption | (simp (disch := omega) only [shI, shR, shL, shC, shD, shW, sh_V, shN_e, shN_n, crI, crL, crC, crW, crV, crR_e, crR_n, crN_e, crN_n, ciR, ciL, ciD, ciN_e, ciN_n, rdI_e, rdI_n, rdC_i, rdC_o, rdW, rdU_e, rdU_n, rdLW, clI, clR, clC, clD, clW, clV, clN_e, clN_n, clL_e, clL_n]; done) | (simp (disch := omega) only [shI, shR, shL, shC, shD, shW, sh_V, shN_e, shN_n, crI, crL, crC, crW, crV, crR_e, crR_n, crN_e, crN_n, ciR, ciL, ciD, ciN_e, ciN_n, rdI_e, rdI_n, rdC_i, rdC_o, rdW, rdU_e, rdU_n, rdLW, clI, clR, clC, clD, clW, clV, clN_e, clN_n, clL_e, clL_n] <;> first | assumption | rfl | omega)) ?_
            refine x_aload_n dX1_steps_44 rfl rfl ?_
            refine g_getR (kI := 8) rfl dX1_steps_45 fX1_49_1 (by first | assumption | first | assumption | (simp (disch := omega) only [shI, shR, shL, shC, shD, shW, sh_V, shN_e, shN_n, crI, crL, crC, crW, crV, crR_e, crR_n, crN_e, crN_n, ciR, ciL, ciD, ciN_e, ciN_n, rdI_e, rdI_n, rdC_i, rdC_o, rdW, rdU_e, rdU_n, rdLW, clI, clR, clC, clD, clW, clV, clN_e, clN_n, clL_e, clL_n]; done) | (simp (disch := omega) only [shI, shR, shL, shC, shD, shW, sh_V, shN_e, shN_n, crI, crL, crC, crW, crV, crR_e, crR_n, crN_e, crN_n, ciR, ciL, ciD, ciN_e, ciN_n, rdI_e, rdI_n, rdC_i, rdC_o, rdW, rdU_e, rdU_n, rdLW, clI, clR, clC, clD, clW, clV, clN_e, clN_n, clL_e, clL_n] <;> first | assumption | rfl | omega)) (by first | assumption | first | assumption | (simp (disch := omega) only [shI, shR, shL, shC, shD, shW, sh_V, shN_e, shN_n, crI, crL, crC, crW, crV, crR_e, crR_n, crN_e, crN_n, ciR, ciL, ciD, ciN_e, ciN_n, rdI_e, rdI_n, rdC_i, rdC_o, rdW, rdU_e, rdU_n, rdLW, clI, clR, clC, clD, clW, clV, clN_e, clN_n, clL_e, clL_n]; done) | (simp (disch := omega) only [shI, shR, shL, shC, shD, shW, sh_V, shN_e, shN_n, crI, crL, crC, crW, crV, crR_e, crR_n, crN_e, crN_n, ciR, ciL, ciD, ciN_e, ciN_n, rdI_e, rdI_n, rdC_i, rdC_o, rdW, rdU_e, rdU_n, rdLW, clI, clR, clC, clD, clW, clV, clN_e, clN_n, clL_e, clL_n] <;> first | assumption | rfl | omega)) ?_
            refine g_callI (vs := [_, _]) (d' := d - 1) rfl (s_X3_stepsHosted (v := u) (by omega) hs54 g196 (Or.inr (Or.inr (Or.inr (by omega)))) (hR.1.eqB hv hBu) hu.1 hg1 hu.2.2 (by omega)) dX1_steps_48 kX1_361 (by omega) (by decide) rfl (Nat.le_of_ble_eq_true rfl) (rcv_o (by first | assumption | first | assumption | (simp (disch := omega) only [shI, shR, shL, shC, shD, shW, sh_V, shN_e, shN_n, crI, crL, crC, crW, crV, crR_e, crR_n, crN_e, crN_n, ciR, ciL, ciD, ciN_e, ciN_n, rdI_e, rdI_n, rdC_i, rdC_o, rdW, rdU_e, rdU_n, rdLW, clI, clR, clC, clD, clW, clV, clN_e, clN_n, clL_e, clL_n]; done) | (simp (disch := omega) only [shI, shR, shL, shC, shD, shW, sh_V, shN_e, shN_n, crI, crL, crC, crW, crV, crR_e, crR_n, crN_e, crN_n, ciR, ciL, ciD, ciN_e, ciN_n, rdI_e, rdI_n, rdC_i, rdC_o, rdW, rdU_e, rdU_n, rdLW, clI, clR, clC, clD, clW, clV, clN_e, clN_n, clL_e, clL_n] <;> first | assumption | rfl | omega)) rfl) (fun x48 M48 h48 => ?_)
            obtain ⟨g48, hM48, e48, a48, f48⟩ := h48
            subst hM48
            subst e48
            have eh5 : (hostV u) 5 = u 5 := hostV_eqB 5 (by omega)
            have hq2 : CQ M (wI M' g48) (j.toNat + 0) (2 * j.toNat + 0) := hq.trans (CQ.w (fun b k q1 q2 => f48 b k q2 (by omega)) ⟨by rw [f48 _ _ (by omega) (by omega)]; exact hSk.2.1, by rw [f48 _ _ (by omega) (by omega)]; exact hSk.2.2.1, by rw [f48 _ _ (by omega) (by omega)]; exact hSk.2.2.2.1, a48.2.2.1⟩)
            have hq3 : CQ M (mI (mI (mNx (wI M' g48) X 100 2 2) X 0 0) X 1 1) (j.toNat + 0 + 1) (2 * j.toNat + 0 + 2) := ((hq2.nw (x := X) (t := 100) (n' := 2) (sl := 2) hX (by omega)).wi (by omega) (by omega)).wi (by omega) (by omega)
            have hC3 := hC0.cq hq3
            have hf3 : ∀ b i, ¬ b = X → mci (mI (mI (mNx (wI M' g48) X 100 2 2) X 0 0) X 1 1) b i = g48 b i := fun b i q => (rdI_n (by omega)).trans ((rdI_n (by omega)).trans (ciN_n q))
            have ha3 : RelG (mci (mI (mI (mNx (wI M' g48) X 100 2 2) X 0 0) X 1 1)) 196 ((hostV u) 5) (hostV u) 1 := by
              rw [eh5]
              exact a48.eqf fun b i b0 b1 => hf3 b i (by omega)
            have nx : ∀ (x' : Int) (M4 : Mem) (o1 o2 : Option DV), CQ M M4 (j.toNat + 0 + 1) (2 * j.toNat + 0 + 2) → RelG (mci M4) 196 ((hostV u) 5) (hostV u) 1 → x' = x + (if hostH u = 6 then 0 else ea) + (if hostH u ≤ 1 then (if dp < 0 then 1 else dp * emuV u (opAtV u 1)) else 0) → (0 ≤ x' ∧ x' ≤ x + 3000) → WP G d mX1_steps 21 [some (dR 0), some (dI k), some (dI ea), some (dI dp), some (dI x'), some (dI (j + 1)), o1, o2] [] M4 Q := fun x' M4 o1 o2 y1 y2 y3 y4 => x_fgt (L' := [some (dR 0), some (dI k), some (dI ea), some (dI dp), some (dI x'), some (dI (j + 1)), none, none]) (by repeat (first | exact trivial | refine ⟨rfl, ?_⟩)) (ih _ (by omega) (j + 1) x' (hostV u) M4 rfl (by omega) (y1.le (by omega) (by omega)) (okA_hostV hu) (hBu.trans hostV_eqB) y2 (by rw [hx, y3]; omega) (by omega))
            refine x_istore (L' := [some _, some _, some _, some _, some _, some _, some _, some _]) dX1_steps_51 (by decide) rfl ?_
            refine x_iload dX1_steps_53 rfl ?_
            refine x_iload dX1_steps_55 rfl ?_
            refine x_bipush dX1_steps_57 rfl ?_
            refine x_icmp_ne (tgt := 66) dX1_steps_59 (by decide) (fun h59 => ?_) (fun h59 => ?_)
            · exact absurd h6 h59
            · refine x_iconst dX1_steps_62 rfl ?_
              refine x_goto (tgt := 67) dX1_steps_63 (by decide) ?_
              first | refine x_iaddN dX1_steps_67 (by unfold i32; omega) ?_ | refine x_iadd dX1_steps_67 ?_
              refine x_istore (L' := [some _, some _, some _, some _, some _, some _, some _, some _]) dX1_steps_68 (by decide) rfl ?_
              refine x_iload dX1_steps_70 rfl ?_
              refine x_iconst dX1_steps_72 rfl ?_
              refine x_newaX (x := X) (by first | (simp only [nxI, nxR, nxL, nxC, nxD, nxW, nxV, nxN]; done) | (simp only [nxI, nxR, nxL, nxC, nxD, nxW, nxV, nxN]; omega) | omega) (t := 100) (by decide) rfl q284 (by omega) (by omega) dX1_steps_73 ?_
              refine x_dup dX1_steps_75 rfl ?_
              refine x_iconst dX1_steps_76 rfl ?_
              refine x_iconst dX1_steps_77 rfl ?_
              refine x_iast (by omega) dX1_steps_78 (by first | assumption | first | assumption | (simp (disch := omega) only [shI, shR, shL, shC, shD, shW, sh_V, shN_e, shN_n, crI, crL, crC, crW, crV, crR_e, crR_n, crN_e, crN_n, ciR, ciL, ciD, ciN_e, ciN_n, rdI_e, rdI_n, rdC_i, rdC_o, rdW, rdU_e, rdU_n, rdLW, clI, clR, clC, clD, clW, clV, clN_e, clN_n, clL_e, clL_n]; done) | (simp (disch := omega) only [shI, shR, shL, shC, shD, shW, sh_V, shN_e, shN_n, crI, crL, crC, crW, crV, crR_e, crR_n, crN_e, crN_n, ciR, ciL, ciD, ciN_e, ciN_n, rdI_e, rdI_n, rdC_i, rdC_o, rdW, rdU_e, rdU_n, rdLW, clI, clR, clC, clD, clW, clV, clN_e, clN_n, clL_e, clL_n] <;> first | assumption | rfl | omega)) (by omega) (by omega) ?_
              refine x_dup dX1_steps_79 rfl ?_
              refine x_iconst dX1_steps_80 rfl ?_
              refine x_iconst dX1_steps_81 rfl ?_
              refine x_iast (by omega) dX1_steps_82 (by first | assumption | first | assumption | (simp (disch := omega) only [shI, shR, shL, shC, shD, shW, sh_V, shN_e, shN_n, crI, crL, crC, crW, crV, crR_e, crR_n, crN_e, crN_n, ciR, ciL, ciD, ciN_e, ciN_n, rdI_e, rdI_n, rdC_i, rdC_o, rdW, rdU_e, rdU_n, rdLW, clI, clR, clC, clD, clW, clV, clN_e, clN_n, clL_e, clL_n]; done) | (simp (disch := omega) only [shI, shR, shL, shC, shD, shW, sh_V, shN_e, shN_n, crI, crL, crC, crW, crV, crR_e, crR_n, crN_e, crN_n, ciR, ciL, ciD, ciN_e, ciN_n, rdI_e, rdI_n, rdC_i, rdC_o, rdW, rdU_e, rdU_n, rdLW, clI, clR, clC, clD, clW, clV, clN_e, clN_n, clL_e, clL_n] <;> first | assumption | rfl | omega)) (by omega) (by omega) ?_
              refine g_callI (vs := [_, _]) (d' := d - 1) rfl (s_X1_isAny (n := 2) (by omega) (by first | assumption | (simp (disch := omega) only [shI, shR, shL, shC, shD, shW, sh_V, shN_e, shN_n, crI, crL, crC, crW, crV, crR_e, crR_n, crN_e, crN_n, ciR, ciL, ciD, ciN_e, ciN_n, rdI_e, rdI_n, rdC_i, rdC_o, rdW, rdU_e, rdU_n, rdLW, clI, clR, clC, clD, clW, clV, clN_e, clN_n, clL_e, clL_n]; done) | (simp (disch := omega) only [shI, shR, shL, shC, shD, shW, sh_V, shN_e, shN_n, crI, crL, crC, crW, crV, crR_e, crR_n, crN_e, crN_n, ciR, ciL, ciD, ciN_e, ciN_n, rdI_e, rdI_n, rdC_i, rdC_o, rdW, rdU_e, rdU_n, rdLW, clI, clR, clC, clD, clW, clV, clN_e, clN_n, clL_e, clL_n] <;> first | assumption | rfl | omega)) (by omega) (by omega)) dX1_steps_83 kX1_367 (by omega) (by decide) rfl (Nat.le_of_ble_eq_true rfl) (rcv_n) (fun x83 M83 h83 => ?_)
              obtain ⟨e83, f83⟩ := h83
              rw [vP_c (any2 (c := 0) (e := 1) (by first | assumption | (simp (disch := omega) only [shI, shR, shL, shC, shD, shW, sh_V, shN_e, shN_n, crI, crL, crC, crW, crV, crR_e, crR_n, crN_e, crN_n, ciR, ciL, ciD, ciN_e, ciN_n, rdI_e, rdI_n, rdC_i, rdC_o, rdW, rdU_e, rdU_n, rdLW, clI, clR, clC, clD, clW, clV, clN_e, clN_n, clL_e, clL_n]; done) | (simp (disch := omega) only [shI, shR, shL, shC, shD, shW, sh_V, shN_e, shN_n, crI, crL, crC, crW, crV, crR_e, crR_n, crN_e, crN_n, ciR, ciL, ciD, ciN_e, ciN_n, rdI_e, rdI_n, rdC_i, rdC_o, rdW, rdU_e, rdU_n, rdLW, clI, clR, clC, clD, clW, clV, clN_e, clN_n, clL_e, clL_n] <;> first | assumption | rfl | omega)) (by first | assumption | (simp (disch := omega) only [shI, shR, shL, shC, shD, shW, sh_V, shN_e, shN_n, crI, crL, crC, crW, crV, crR_e, crR_n, crN_e, crN_n, ciR, ciL, ciD, ciN_e, ciN_n, rdI_e, rdI_n, rdC_i, rdC_o, rdW, rdU_e, rdU_n, rdLW, clI, clR, clC, clD, clW, clV, clN_e, clN_n, clL_e, clL_n]; done) | (simp (disch := omega) only [shI, shR, shL, shC, shD, shW, sh_V, shN_e, shN_n, crI, crL, crC, crW, crV, crR_e, crR_n, crN_e, crN_n, ciR, ciL, ciD, ciN_e, ciN_n, rdI_e, rdI_n, rdC_i, rdC_o, rdW, rdU_e, rdU_n, rdLW, clI, clR, clC, clD, clW, clV, clN_e, clN_n, clL_e, clL_n] <;> first | assumption | rfl | omega)))] at e83
              subst e83
              subst f83
              refine x_if_eq (tgt := 114) dX1_steps_86 (by decide) (fun h86 => ?_) (fun h86 => ?_)
              · try simp only [vP_0, vP_1, vP_n0, vP_n1, Classical.not_not] at h86
                first | refine x_iincN (L' := [some _, some _, some _, some _, some _, some _, some _, some _]) dX1_steps_114 rfl (by decide) (by unfold i32; omega) rfl ?_ | refine x_iinc (L' := [some _, some _, some _, some _, some _, some _, some _, some _]) dX1_steps_114 rfl (by decide) rfl ?_
                refine x_goto (tgt := 21) dX1_steps_117 (by decide) ?_
                first
                | (exfalso; omega)
                | (refine nx _ _ _ _ (hq3.trans (CQ.w (M := _) (g := g107) (fun b k q1 q2 => f107 b k (by omega)) ⟨by rw [f107 _ _ (by omega)]; exact hC3.1.2.2.2.2.1.2.1, by rw [f107 _ _ (by omega)]; exact hC3.1.2.2.2.2.1.2.2.1, by rw [f107 _ _ (by omega)]; exact hC3.1.2.2.2.2.1.2.2.2.1, by rw [f107 _ _ (by omega)]; exact hC3.1.2.2.2.2.1.2.2.2.2⟩)) (ha3.eqf fun b i b0 b1 => f107 b i (by omega)) ?_ ?_
                   · rw [if_neg (by omega), if_pos (by omega), if_neg (by omega), eE, e107.1]
                   · omega)
                | (refine nx _ _ _ _ hq3 ha3 ?_ ?_
                   · rw [if_neg (by omega), if_pos (by omega), if_pos (by omega)]
                   · omega)
                | (refine nx _ _ _ _ hq3 ha3 ?_ ?_
                   · first
                     | (rw [if_neg h59, if_neg (by omega)]; omega)
                     | (rw [if_pos h59, if_neg (by omega)]; omega)
                   · omega)
              · try simp only [vP_0, vP_1, vP_n0, vP_n1, Classical.not_not] at h86
                omega
        · refine x_iload dX1_steps_21 rfl ?_
          refine x_iload_n dX1_steps_23 rfl rfl ?_
          refine x_icmp_ge (tgt := 120) dX1_steps_24 (by decide) (fun h24 => ?_) (fun h24 => ?_)
          · omega
          · refine x_aload_n dX1_steps_27 rfl rfl ?_
            refine g_getR (kI := 1) rfl dX1_steps_28 fX1_22_1 (by first | assumption | first | assumption | (simp (disch := omega) only [shI, shR, shL, shC, shD, shW, sh_V, shN_e, shN_n, crI, crL, crC, crW, crV, crR_e, crR_n, crN_e, crN_n, ciR, ciL, ciD, ciN_e, ciN_n, rdI_e, rdI_n, rdC_i, rdC_o, rdW, rdU_e, rdU_n, rdLW, clI, clR, clC, clD, clW, clV, clN_e, clN_n, clL_e, clL_n]; done) | (simp (disch := omega) only [shI, shR, shL, shC, shD, shW, sh_V, shN_e, shN_n, crI, crL, crC, crW, crV, crR_e, crR_n, crN_e, crN_n, ciR, ciL, ciD, ciN_e, ciN_n, rdI_e, rdI_n, rdC_i, rdC_o, rdW, rdU_e, rdU_n, rdLW, clI, clR, clC, clD, clW, clV, clN_e, clN_n, clL_e, clL_n] <;> first | assumption | rfl | omega)) (by first | assumption | first | assumption | (simp (disch := omega) only [shI, shR, shL, shC, shD, shW, sh_V, shN_e, shN_n, crI, crL, crC, crW, crV, crR_e, crR_n, crN_e, crN_n, ciR, ciL, ciD, ciN_e, ciN_n, rdI_e, rdI_n, rdC_i, rdC_o, rdW, rdU_e, rdU_n, rdLW, clI, clR, clC, clD, clW, clV, clN_e, clN_n, clL_e, clL_n]; done) | (simp (disch := omega) only [shI, shR, shL, shC, shD, shW, sh_V, shN_e, shN_n, crI, crL, crC, crW, crV, crR_e, crR_n, crN_e, crN_n, ciR, ciL, ciD, ciN_e, ciN_n, rdI_e, rdI_n, rdC_i, rdC_o, rdW, rdU_e, rdU_n, rdLW, clI, clR, clC, clD, clW, clV, clN_e, clN_n, clL_e, clL_n] <;> first | assumption | rfl | omega)) ?_
            refine x_aload_n dX1_steps_31 rfl rfl ?_
            refine g_getR (kI := 8) rfl dX1_steps_32 fX1_49_1 (by first | assumption | first | assumption | (simp (disch := omega) only [shI, shR, shL, shC, shD, shW, sh_V, shN_e, shN_n, crI, crL, crC, crW, crV, crR_e, crR_n, crN_e, crN_n, ciR, ciL, ciD, ciN_e, ciN_n, rdI_e, rdI_n, rdC_i, rdC_o, rdW, rdU_e, rdU_n, rdLW, clI, clR, clC, clD, clW, clV, clN_e, clN_n, clL_e, clL_n]; done) | (simp (disch := omega) only [shI, shR, shL, shC, shD, shW, sh_V, shN_e, shN_n, crI, crL, crC, crW, crV, crR_e, crR_n, crN_e, crN_n, ciR, ciL, ciD, ciN_e, ciN_n, rdI_e, rdI_n, rdC_i, rdC_o, rdW, rdU_e, rdU_n, rdLW, clI, clR, clC, clD, clW, clV, clN_e, clN_n, clL_e, clL_n] <;> first | assumption | rfl | omega)) (by first | assumption | first | assumption | (simp (disch := omega) only [shI, shR, shL, shC, shD, shW, sh_V, shN_e, shN_n, crI, crL, crC, crW, crV, crR_e, crR_n, crN_e, crN_n, ciR, ciL, ciD, ciN_e, ciN_n, rdI_e, rdI_n, rdC_i, rdC_o, rdW, rdU_e, rdU_n, rdLW, clI, clR, clC, clD, clW, clV, clN_e, clN_n, clL_e, clL_n]; done) | (simp (disch := omega) only [shI, shR, shL, shC, shD, shW, sh_V, shN_e, shN_n, crI, crL, crC, crW, crV, crR_e, crR_n, crN_e, crN_n, ciR, ciL, ciD, ciN_e, ciN_n, rdI_e, rdI_n, rdC_i, rdC_o, rdW, rdU_e, rdU_n, rdLW, clI, clR, clC, clD, clW, clV, clN_e, clN_n, clL_e, clL_n] <;> first | assumption | rfl | omega)) ?_
            refine g_callI (vs := [_, _]) (d' := d - 1) rfl (s_X3_opAt (by omega) hs54 g196 (hB.eqB hv hBu) hu.1 hg1 hpc.1) dX1_steps_35 kX1_303 (by omega) (by decide) rfl (Nat.le_of_ble_eq_true rfl) (rcv_o (by first | assumption | first | assumption | (simp (disch := omega) only [shI, shR, shL, shC, shD, shW, sh_V, shN_e, shN_n, crI, crL, crC, crW, crV, crR_e, crR_n, crN_e, crN_n, ciR, ciL, ciD, ciN_e, ciN_n, rdI_e, rdI_n, rdC_i, rdC_o, rdW, rdU_e, rdU_n, rdLW, clI, clR, clC, clD, clW, clV, clN_e, clN_n, clL_e, clL_n]; done) | (simp (disch := omega) only [shI, shR, shL, shC, shD, shW, sh_V, shN_e, shN_n, crI, crL, crC, crW, crV, crR_e, crR_n, crN_e, crN_n, ciR, ciL, ciD, ciN_e, ciN_n, rdI_e, rdI_n, rdC_i, rdC_o, rdW, rdU_e, rdU_n, rdLW, clI, clR, clC, clD, clW, clV, clN_e, clN_n, clL_e, clL_n] <;> first | assumption | rfl | omega)) rfl) (fun x35 M35 h35 => ?_)
            obtain ⟨e35, f35⟩ := h35
            have f35' := f35.symm
            subst f35'
            refine x_istore (L' := [some _, some _, some _, some _, some _, some _, some _, none]) dX1_steps_38 (by decide) rfl ?_
            refine x_aload_n dX1_steps_40 rfl rfl ?_
            refine g_getR (kI := 1) rfl dX1_steps_41 fX1_22_1 (by first | assumption | first | assumption | (simp (disch := omega) only [shI, shR, shL, shC, shD, shW, sh_V, shN_e, shN_n, crI, crL, crC, crW, crV, crR_e, crR_n, crN_e, crN_n, ciR, ciL, ciD, ciN_e, ciN_n, rdI_e, rdI_n, rdC_i, rdC_o, rdW, rdU_e, rdU_n, rdLW, clI, clR, clC, clD, clW, clV, clN_e, clN_n, clL_e, clL_n]; done) | (simp (disch := omega) only [shI, shR, shL, shC, shD, shW, sh_V, shN_e, shN_n, crI, crL, crC, crW, crV, crR_e, crR_n, crN_e, crN_n, ciR, ciL, ciD, ciN_e, ciN_n, rdI_e, rdI_n, rdC_i, rdC_o, rdW, rdU_e, rdU_n, rdLW, clI, clR, clC, clD, clW, clV, clN_e, clN_n, clL_e, clL_n] <;> first | assumption | rfl | omega)) (by first | assumption | first | assumption | (simp (disch := omega) only [shI, shR, shL, shC, shD, shW, sh_V, shN_e, shN_n, crI, crL, crC, crW, crV, crR_e, crR_n, crN_e, crN_n, ciR, ciL, ciD, ciN_e, ciN_n, rdI_e, rdI_n, rdC_i, rdC_o, rdW, rdU_e, rdU_n, rdLW, clI, clR, clC, clD, clW, clV, clN_e, clN_n, clL_e, clL_n]; done) | (simp (disch := omega) only [shI, shR, shL, shC, shD, shW, sh_V, shN_e, shN_n, crI, crL, crC, crW, crV, crR_e, crR_n, crN_e, crN_n, ciR, ciL, ciD, ciN_e, ciN_n, rdI_e, rdI_n, rdC_i, rdC_o, rdW, rdU_e, rdU_n, rdLW, clI, clR, clC, clD, clW, clV, clN_e, clN_n, clL_e, clL_n] <;> first | assumption | rfl | omega)) ?_
            refine x_aload_n dX1_steps_44 rfl rfl ?_
            refine g_getR (kI := 8) rfl dX1_steps_45 fX1_49_1 (by first | assumption | first | assumption | (simp (disch := omega) only [shI, shR, shL, shC, shD, shW, sh_V, shN_e, shN_n, crI, crL, crC, crW, crV, crR_e, crR_n, crN_e, crN_n, ciR, ciL, ciD, ciN_e, ciN_n, rdI_e, rdI_n, rdC_i, rdC_o, rdW, rdU_e, rdU_n, rdLW, clI, clR, clC, clD, clW, clV, clN_e, clN_n, clL_e, clL_n]; done) | (simp (disch := omega) only [shI, shR, shL, shC, shD, shW, sh_V, shN_e, shN_n, crI, crL, crC, crW, crV, crR_e, crR_n, crN_e, crN_n, ciR, ciL, ciD, ciN_e, ciN_n, rdI_e, rdI_n, rdC_i, rdC_o, rdW, rdU_e, rdU_n, rdLW, clI, clR, clC, clD, clW, clV, clN_e, clN_n, clL_e, clL_n] <;> first | assumption | rfl | omega)) (by first | assumption | first | assumption | (simp (disch := omega) only [shI, shR, shL, shC, shD, shW, sh_V, shN_e, shN_n, crI, crL, crC, crW, crV, crR_e, crR_n, crN_e, crN_n, ciR, ciL, ciD, ciN_e, ciN_n, rdI_e, rdI_n, rdC_i, rdC_o, rdW, rdU_e, rdU_n, rdLW, clI, clR, clC, clD, clW, clV, clN_e, clN_n, clL_e, clL_n]; done) | (simp (disch := omega) only [shI, shR, shL, shC, shD, shW, sh_V, shN_e, shN_n, crI, crL, crC, crW, crV, crR_e, crR_n, crN_e, crN_n, ciR, ciL, ciD, ciN_e, ciN_n, rdI_e, rdI_n, rdC_i, rdC_o, rdW, rdU_e, rdU_n, rdLW, clI, clR, clC, clD, clW, clV, clN_e, clN_n, clL_e, clL_n] <;> first | assumption | rfl | omega)) ?_
            refine g_callI (vs := [_, _]) (d' := d - 1) rfl (s_X3_stepsHosted (v := u) (by omega) hs54 g196 (Or.inr (Or.inr (Or.inr (by omega)))) (hR.1.eqB hv hBu) hu.1 hg1 hu.2.2 (by omega)) dX1_steps_48 kX1_361 (by omega) (by decide) rfl (Nat.le_of_ble_eq_true rfl) (rcv_o (by first | assumption | first | assumption | (simp (disch := omega) only [shI, shR, shL, shC, shD, shW, sh_V, shN_e, shN_n, crI, crL, crC, crW, crV, crR_e, crR_n, crN_e, crN_n, ciR, ciL, ciD, ciN_e, ciN_n, rdI_e, rdI_n, rdC_i, rdC_o, rdW, rdU_e, rdU_n, rdLW, clI, clR, clC, clD, clW, clV, clN_e, clN_n, clL_e, clL_n]; done) | (simp (disch := omega) only [shI, shR, shL, shC, shD, shW, sh_V, shN_e, shN_n, crI, crL, crC, crW, crV, crR_e, crR_n, crN_e, crN_n, ciR, ciL, ciD, ciN_e, ciN_n, rdI_e, rdI_n, rdC_i, rdC_o, rdW, rdU_e, rdU_n, rdLW, clI, clR, clC, clD, clW, clV, clN_e, clN_n, clL_e, clL_n] <;> first | assumption | rfl | omega)) rfl) (fun x48 M48 h48 => ?_)
            obtain ⟨g48, hM48, e48, a48, f48⟩ := h48
            subst hM48
            subst e48
            have eh5 : (hostV u) 5 = u 5 := hostV_eqB 5 (by omega)
            have hq2 : CQ M (wI M' g48) (j.toNat + 0) (2 * j.toNat + 0) := hq.trans (CQ.w (fun b k q1 q2 => f48 b k q2 (by omega)) ⟨by rw [f48 _ _ (by omega) (by omega)]; exact hSk.2.1, by rw [f48 _ _ (by omega) (by omega)]; exact hSk.2.2.1, by rw [f48 _ _ (by omega) (by omega)]; exact hSk.2.2.2.1, a48.2.2.1⟩)
            have hq3 : CQ M (mI (mI (mNx (wI M' g48) X 100 2 2) X 0 0) X 1 1) (j.toNat + 0 + 1) (2 * j.toNat + 0 + 2) := ((hq2.nw (x := X) (t := 100) (n' := 2) (sl := 2) hX (by omega)).wi (by omega) (by omega)).wi (by omega) (by omega)
            have hC3 := hC0.cq hq3
            have hf3 : ∀ b i, ¬ b = X → mci (mI (mI (mNx (wI M' g48) X 100 2 2) X 0 0) X 1 1) b i = g48 b i := fun b i q => (rdI_n (by omega)).trans ((rdI_n (by omega)).trans (ciN_n q))
            have ha3 : RelG (mci (mI (mI (mNx (wI M' g48) X 100 2 2) X 0 0) X 1 1)) 196 ((hostV u) 5) (hostV u) 1 := by
              rw [eh5]
              exact a48.eqf fun b i b0 b1 => hf3 b i (by omega)
            have nx : ∀ (x' : Int) (M4 : Mem) (o1 o2 : Option DV), CQ M M4 (j.toNat + 0 + 1) (2 * j.toNat + 0 + 2) → RelG (mci M4) 196 ((hostV u) 5) (hostV u) 1 → x' = x + (if hostH u = 6 then 0 else ea) + (if hostH u ≤ 1 then (if dp < 0 then 1 else dp * emuV u (opAtV u 1)) else 0) → (0 ≤ x' ∧ x' ≤ x + 3000) → WP G d mX1_steps 21 [some (dR 0), some (dI k), some (dI ea), some (dI dp), some (dI x'), some (dI (j + 1)), o1, o2] [] M4 Q := fun x' M4 o1 o2 y1 y2 y3 y4 => x_fgt (L' := [some (dR 0), some (dI k), some (dI ea), some (dI dp), some (dI x'), some (dI (j + 1)), none, none]) (by repeat (first | exact trivial | refine ⟨rfl, ?_⟩)) (ih _ (by omega) (j + 1) x' (hostV u) M4 rfl (by omega) (y1.le (by omega) (by omega)) (okA_hostV hu) (hBu.trans hostV_eqB) y2 (by rw [hx, y3]; omega) (by omega))
            refine x_istore (L' := [some _, some _, some _, some _, some _, some _, some _, some _]) dX1_steps_51 (by decide) rfl ?_
            refine x_iload dX1_steps_53 rfl ?_
            refine x_iload dX1_steps_55 rfl ?_
            refine x_bipush dX1_steps_57 rfl ?_
            refine x_icmp_ne (tgt := 66) dX1_steps_59 (by decide) (fun h59 => ?_) (fun h59 => ?_)
            · refine x_iload_n dX1_steps_66 rfl rfl ?_
              first | refine x_iaddN dX1_steps_67 (by unfold i32; omega) ?_ | refine x_iadd dX1_steps_67 ?_
              refine x_istore (L' := [some _, some _, some _, some _, some _, some _, some _, some _]) dX1_steps_68 (by decide) rfl ?_
              refine x_iload dX1_steps_70 rfl ?_
              refine x_iconst dX1_steps_72 rfl ?_
              refine x_newaX (x := X) (by first | (simp only [nxI, nxR, nxL, nxC, nxD, nxW, nxV, nxN]; done) | (simp only [nxI, nxR, nxL, nxC, nxD, nxW, nxV, nxN]; omega) | omega) (t := 100) (by decide) rfl q284 (by omega) (by omega) dX1_steps_73 ?_
              refine x_dup dX1_steps_75 rfl ?_
              refine x_iconst dX1_steps_76 rfl ?_
              refine x_iconst dX1_steps_77 rfl ?_
              refine x_iast (by omega) dX1_steps_78 (by first | assumption | first | assumption | (simp (disch := omega) only [shI, shR, shL, shC, shD, shW, sh_V, shN_e, shN_n, crI, crL, crC, crW, crV, crR_e, crR_n, crN_e, crN_n, ciR, ciL, ciD, ciN_e, ciN_n, rdI_e, rdI_n, rdC_i, rdC_o, rdW, rdU_e, rdU_n, rdLW, clI, clR, clC, clD, clW, clV, clN_e, clN_n, clL_e, clL_n]; done) | (simp (disch := omega) only [shI, shR, shL, shC, shD, shW, sh_V, shN_e, shN_n, crI, crL, crC, crW, crV, crR_e, crR_n, crN_e, crN_n, ciR, ciL, ciD, ciN_e, ciN_n, rdI_e, rdI_n, rdC_i, rdC_o, rdW, rdU_e, rdU_n, rdLW, clI, clR, clC, clD, clW, clV, clN_e, clN_n, clL_e, clL_n] <;> first | assumption | rfl | omega)) (by omega) (by omega) ?_
              refine x_dup dX1_steps_79 rfl ?_
              refine x_iconst dX1_steps_80 rfl ?_
              refine x_iconst dX1_steps_81 rfl ?_
              refine x_iast (by omega) dX1_steps_82 (by first | assumption | first | assumption | (simp (disch := omega) only [shI, shR, shL, shC, shD, shW, sh_V, shN_e, shN_n, crI, crL, crC, crW, crV, crR_e, crR_n, crN_e, crN_n, ciR, ciL, ciD, ciN_e, ciN_n, rdI_e, rdI_n, rdC_i, rdC_o, rdW, rdU_e, rdU_n, rdLW, clI, clR, clC, clD, clW, clV, clN_e, clN_n, clL_e, clL_n]; done) | (simp (disch := omega) only [shI, shR, shL, shC, shD, shW, sh_V, shN_e, shN_n, crI, crL, crC, crW, crV, crR_e, crR_n, crN_e, crN_n, ciR, ciL, ciD, ciN_e, ciN_n, rdI_e, rdI_n, rdC_i, rdC_o, rdW, rdU_e, rdU_n, rdLW, clI, clR, clC, clD, clW, clV, clN_e, clN_n, clL_e, clL_n] <;> first | assumption | rfl | omega)) (by omega) (by omega) ?_
              refine g_callI (vs := [_, _]) (d' := d - 1) rfl (s_X1_isAny (n := 2) (by omega) (by first | assumption | (simp (disch := omega) only [shI, shR, shL, shC, shD, shW, sh_V, shN_e, shN_n, crI, crL, crC, crW, crV, crR_e, crR_n, crN_e, crN_n, ciR, ciL, ciD, ciN_e, ciN_n, rdI_e, rdI_n, rdC_i, rdC_o, rdW, rdU_e, rdU_n, rdLW, clI, clR, clC, clD, clW, clV, clN_e, clN_n, clL_e, clL_n]; done) | (simp (disch := omega) only [shI, shR, shL, shC, shD, shW, sh_V, shN_e, shN_n, crI, crL, crC, crW, crV, crR_e, crR_n, crN_e, crN_n, ciR, ciL, ciD, ciN_e, ciN_n, rdI_e, rdI_n, rdC_i, rdC_o, rdW, rdU_e, rdU_n, rdLW, clI, clR, clC, clD, clW, clV, clN_e, clN_n, clL_e, clL_n] <;> first | assumption | rfl | omega)) (by omega) (by omega)) dX1_steps_83 kX1_367 (by omega) (by decide) rfl (Nat.le_of_ble_eq_true rfl) (rcv_n) (fun x83 M83 h83 => ?_)
              obtain ⟨e83, f83⟩ := h83
              rw [vP_c (any2 (c := 0) (e := 1) (by first | assumption | (simp (disch := omega) only [shI, shR, shL, shC, shD, shW, sh_V, shN_e, shN_n, crI, crL, crC, crW, crV, crR_e, crR_n, crN_e, crN_n, ciR, ciL, ciD, ciN_e, ciN_n, rdI_e, rdI_n, rdC_i, rdC_o, rdW, rdU_e, rdU_n, rdLW, clI, clR, clC, clD, clW, clV, clN_e, clN_n, clL_e, clL_n]; done) | (simp (disch := omega) only [shI, shR, shL, shC, shD, shW, sh_V, shN_e, shN_n, crI, crL, crC, crW, crV, crR_e, crR_n, crN_e, crN_n, ciR, ciL, ciD, ciN_e, ciN_n, rdI_e, rdI_n, rdC_i, rdC_o, rdW, rdU_e, rdU_n, rdLW, clI, clR, clC, clD, clW, clV, clN_e, clN_n, clL_e, clL_n] <;> first | assumption | rfl | omega)) (by first | assumption | (simp (disch := omega) only [shI, shR, shL, shC, shD, shW, sh_V, shN_e, shN_n, crI, crL, crC, crW, crV, crR_e, crR_n, crN_e, crN_n, ciR, ciL, ciD, ciN_e, ciN_n, rdI_e, rdI_n, rdC_i, rdC_o, rdW, rdU_e, rdU_n, rdLW, clI, clR, clC, clD, clW, clV, clN_e, clN_n, clL_e, clL_n]; done) | (simp (disch := omega) only [shI, shR, shL, shC, shD, shW, sh_V, shN_e, shN_n, crI, crL, crC, crW, crV, crR_e, crR_n, crN_e, crN_n, ciR, ciL, ciD, ciN_e, ciN_n, rdI_e, rdI_n, rdC_i, rdC_o, rdW, rdU_e, rdU_n, rdLW, clI, clR, clC, clD, clW, clV, clN_e, clN_n, clL_e, clL_n] <;> first | assumption | rfl | omega)))] at e83
              subst e83
              subst f83
              refine x_if_eq (tgt := 114) dX1_steps_86 (by decide) (fun h86 => ?_) (fun h86 => ?_)
              · try simp only [vP_0, vP_1, vP_n0, vP_n1, Classical.not_not] at h86
                first | refine x_iincN (L' := [some _, some _, some _, some _, some _, some _, some _, some _]) dX1_steps_114 rfl (by decide) (by unfold i32; omega) rfl ?_ | refine x_iinc (L' := [some _, some _, some _, some _, some _, some _, some _, some _]) dX1_steps_114 rfl (by decide) rfl ?_
                refine x_goto (tgt := 21) dX1_steps_117 (by decide) ?_
                first
                | (exfalso; omega)
                | (refine nx _ _ _ _ (hq3.trans (CQ.w (M := _) (g := g107) (fun b k q1 q2 => f107 b k (by omega)) ⟨by rw [f107 _ _ (by omega)]; exact hC3.1.2.2.2.2.1.2.1, by rw [f107 _ _ (by omega)]; exact hC3.1.2.2.2.2.1.2.2.1, by rw [f107 _ _ (by omega)]; exact hC3.1.2.2.2.2.1.2.2.2.1, by rw [f107 _ _ (by omega)]; exact hC3.1.2.2.2.2.1.2.2.2.2⟩)) (ha3.eqf fun b i b0 b1 => f107 b i (by omega)) ?_ ?_
                   · rw [if_neg (by omega), if_pos (by omega), if_neg (by omega), eE, e107.1]
                   · omega)
                | (refine nx _ _ _ _ hq3 ha3 ?_ ?_
                   · rw [if_neg (by omega), if_pos (by omega), if_pos (by omega)]
                   · omega)
                | (refine nx _ _ _ _ hq3 ha3 ?_ ?_
                   · first
                     | (rw [if_neg h59, if_neg (by omega)]; omega)
                     | (rw [if_pos h59, if_neg (by omega)]; omega)
                   · omega)
              · try simp only [vP_0, vP_1, vP_n0, vP_n1, Classical.not_not] at h86
                refine x_iload dX1_steps_89 rfl ?_
                refine x_iload_n dX1_steps_91 rfl rfl ?_
                have h35lt : u (guA 1) < u 3 := by
                  by_cases q : u 3 ≤ u (guA 1)
                  · have : hostH u = 6 := if_pos q
                    omega
                  · omega
                rw [if_pos h35lt] at e35
                subst e35
                have eE : emuV u (opAtV u 1) = emuV v (opAtV u 1) := emuV_eq hv (by rw [← hu0]; exact hpr h35lt) hmB hLw
                refine x_iconst dX1_steps_92 rfl ?_
                refine x_icmp_ne (tgt := 100) dX1_steps_93 (by decide) (fun h93 => ?_) (fun h93 => ?_)
                · refine x_iload_n dX1_steps_100 rfl rfl ?_
                  refine x_aload_n dX1_steps_101 rfl rfl ?_
                  refine g_getR (kI := 1) rfl dX1_steps_102 fX1_22_1 (by first | assumption | first | assumption | (simp (disch := omega) only [shI, shR, shL, shC, shD, shW, sh_V, shN_e, shN_n, crI, crL, crC, crW, crV, crR_e, crR_n, crN_e, crN_n, ciR, ciL, ciD, ciN_e, ciN_n, rdI_e, rdI_n, rdC_i, rdC_o, rdW, rdU_e, rdU_n, rdLW, clI, clR, clC, clD, clW, clV, clN_e, clN_n, clL_e, clL_n]; done) | (simp (disch := omega) only [shI, shR, shL, shC, shD, shW, sh_V, shN_e, shN_n, crI, crL, crC, crW, crV, crR_e, crR_n, crN_e, crN_n, ciR, ciL, ciD, ciN_e, ciN_n, rdI_e, rdI_n, rdC_i, rdC_o, rdW, rdU_e, rdU_n, rdLW, clI, clR, clC, clD, clW, clV, clN_e, clN_n, clL_e, clL_n] <;> first | assumption | rfl | omega)) (by first | assumption | first | assumption | (simp (disch := omega) only [shI, shR, shL, shC, shD, shW, sh_V, shN_e, shN_n, crI, crL, crC, crW, crV, crR_e, crR_n, crN_e, crN_n, ciR, ciL, ciD, ciN_e, ciN_n, rdI_e, rdI_n, rdC_i, rdC_o, rdW, rdU_e, rdU_n, rdLW, clI, clR, clC, clD, clW, clV, clN_e, clN_n, clL_e, clL_n]; done) | (simp (disch := omega) only [shI, shR, shL, shC, shD, shW, sh_V, shN_e, shN_n, crI, crL, crC, crW, crV, crR_e, crR_n, crN_e, crN_n, ciR, ciL, ciD, ciN_e, ciN_n, rdI_e, rdI_n, rdC_i, rdC_o, rdW, rdU_e, rdU_n, rdLW, clI, clR, clC, clD, clW, clV, clN_e, clN_n, clL_e, clL_n] <;> first | assumption | rfl | omega)) ?_
                  refine x_iload dX1_steps_105 rfl ?_
                  refine g_callI (vs := [_, _]) (d' := d - 1) rfl (s_X3_emulation (N := N) (op := opAtV u 1) (by omega) (hC3.1.1.2.2.2.1 54 (by unfold SB; omega)) hC3.2.1.2.2.1.1 hv hC3.2.1.2.2.1.2.1 hC3.2.1.2.2.1.2.2 (by omega) (by rw [← hu0]; exact hpr h35lt)) dX1_steps_107 kX1_260 (by omega) (by decide) rfl (Nat.le_of_ble_eq_true rfl) (rcv_o (by first | assumption | first | assumption | (simp (disch := omega) only [shI, shR, shL, shC, shD, shW, sh_V, shN_e, shN_n, crI, crL, crC, crW, crV, crR_e, crR_n, crN_e, crN_n, ciR, ciL, ciD, ciN_e, ciN_n, rdI_e, rdI_n, rdC_i, rdC_o, rdW, rdU_e, rdU_n, rdLW, clI, clR, clC, clD, clW, clV, clN_e, clN_n, clL_e, clL_n]; done) | (simp (disch := omega) only [shI, shR, shL, shC, shD, shW, sh_V, shN_e, shN_n, crI, crL, crC, crW, crV, crR_e, crR_n, crN_e, crN_n, ciR, ciL, ciD, ciN_e, ciN_n, rdI_e, rdI_n, rdC_i, rdC_o, rdW, rdU_e, rdU_n, rdLW, clI, clR, clC, clD, clW, clV, clN_e, clN_n, clL_e, clL_n] <;> first | assumption | rfl | omega)) rfl) (fun x107 M107 h107 => ?_)
                  obtain ⟨g107, hM107, e107, f107⟩ := h107
                  subst hM107
                  have hmul : 0 ≤ dp * x107 := Int.mul_nonneg (by omega) (by omega)
                  have hmul2 : dp * x107 ≤ 5 * 487 := Int.mul_le_mul (by omega) (by omega) (by omega) (by omega)
                  first | refine x_imulN dX1_steps_110 (by unfold i32; omega) ?_ | refine x_imul dX1_steps_110 ?_
                  first | refine x_iaddN dX1_steps_111 (by unfold i32; omega) ?_ | refine x_iadd dX1_steps_111 ?_
                  refine x_istore (L' := [some _, some _, some _, some _, some _, some _, some _, some _]) dX1_steps_112 (by decide) rfl ?_
                  first | refine x_iincN (L' := [some _, some _, some _, some _, some _, some _, some _, some _]) dX1_steps_114 rfl (by decide) (by unfold i32; omega) rfl ?_ | refine x_iinc (L' := [some _, some _, some _, some _, some _, some _, some _, some _]) dX1_steps_114 rfl (by decide) rfl ?_
                  refine x_goto (tgt := 21) dX1_steps_117 (by decide) ?_
                  first
                  | (exfalso; omega)
                  | (refine nx _ _ _ _ (hq3.trans (CQ.w (M := _) (g := g107) (fun b k q1 q2 => f107 b k (by omega)) ⟨by rw [f107 _ _ (by omega)]; exact hC3.1.2.2.2.2.1.2.1, by rw [f107 _ _ (by omega)]; exact hC3.1.2.2.2.2.1.2.2.1, by rw [f107 _ _ (by omega)]; exact hC3.1.2.2.2.2.1.2.2.2.1, by rw [f107 _ _ (by omega)]; exact hC3.1.2.2.2.2.1.2.2.2.2⟩)) (ha3.eqf fun b i b0 b1 => f107 b i (by omega)) ?_ ?_
                     · rw [if_neg (by omega), if_pos (by omega), if_neg (by omega), eE, e107.1]
                     · omega)
                  | (refine nx _ _ _ _ hq3 ha3 ?_ ?_
                     · rw [if_neg (by omega), if_pos (by omega), if_pos (by omega)]
                     · omega)
                  | (refine nx _ _ _ _ hq3 ha3 ?_ ?_
                     · first
                       | (rw [if_neg h59, if_neg (by omega)]; omega)
                       | (rw [if_pos h59, if_neg (by omega)]; omega)
                     · omega)
                · refine x_iconst dX1_steps_96 rfl ?_
                  refine x_goto (tgt := 111) dX1_steps_97 (by decide) ?_
                  first | refine x_iaddN dX1_steps_111 (by unfold i32; omega) ?_ | refine x_iadd dX1_steps_111 ?_
                  refine x_istore (L' := [some _, some _, some _, some _, some _, some _, some _, some _]) dX1_steps_112 (by decide) rfl ?_
                  first | refine x_iincN (L' := [some _, some _, some _, some _, some _, some _, some _, some _]) dX1_steps_114 rfl (by decide) (by unfold i32; omega) rfl ?_ | refine x_iinc (L' := [some _, some _, some _, some _, some _, some _, some _, some _]) dX1_steps_114 rfl (by decide) rfl ?_
                  refine x_goto (tgt := 21) dX1_steps_117 (by decide) ?_
                  first
                  | (exfalso; omega)
                  | (refine nx _ _ _ _ (hq3.trans (CQ.w (M := _) (g := g107) (fun b k q1 q2 => f107 b k (by omega)) ⟨by rw [f107 _ _ (by omega)]; exact hC3.1.2.2.2.2.1.2.1, by rw [f107 _ _ (by omega)]; exact hC3.1.2.2.2.2.1.2.2.1, by rw [f107 _ _ (by omega)]; exact hC3.1.2.2.2.2.1.2.2.2.1, by rw [f107 _ _ (by omega)]; exact hC3.1.2.2.2.2.1.2.2.2.2⟩)) (ha3.eqf fun b i b0 b1 => f107 b i (by omega)) ?_ ?_
                     · rw [if_neg (by omega), if_pos (by omega), if_neg (by omega), eE, e107.1]
                     · omega)
                  | (refine nx _ _ _ _ hq3 ha3 ?_ ?_
                     · rw [if_neg (by omega), if_pos (by omega), if_pos (by omega)]
                     · omega)
                  | (refine nx _ _ _ _ hq3 ha3 ?_ ?_
                     · first
                       | (rw [if_neg h59, if_neg (by omega)]; omega)
                       | (rw [if_pos h59, if_neg (by omega)]; omega)
                     · omega)
            · exact absurd h59 h6
      · refine x_iload dX1_steps_21 rfl ?_
        refine x_iload_n dX1_steps_23 rfl rfl ?_
        refine x_icmp_ge (tgt := 120) dX1_steps_24 (by decide) (fun h24 => ?_) (fun h24 => ?_)
        · refine x_iload dX1_steps_120 rfl ?_
          refine x_ireturn rfl dX1_steps_122 ?_
          refine hQ _ _ ⟨_, rfl, ?_, hC, hq.cr.le (by omega) (by omega)⟩
          rw [hx, show (k - j).toNat = 0 by omega]
          show x = x + 0
          omega
        · omega
  obtain ⟨hC1, hC54, hCA, hCR⟩ := id hC; obtain ⟨hS, hTab, hTx, hLn, hSk, hnx⟩ := id hC1; obtain ⟨hA, hL, hR⟩ := id hC54; obtain ⟨⟨s0, s199, s200, s201, s202, s203⟩, ⟨c0, c1, c2, c3, c4, c5, c6, c7, c8, c9, c10, c11, c12⟩, c203, hSt, m189, m191, g193, g196, ⟨⟨r2, r3, r4, r5, r6, r7, r53⟩, ⟨w0, w1, w2, w3, w4, w5, w6⟩, wx1, wx2, wx3⟩⟩ := id hS; have hv := hA.1; have hv8 := hv.n8; have hv0 := hv.1.1; have hv3 := hv.2.2.2.1; have hs54 := hSt 54 (by unfold SB; omega); obtain ⟨p0, p1, ⟨d0, d1, d2, d3, d4, d5, d6, d7⟩, ⟨t1, t2, t3, t4, t5, t6⟩, p5, p6, p7⟩ := id hs54; have t7 : msh M (54 + 7) = some (4, 0) := p5.2.1; have t10 : msh M (54 + 10) = some (4, 0) := p6.2.1; obtain ⟨hB, hW, hLw⟩ := id hR.1; obtain ⟨b1, b2, b3, b4, b5, b6, b7, b8, b9, b10, b11, b12, b13, b14, b15⟩ := id hB; obtain ⟨hn, hn2, hat, hAc⟩ := id hCA; obtain ⟨⟨hki, hhi⟩, hIm, ⟨htp, hsz, hsz2⟩, hfa⟩ := id hCR
  have m196 : msh M 196 = some (4, 0) := g196.2.1
  refine x_aload_n dX1_steps_0 rfl rfl ?_
  refine g_getR (kI := 1) rfl dX1_steps_1 fX1_22_1 (by first | assumption | first | assumption | (simp (disch := omega) only [shI, shR, shL, shC, shD, shW, sh_V, shN_e, shN_n, crI, crL, crC, crW, crV, crR_e, crR_n, crN_e, crN_n, ciR, ciL, ciD, ciN_e, ciN_n, rdI_e, rdI_n, rdC_i, rdC_o, rdW, rdU_e, rdU_n, rdLW, clI, clR, clC, clD, clW, clV, clN_e, clN_n, clL_e, clL_n]; done) | (simp (disch := omega) only [shI, shR, shL, shC, shD, shW, sh_V, shN_e, shN_n, crI, crL, crC, crW, crV, crR_e, crR_n, crN_e, crN_n, ciR, ciL, ciD, ciN_e, ciN_n, rdI_e, rdI_n, rdC_i, rdC_o, rdW, rdU_e, rdU_n, rdLW, clI, clR, clC, clD, clW, clV, clN_e, clN_n, clL_e, clL_n] <;> first | assumption | rfl | omega)) (by first | assumption | first | assumption | (simp (disch := omega) only [shI, shR, shL, shC, shD, shW, sh_V, shN_e, shN_n, crI, crL, crC, crW, crV, crR_e, crR_n, crN_e, crN_n, ciR, ciL, ciD, ciN_e, ciN_n, rdI_e, rdI_n, rdC_i, rdC_o, rdW, rdU_e, rdU_n, rdLW, clI, clR, clC, clD, clW, clV, clN_e, clN_n, clL_e, clL_n]; done) | (simp (disch := omega) only [shI, shR, shL, shC, shD, shW, sh_V, shN_e, shN_n, crI, crL, crC, crW, crV, crR_e, crR_n, crN_e, crN_n, ciR, ciL, ciD, ciN_e, ciN_n, rdI_e, rdI_n, rdC_i, rdC_o, rdW, rdU_e, rdU_n, rdLW, clI, clR, clC, clD, clW, clV, clN_e, clN_n, clL_e, clL_n] <;> first | assumption | rfl | omega)) ?_
  refine x_aload_n dX1_steps_4 rfl rfl ?_
  refine g_getR (kI := 7) rfl dX1_steps_5 fX1_45_1 (by first | assumption | first | assumption | (simp (disch := omega) only [shI, shR, shL, shC, shD, shW, sh_V, shN_e, shN_n, crI, crL, crC, crW, crV, crR_e, crR_n, crN_e, crN_n, ciR, ciL, ciD, ciN_e, ciN_n, rdI_e, rdI_n, rdC_i, rdC_o, rdW, rdU_e, rdU_n, rdLW, clI, clR, clC, clD, clW, clV, clN_e, clN_n, clL_e, clL_n]; done) | (simp (disch := omega) only [shI, shR, shL, shC, shD, shW, sh_V, shN_e, shN_n, crI, crL, crC, crW, crV, crR_e, crR_n, crN_e, crN_n, ciR, ciL, ciD, ciN_e, ciN_n, rdI_e, rdI_n, rdC_i, rdC_o, rdW, rdU_e, rdU_n, rdLW, clI, clR, clC, clD, clW, clV, clN_e, clN_n, clL_e, clL_n] <;> first | assumption | rfl | omega)) (by first | assumption | first | assumption | (simp (disch := omega) only [shI, shR, shL, shC, shD, shW, sh_V, shN_e, shN_n, crI, crL, crC, crW, crV, crR_e, crR_n, crN_e, crN_n, ciR, ciL, ciD, ciN_e, ciN_n, rdI_e, rdI_n, rdC_i, rdC_o, rdW, rdU_e, rdU_n, rdLW, clI, clR, clC, clD, clW, clV, clN_e, clN_n, clL_e, clL_n]; done) | (simp (disch := omega) only [shI, shR, shL, shC, shD, shW, sh_V, shN_e, shN_n, crI, crL, crC, crW, crV, crR_e, crR_n, crN_e, crN_n, ciR, ciL, ciD, ciN_e, ciN_n, rdI_e, rdI_n, rdC_i, rdC_o, rdW, rdU_e, rdU_n, rdLW, clI, clR, clC, clD, clW, clV, clN_e, clN_n, clL_e, clL_n] <;> first | assumption | rfl | omega)) ?_
  refine x_aload_n dX1_steps_8 rfl rfl ?_
  refine g_getR (kI := 8) rfl dX1_steps_9 fX1_49_1 (by first | assumption | first | assumption | (simp (disch := omega) only [shI, shR, shL, shC, shD, shW, sh_V, shN_e, shN_n, crI, crL, crC, crW, crV, crR_e, crR_n, crN_e, crN_n, ciR, ciL, ciD, ciN_e, ciN_n, rdI_e, rdI_n, rdC_i, rdC_o, rdW, rdU_e, rdU_n, rdLW, clI, clR, clC, clD, clW, clV, clN_e, clN_n, clL_e, clL_n]; done) | (simp (disch := omega) only [shI, shR, shL, shC, shD, shW, sh_V, shN_e, shN_n, crI, crL, crC, crW, crV, crR_e, crR_n, crN_e, crN_n, ciR, ciL, ciD, ciN_e, ciN_n, rdI_e, rdI_n, rdC_i, rdC_o, rdW, rdU_e, rdU_n, rdLW, clI, clR, clC, clD, clW, clV, clN_e, clN_n, clL_e, clL_n] <;> first | assumption | rfl | omega)) (by first | assumption | first | assumption | (simp (disch := omega) only [shI, shR, shL, shC, shD, shW, sh_V, shN_e, shN_n, crI, crL, crC, crW, crV, crR_e, crR_n, crN_e, crN_n, ciR, ciL, ciD, ciN_e, ciN_n, rdI_e, rdI_n, rdC_i, rdC_o, rdW, rdU_e, rdU_n, rdLW, clI, clR, clC, clD, clW, clV, clN_e, clN_n, clL_e, clL_n]; done) | (simp (disch := omega) only [shI, shR, shL, shC, shD, shW, sh_V, shN_e, shN_n, crI, crL, crC, crW, crV, crR_e, crR_n, crN_e, crN_n, ciR, ciL, ciD, ciN_e, ciN_n, rdI_e, rdI_n, rdC_i, rdC_o, rdW, rdU_e, rdU_n, rdLW, clI, clR, clC, clD, clW, clV, clN_e, clN_n, clL_e, clL_n] <;> first | assumption | rfl | omega)) ?_
  refine g_callN (vs := [_, _, _]) (d' := d - 1) rfl (s_X3_boots (by omega) hs54 g193 g196 hB hv (Or.inr (Or.inr (Or.inr (by omega)))) (Or.inr (Or.inr (Or.inr (by omega)))) (by omega)) dX1_steps_12 kX1_82 (by omega) (by decide) rfl (Nat.le_of_ble_eq_true rfl) (rcv_o (by first | assumption | first | assumption | (simp (disch := omega) only [shI, shR, shL, shC, shD, shW, sh_V, shN_e, shN_n, crI, crL, crC, crW, crV, crR_e, crR_n, crN_e, crN_n, ciR, ciL, ciD, ciN_e, ciN_n, rdI_e, rdI_n, rdC_i, rdC_o, rdW, rdU_e, rdU_n, rdLW, clI, clR, clC, clD, clW, clV, clN_e, clN_n, clL_e, clL_n]; done) | (simp (disch := omega) only [shI, shR, shL, shC, shD, shW, sh_V, shN_e, shN_n, crI, crL, crC, crW, crV, crR_e, crR_n, crN_e, crN_n, ciR, ciL, ciD, ciN_e, ciN_n, rdI_e, rdI_n, rdC_i, rdC_o, rdW, rdU_e, rdU_n, rdLW, clI, clR, clC, clD, clW, clV, clN_e, clN_n, clL_e, clL_n] <;> first | assumption | rfl | omega)) rfl) (fun M12 h12 => ?_)
  obtain ⟨g12, hM12, a12, b12, f12⟩ := h12
  subst hM12
  refine x_iconst dX1_steps_15 rfl ?_
  refine x_istore (L' := [some _, some _, some _, some _, some _, none, none, none]) dX1_steps_16 (by decide) rfl ?_
  refine x_iconst dX1_steps_18 rfl ?_
  refine x_istore (L' := [some _, some _, some _, some _, some _, some _, none, none]) dX1_steps_19 (by decide) rfl ?_
  refine lp _ 0 0 (bootV v) (wI M g12) rfl (by omega) ?_ (bootV_ok hv) bootV_eqB ?_ (by rw [show k - 0 = k by omega]; exact (Int.zero_add _).symm) (by omega)
  · have ha0 := RelG.boot (f := mci M) (i := 0) (Or.inl rfl) a12 hSk.2.2.2.1
    have ha1 := RelG.boot (f := mci M) (i := 1) (Or.inr rfl) b12 hSk.2.2.2.2
    exact CQ.w (fun b k q1 q2 => f12 b k (by omega) (by omega)) ⟨by rw [f12 _ _ (by omega) (by omega)]; exact hSk.2.1, by rw [f12 _ _ (by omega) (by omega)]; exact hSk.2.2.1, ha0.2.2.1, ha1.2.2.1⟩
  · rw [bootV_eqB 5 (by omega)]
    exact RelG.boot (Or.inr rfl) b12 hSk.2.2.2.2
theorem s_X1_traps (hd : 48 ≤ d) (hC : CI M v n A hi vi tp sz fa N) : CS G d mX1_traps [dR 0, dI k] M (orT (postI fun y M1 => (0 ≤ k ∧ k ≤ 60) ∧ y = depthV v k 0 (-1) ∧ CO M v n A hi vi tp sz fa N 60 120 M1) (fun a E M1 => CO M v n A hi vi tp sz fa N 1 6 M1 ∧ ¬ (0 ≤ k ∧ k ≤ 60) ∧ E = "java/lang/IllegalArgumentException")) := by
  have s0 : msh M 0 = some (1, 0) := hC.1.1.1.1
  refine CS.mkQ (by decide) (Nat.le_of_ble_eq_true rfl) fun Q hQ => ?_
  refine x_iload_n dX1_traps_0 rfl rfl ?_
  refine g_callNX (vs := [_]) (d' := d - 1) rfl (s_X1_areSteps (by omega)) dX1_traps_1 kX1_371 (by omega) (by decide) rfl (Nat.le_of_ble_eq_true rfl) (rcv_n) (fun M1 h1 => ?_) (fun a1 E1 M1 h1 => ?_)
  · obtain ⟨q1, e1⟩ := h1
    subst e1
    refine x_aload_n dX1_traps_4 rfl rfl ?_
    refine x_iload_n dX1_traps_5 rfl rfl ?_
    refine x_iconst dX1_traps_6 rfl ?_
    refine x_iconst dX1_traps_7 rfl ?_
    refine g_callI (vs := [_, _, _, _]) (d' := d - 1) rfl (s_X1_steps (by omega) hC q1 (Or.inl rfl) (by omega)) dX1_traps_8 kX1_374 (by omega) (by decide) rfl (Nat.le_of_ble_eq_true rfl) (rcv_o (by first | assumption | first | assumption | (simp (disch := omega) only [shI, shR, shL, shC, shD, shW, sh_V, shN_e, shN_n, crI, crL, crC, crW, crV, crR_e, crR_n, crN_e, crN_n, ciR, ciL, ciD, ciN_e, ciN_n, rdI_e, rdI_n, rdC_i, rdC_o, rdW, rdU_e, rdU_n, rdLW, clI, clR, clC, clD, clW, clV, clN_e, clN_n, clL_e, clL_n]; done) | (simp (disch := omega) only [shI, shR, shL, shC, shD, shW, sh_V, shN_e, shN_n, crI, crL, crC, crW, crV, crR_e, crR_n, crN_e, crN_n, ciR, ciL, ciD, ciN_e, ciN_n, rdI_e, rdI_n, rdC_i, rdC_o, rdW, rdU_e, rdU_n, rdLW, clI, clR, clC, clD, clW, clV, clN_e, clN_n, clL_e, clL_n] <;> first | assumption | rfl | omega)) rfl) (fun x8 M8 h8 => ?_)
    obtain ⟨e8, f8⟩ := h8
    refine x_ireturn rfl dX1_traps_11 ?_
    exact hQ _ _ (Or.inl ⟨_, rfl, q1, e8, f8⟩)
  · obtain ⟨q1, eE1, eM1⟩ := h1
    subst eE1
    subst eM1
    exact th_nil rfl (hQ _ _ (Or.inr ⟨_, _, rfl, CO.xx hC, q1, rfl⟩))
theorem s_X1_depth (hd : 48 ≤ d) (hC : CI M v n A hi vi tp sz fa N) : CS G d mX1_depth [dR 0, dI k, dI x] M (orT (postI fun y M1 => ((0 ≤ k ∧ k ≤ 60) ∧ 0 ≤ x ∧ x ≤ 5) ∧ y = depthV v k 1 x ∧ CO M v n A hi vi tp sz fa N 60 120 M1) (fun a E M1 => CO M v n A hi vi tp sz fa N 1 6 M1 ∧ ¬ ((0 ≤ k ∧ k ≤ 60) ∧ 0 ≤ x ∧ x ≤ 5) ∧ E = "java/lang/IllegalArgumentException")) := by
  have s0 : msh M 0 = some (1, 0) := hC.1.1.1.1
  refine CS.mkQ (by decide) (Nat.le_of_ble_eq_true rfl) fun Q hQ => ?_
  refine x_iload_n dX1_depth_0 rfl rfl ?_
  refine x_iconst dX1_depth_1 rfl ?_
  refine x_bipush dX1_depth_2 rfl ?_
  refine g_callI (vs := [_, _, _]) (d' := d - 1) rfl (s_X1_isIn (by omega)) dX1_depth_4 kX1_104 (by omega) (by decide) rfl (Nat.le_of_ble_eq_true rfl) (rcv_n) (fun x4 M4 h4 => ?_)
  obtain ⟨e4, f4⟩ := h4
  have f4' := f4.symm
  subst f4'
  subst e4
  refine x_if_eq (tgt := 23) dX1_depth_7 (by decide) (fun h7 => ?_) (fun h7 => ?_)
  · try simp only [vP_0, vP_1, vP_n0, vP_n1, Classical.not_not] at h7
    refine x_iconst dX1_depth_23 rfl ?_
    refine g_callNX (vs := [_]) (d' := d - 1) rfl (s_X1_must (by omega) (by first | omega | exact vP_r _)) dX1_depth_24 kX1_116 (by omega) (by decide) rfl (Nat.le_of_ble_eq_true rfl) (rcv_n) (fun M24 h24 => ?_) (fun a24 E24 M24 h24 => ?_)
    · obtain ⟨q24, e24⟩ := h24
      subst e24
      try simp only [vP_0, vP_1, vP_n0, vP_n1, Classical.not_not] at q24
      refine x_aload_n dX1_depth_27 rfl rfl ?_
      refine x_iload_n dX1_depth_28 rfl rfl ?_
      refine x_iconst dX1_depth_29 rfl ?_
      refine x_iload_n dX1_depth_30 rfl rfl ?_
      refine g_callI (vs := [_, _, _, _]) (d' := d - 1) rfl (s_X1_steps (by omega) hC (by omega) (Or.inr rfl) (by omega)) dX1_depth_31 kX1_374 (by omega) (by decide) rfl (Nat.le_of_ble_eq_true rfl) (rcv_o (by first | assumption | first | assumption | (simp (disch := omega) only [shI, shR, shL, shC, shD, shW, sh_V, shN_e, shN_n, crI, crL, crC, crW, crV, crR_e, crR_n, crN_e, crN_n, ciR, ciL, ciD, ciN_e, ciN_n, rdI_e, rdI_n, rdC_i, rdC_o, rdW, rdU_e, rdU_n, rdLW, clI, clR, clC, clD, clW, clV, clN_e, clN_n, clL_e, clL_n]; done) | (simp (disch := omega) only [shI, shR, shL, shC, shD, shW, sh_V, shN_e, shN_n, crI, crL, crC, crW, crV, crR_e, crR_n, crN_e, crN_n, ciR, ciL, ciD, ciN_e, ciN_n, rdI_e, rdI_n, rdC_i, rdC_o, rdW, rdU_e, rdU_n, rdLW, clI, clR, clC, clD, clW, clV, clN_e, clN_n, clL_e, clL_n] <;> first | assumption | rfl | omega)) rfl) (fun x31 M31 h31 => ?_)
      obtain ⟨e31, f31⟩ := h31
      refine x_ireturn rfl dX1_depth_34 ?_
      exact hQ _ _ (Or.inl ⟨_, rfl, by omega, e31, f31⟩)
    · obtain ⟨q24, eE24, eM24⟩ := h24
      subst eE24
      subst eM24
      exact th_nil rfl (hQ _ _ (Or.inr ⟨_, _, rfl, CO.xx hC, by omega, rfl⟩))
  · try simp only [vP_0, vP_1, vP_n0, vP_n1, Classical.not_not] at h7
    refine x_iload_n dX1_depth_10 rfl rfl ?_
    refine x_iconst dX1_depth_11 rfl ?_
    refine x_iconst dX1_depth_12 rfl ?_
    refine g_callI (vs := [_, _, _]) (d' := d - 1) rfl (s_X1_isIn (by omega)) dX1_depth_13 kX1_104 (by omega) (by decide) rfl (Nat.le_of_ble_eq_true rfl) (rcv_n) (fun x13 M13 h13 => ?_)
    obtain ⟨e13, f13⟩ := h13
    have f13' := f13.symm
    subst f13'
    subst e13
    refine x_if_eq (tgt := 23) dX1_depth_16 (by decide) (fun h16 => ?_) (fun h16 => ?_)
    · try simp only [vP_0, vP_1, vP_n0, vP_n1, Classical.not_not] at h16
      refine x_iconst dX1_depth_23 rfl ?_
      refine g_callNX (vs := [_]) (d' := d - 1) rfl (s_X1_must (by omega) (by first | omega | exact vP_r _)) dX1_depth_24 kX1_116 (by omega) (by decide) rfl (Nat.le_of_ble_eq_true rfl) (rcv_n) (fun M24 h24 => ?_) (fun a24 E24 M24 h24 => ?_)
      · obtain ⟨q24, e24⟩ := h24
        subst e24
        try simp only [vP_0, vP_1, vP_n0, vP_n1, Classical.not_not] at q24
        refine x_aload_n dX1_depth_27 rfl rfl ?_
        refine x_iload_n dX1_depth_28 rfl rfl ?_
        refine x_iconst dX1_depth_29 rfl ?_
        refine x_iload_n dX1_depth_30 rfl rfl ?_
        refine g_callI (vs := [_, _, _, _]) (d' := d - 1) rfl (s_X1_steps (by omega) hC (by omega) (Or.inr rfl) (by omega)) dX1_depth_31 kX1_374 (by omega) (by decide) rfl (Nat.le_of_ble_eq_true rfl) (rcv_o (by first | assumption | first | assumption | (simp (disch := omega) only [shI, shR, shL, shC, shD, shW, sh_V, shN_e, shN_n, crI, crL, crC, crW, crV, crR_e, crR_n, crN_e, crN_n, ciR, ciL, ciD, ciN_e, ciN_n, rdI_e, rdI_n, rdC_i, rdC_o, rdW, rdU_e, rdU_n, rdLW, clI, clR, clC, clD, clW, clV, clN_e, clN_n, clL_e, clL_n]; done) | (simp (disch := omega) only [shI, shR, shL, shC, shD, shW, sh_V, shN_e, shN_n, crI, crL, crC, crW, crV, crR_e, crR_n, crN_e, crN_n, ciR, ciL, ciD, ciN_e, ciN_n, rdI_e, rdI_n, rdC_i, rdC_o, rdW, rdU_e, rdU_n, rdLW, clI, clR, clC, clD, clW, clV, clN_e, clN_n, clL_e, clL_n] <;> first | assumption | rfl | omega)) rfl) (fun x31 M31 h31 => ?_)
        obtain ⟨e31, f31⟩ := h31
        refine x_ireturn rfl dX1_depth_34 ?_
        exact hQ _ _ (Or.inl ⟨_, rfl, by omega, e31, f31⟩)
      · obtain ⟨q24, eE24, eM24⟩ := h24
        subst eE24
        subst eM24
        exact th_nil rfl (hQ _ _ (Or.inr ⟨_, _, rfl, CO.xx hC, by omega, rfl⟩))
    · try simp only [vP_0, vP_1, vP_n0, vP_n1, Classical.not_not] at h16
      refine x_iconst dX1_depth_19 rfl ?_
      refine x_goto (tgt := 24) dX1_depth_20 (by decide) ?_
      refine g_callNX (vs := [_]) (d' := d - 1) rfl (s_X1_must (by omega) (by first | omega | exact vP_r _)) dX1_depth_24 kX1_116 (by omega) (by decide) rfl (Nat.le_of_ble_eq_true rfl) (rcv_n) (fun M24 h24 => ?_) (fun a24 E24 M24 h24 => ?_)
      · obtain ⟨q24, e24⟩ := h24
        subst e24
        try simp only [vP_0, vP_1, vP_n0, vP_n1, Classical.not_not] at q24
        refine x_aload_n dX1_depth_27 rfl rfl ?_
        refine x_iload_n dX1_depth_28 rfl rfl ?_
        refine x_iconst dX1_depth_29 rfl ?_
        refine x_iload_n dX1_depth_30 rfl rfl ?_
        refine g_callI (vs := [_, _, _, _]) (d' := d - 1) rfl (s_X1_steps (by omega) hC (by omega) (Or.inr rfl) (by omega)) dX1_depth_31 kX1_374 (by omega) (by decide) rfl (Nat.le_of_ble_eq_true rfl) (rcv_o (by first | assumption | first | assumption | (simp (disch := omega) only [shI, shR, shL, shC, shD, shW, sh_V, shN_e, shN_n, crI, crL, crC, crW, crV, crR_e, crR_n, crN_e, crN_n, ciR, ciL, ciD, ciN_e, ciN_n, rdI_e, rdI_n, rdC_i, rdC_o, rdW, rdU_e, rdU_n, rdLW, clI, clR, clC, clD, clW, clV, clN_e, clN_n, clL_e, clL_n]; done) | (simp (disch := omega) only [shI, shR, shL, shC, shD, shW, sh_V, shN_e, shN_n, crI, crL, crC, crW, crV, crR_e, crR_n, crN_e, crN_n, ciR, ciL, ciD, ciN_e, ciN_n, rdI_e, rdI_n, rdC_i, rdC_o, rdW, rdU_e, rdU_n, rdLW, clI, clR, clC, clD, clW, clV, clN_e, clN_n, clL_e, clL_n] <;> first | assumption | rfl | omega)) rfl) (fun x31 M31 h31 => ?_)
        obtain ⟨e31, f31⟩ := h31
        refine x_ireturn rfl dX1_depth_34 ?_
        exact hQ _ _ (Or.inl ⟨_, rfl, by omega, e31, f31⟩)
      · obtain ⟨q24, eE24, eM24⟩ := h24
        subst eE24
        subst eM24
        exact th_nil rfl (hQ _ _ (Or.inr ⟨_, _, rfl, CO.xx hC, by omega, rfl⟩))
end X1

