/-! GuestView: a law is read -/
/-- a state under another law, all else alike -/
theorem RelB.mv {f g : Ci} {p N : Int} {v v' : Vw} (h : RelB f p v N) (hv : okB v) (hg : ∀ b k, p ≤ b → b ≤ p + 44 → ¬ (b = p ∧ k = 10) → b ≠ p + 3 → ¬ (p + 7 ≤ b ∧ b ≤ p + 12) → g b k = f b k) (he : ∀ k, 0 ≤ k → k < 102 → ¬ k = 2 → v' k = v k) (hl : ∀ k, 128 ≤ k → k < 368 → v' k = v k) : RelB g p v' N := by
  obtain ⟨h1, h2, h3, h4, h5, h6, h7, h8, h9, h10, h11, h12, h13, h14, h15⟩ := h
  have hv8 := hv.n8
  have hv10 := hv.l60
  have e0 : v' 0 = v 0 := he 0 (by omega) (by omega) (by omega)
  have e10 : v' 10 = v 10 := he 10 (by omega) (by omega) (by omega)
  have ep : ∀ k, ¬ k = 10 → g p k = f p k := fun k q => hg _ _ (by omega) (by omega) (by omega) (by omega) (by omega)
  rw [← e0] at h1
  refine ⟨by rw [ep _ (by omega)]; exact h1, by rw [ep _ (by omega), he 3 (by omega) (by omega) (by omega)]; exact h2, by rw [ep _ (by omega), he 1 (by omega) (by omega) (by omega)]; exact h3, by rw [ep _ (by omega), he 4 (by omega) (by omega) (by omega)]; exact h4, by rw [ep _ (by omega), he 5 (by omega) (by omega) (by omega)]; exact h5, by rw [ep _ (by omega), he 6 (by omega) (by omega) (by omega)]; exact h6, by rw [ep _ (by omega), he 7 (by omega) (by omega) (by omega)]; exact h7, by rw [ep _ (by omega), he 8 (by omega) (by omega) (by omega)]; exact h8, by rw [ep _ (by omega), he 9 (by omega) (by omega) (by omega)]; exact h9, by rw [ep _ (by omega), he 11 (by omega) (by omega) (by omega)]; exact h10, by rw [ep _ (by omega), e10]; exact h11, fun k a b => ?_, fun k a b => ?_, fun k a b => ?_, fun ago j a b c d => ?_⟩
  · rw [hg _ _ (by omega) (by omega) (by omega) (by omega) (by omega), he _ (by omega) (by omega) (by omega)]; exact h12 k a b
  · rw [hg _ _ (by omega) (by omega) (by omega) (by omega) (by omega), he _ (by omega) (by omega) (by omega)]; exact h13 k a b
  · rw [e0] at b
    obtain ⟨k1, k2, k3, k4⟩ := h14 k a b
    have eN : opN v' k = opN v k := he _ (by omega) (by omega) (by omega)
    have c3 := (hv.op k a b).1
    refine ⟨?_, ?_, ?_, fun i c1 c2 => ?_⟩
    · rw [eN, hg _ _ (by omega) (by omega) (by omega) (by omega) (by omega)]; exact k1
    · rw [hg _ _ (by omega) (by omega) (by omega) (by omega) (by omega)]; exact k2.trans (he _ (by omega) (by omega) (by omega)).symm
    · rw [hg _ _ (by omega) (by omega) (by omega) (by omega) (by omega)]; exact k3.trans (he _ (by omega) (by omega) (by omega)).symm
    · rw [eN] at c2
      rw [hg _ _ (by omega) (by omega) (by omega) (by omega) (by omega), hg _ _ (by omega) (by omega) (by omega) (by omega) (by omega), show opK v' k i = opK v k i from he _ (by omega) (by omega) (by omega), show opX v' k i = opX v k i from he _ (by omega) (by omega) (by omega)]
      exact k4 i c1 c2
  · rw [e10] at b
    rw [ep _ (by omega), hg _ _ (by omega) (by omega) (by omega) (by omega) (by omega), hl _ (by omega) (by omega)]
    exact h15 ago j a b c d
theorem StOk.lo2 {M : Mem} {p N : Int} {u u' : Vw} (h : StOk M p u N) (he : ∀ k, 0 ≤ k → k < 1217 → u' k = u k) : StOk M p u' N := h.lo he
theorem CI.lo {M : Mem} {v v' vi : Vw} {n hi sz fa N : Int} {A : Int → Vw} {tp : Int → Int} (h : CI M v n A hi vi tp sz fa N) (he : ∀ k, 0 ≤ k → k < 1217 → v' k = v k) : CI M v' n A hi vi tp sz fa N := by
  obtain ⟨h1, h2, ⟨a1, a2, a3, a4⟩, h4⟩ := h
  refine ⟨h1, h2.lo he, ⟨a1, a2, a3, fun j x y => (a4 j x y).lo fun k k0 k1 => ?_⟩, h4⟩
  by_cases q : k < 368
  · rw [ov_i ⟨k0, q⟩, ov_i ⟨k0, q⟩]
  · rw [ov_o (by omega), ov_o (by omega)]
    exact he k k0 k1
section X1
variable {G : GW} {d : Nat} {M M1 : Mem} {a b c e k n x op w st hi sz fa N i p o T : Int} {v vi u : Vw} {A : Int → Vw} {tp : Int → Int}
theorem CO.law (hC : CI M v n A hi vi tp sz fa N) (hI : LnI M u k) (hk : 0 ≤ k ∧ k ≤ 12) (hl : ∀ i, 0 ≤ i → i < k → lineOK u i) : CO M (lawV v k u) 0 A hi vi tp sz fa N 0 0 (mI (mD (mI M 54 10 k) 7 0 56 0 12) 0 14 0) := by
  obtain ⟨h1, h2, ⟨a1, a2, a3, a4⟩, ⟨⟨b1, b2⟩, b3, ⟨b4, b5, b6⟩, b7⟩⟩ := hC
  obtain ⟨hA, hL, ⟨⟨hB, hW, hLw⟩, hG, hH⟩⟩ := id h2
  have hv := hA.1
  have hv8 := hv.n8
  have hnx := h1.2.2.2.2.2
  have ef : ∀ b i, ¬ (b = 54 ∧ i = 10) → ¬ (b = 0 ∧ i = 14) → mci (mI (mD (mI M 54 10 k) 7 0 56 0 12) 0 14 0) b i = mci M b i := fun b i q1 q2 => (rdI_n q2).trans (rdI_n q1)
  have ec : ∀ b i, ¬ b = 56 → mcr (mI (mD (mI M 54 10 k) 7 0 56 0 12) 0 14 0) b i = mcr M b i := fun b i q => crD_o (by omega)
  have e56 : ∀ i, 0 ≤ i → i < 12 → mcr (mI (mD (mI M 54 10 k) 7 0 56 0 12) 0 14 0) 56 i = mcr M 7 i := fun i i0 i1 => by
    refine (crD_i ⟨rfl, by omega, by omega⟩).trans ?_
    show mcr M 7 (0 + (i - 0)) = mcr M 7 i
    rw [show (0 : Int) + (i - 0) = i by omega]
  have hk9 : Kp (fun b => ¬ b = 0 ∧ ¬ b = 54 ∧ ¬ b = 56) M (mI (mD (mI M 54 10 k) 7 0 56 0 12) 0 14 0) := fun b hb => ⟨rfl, fun k => ef b k (by omega) (by omega), fun k => ec b k (by omega), fun k => rfl⟩
  have hs : Same 761 (mnx M) (msh M) (mci M) (mcr M) (msh (mI (mD (mI M 54 10 k) 7 0 56 0 12) 0 14 0)) (mci (mI (mD (mI M 54 10 k) 7 0 56 0 12) 0 14 0)) (mcr (mI (mD (mI M 54 10 k) 7 0 56 0 12) 0 14 0)) := hk9.same fun b b0 b1 => by omega
  have lo : ∀ j, j < 368 → ¬ j = 2 → lawV v k u j = v j := fun j q1 q2 => lawV_o q1 q2
  have eL : ∀ j, 369 ≤ j → j < 1217 → lawV v k u j = u j := fun j q1 q2 => (lawV_law (by omega)).trans (us_n (by omega))
  have e368 : lawV v k u 368 = k := (lawV_law (by omega)).trans (us_e rfl)
  have st : ∀ p u, (p = 99) → StOk M p u N → StOk (mI (mD (mI M 54 10 k) 7 0 56 0 12) 0 14 0) p u N := fun p u hp h => h.kp hk9 (fun b x y => by omega) (fun b x y z => by omega) (Nat.le_refl _)
  refine ⟨⟨h1.of (hk9.mono fun b hb => by omega) (fun b x y => rfl) (fun b i x y z => ec b i fun q => z (Or.inr (by rw [q]; unfold SB; omega))) (fun p hp => ?_) ?_ (Nat.le_refl _), ⟨lawV_okA hA, lawV_lawOK hk hl, ⟨⟨?_, ?_, ?_⟩, ?_, ?_⟩⟩, ⟨rdI_e ⟨rfl, rfl⟩, by omega, by rw [ef 0 15 (by omega) (by omega)]; exact a3, fun j j0 j1 => by omega⟩, ⟨⟨(ef _ _ (by omega) (by omega)).trans b1, b2⟩, fun q => st _ _ rfl (b3 q), ⟨(funext fun i => ef _ _ (by omega) (by omega)).trans b4, (ef _ _ (by omega) (by omega)).trans b5, b6⟩, (ef _ _ (by omega) (by omega)).trans b7⟩⟩, hk9.mono fun b hb => by omega, Nat.le_refl _, Nat.le_refl _, Nat.le_refl _⟩
  · by_cases q : p = 54
    · subst q
      intro i b i0 i1 hb
      rw [show (54 : Int) + 2 = 56 by omega, e56 i i0 i1] at hb
      exact h1.2.2.2.1 5 (Or.inr rfl) i b i0 i1 hb
    · exact (h1.2.2.2.1 p hp).of (fun b x y => rfl) (fun i x y => ec _ _ (by omega)) (Int.le_refl _)
  · exact h1.2.2.2.2.1.wr fun b => Or.inl (ef b 6 (by omega) (by omega))
  · exact hB.mv hv (fun b i b0 b1 q1 q2 q3 => ef b i (by omega) (by omega)) (fun j j0 j1 j2 => lo j (by omega) j2) (fun j j0 j1 => lo j (by omega) (by omega))
  · intro j i j0 j1 i0 i1
    rw [lo 0 (by omega) (by omega)] at j1
    rw [ef _ _ (by omega) (by omega), witV_lo (hv.op j j0 j1) fun m m0 m1 _ => lo m (by omega) (by omega)]
    exact hW j i j0 j1 i0 i1
  · refine Or.inr ⟨lawV_2, ((show mci (mI (mD (mI M 54 10 k) 7 0 56 0 12) 0 14 0) 54 10 = mci (mI M 54 10 k) 54 10 from rdI_n (by omega)).trans (rdI_e ⟨rfl, rfl⟩)).trans e368.symm, by rw [e368]; exact hk, fun j j0 j1 => ?_⟩
    rw [e368] at j1
    obtain ⟨l, l1, l2, l3, l4⟩ := hI j j0 j1
    have hlj := hl j j0 j1
    have h3 := hlj.2.2.1
    have e9 : lawV v k u (369 + 4 * j) = u (369 + 4 * j) := eL _ (by omega) (by omega)
    refine ⟨l, (e56 j j0 (by omega)).trans l1, by rw [e9]; exact l2, by rw [e9]; exact l3, ?_⟩
    exact (l4.same hs (Int.le_refl _)).ext (fun m m0 m1 => eL m (by omega) (by omega)) fun i i0 i1 => ⟨eL _ (by omega) (by omega), eL _ (by omega) (by omega)⟩
  · exact (hG.eqf fun b i b0 b1 => ef b i (by omega) (by omega)).eqv fun j j0 j1 => lo j (by unfold guA at j1; omega) (by unfold guA at j0; omega)
  · rw [lo 5 (by omega) (by omega)]
    exact (hH.eqf fun b i b0 b1 => ef b i (by omega) (by omega)).eqv fun j j0 j1 => lo j (by unfold guA at j1; omega) (by unfold guA at j0; omega)
theorem s_X1_law (hd : 80 ≤ d) (hC : CI M v n A hi vi tp sz fa N) (hTpk : TpOk tp) : CS G d mX1_law [dR 0] M (orT (postI fun y M1 => ∃ r, rLaws tp sz (fun k => v (k + 849)) = .inr r ∧ y = r.1 ∧ CO M (lawV v r.1 r.2.2) 0 A hi vi tp 0 (-1) N 1300 5000 M1) (fun a E M1 => ∃ f, rLaws tp sz (fun k => v (k + 849)) = .inl f ∧ E = "java/lang/IllegalArgumentException" ∧ 0 ≤ a ∧ CO M v n A hi vi tp 0 f N 1301 5006 M1)) := by
  have hsz0 : 0 ≤ sz ∧ sz ≤ 400 := by
    obtain ⟨-, -, -, ⟨-, -, ⟨-, -, hz⟩, -⟩⟩ := id hC
    exact hz
  refine CS.mkQ (by decide) (Nat.le_of_ble_eq_true rfl) fun Q hQ => ?_
  have cov : ∀ (E : String) (pc : Nat), (pc < 10 ∨ 25 ≤ pc) → ∀ z ∈ mX1_law.2.2.2.2, passH mX1_law.1.cls E pc z := fun E pc hpc z hz => by
    have e := List.mem_singleton.mp hz
    subst e
    refine Or.inl ?_
    unfold covers
    simp
    omega
  have wrg : ∀ (M19 : Mem) (f : Int), rLaws tp sz (fun k => v (k + 849)) = .inl f → mci M19 53 6 = f → CO M v n A hi vi tp 0 (-1) N 1300 5000 M19 → WP G d mX1_law 28 [some (dR 0), some (dI sz), none] [dR 53] M19 Q := by
    intro M19 f hf h53 hco
    obtain ⟨hC9, hCr9⟩ := hco
    have s0 : msh M19 0 = some (1, 0) := hC9.1.1.1.1
    have s53 : msh M19 53 = some (7, 0) := hC9.1.1.2.2.2.2.2.2.2.2.1.2.2.2.2.2.2
    refine x_astore_n (L' := [some _, some _, some _]) dX1_law_28 rfl (by decide) rfl ?_
    refine x_aload_n dX1_law_29 rfl rfl ?_
    refine x_aload_n dX1_law_30 rfl rfl ?_
    refine g_callR (vs := [_, _]) (d' := d - 1) rfl (s_X1_isWrong (by omega) s0 s53 h53) dX1_law_31 kX1_143 (by omega) (by decide) rfl (Nat.le_of_ble_eq_true rfl) (rcv_o (by first | assumption | first | assumption | (simp (disch := omega) only [shI, shR, shL, shC, shD, shW, sh_V, shN_e, shN_n, crI, crL, crC, crW, crV, crR_e, crR_n, crN_e, crN_n, ciR, ciL, ciD, ciN_e, ciN_n, rdI_e, rdI_n, rdC_i, rdC_o, rdW, rdU_e, rdU_n, rdLW, clI, clR, clC, clD, clW, clV, clN_e, clN_n, clL_e, clL_n]; done) | (simp (disch := omega) only [shI, shR, shL, shC, shD, shW, sh_V, shN_e, shN_n, crI, crL, crC, crW, crV, crR_e, crR_n, crN_e, crN_n, ciR, ciL, ciD, ciN_e, ciN_n, rdI_e, rdI_n, rdC_i, rdC_o, rdW, rdU_e, rdU_n, rdLW, clI, clR, clC, clD, clW, clV, clN_e, clN_n, clL_e, clL_n] <;> first | assumption | rfl | omega)) rfl) (fun x31 M31 h31 => ?_)
    obtain ⟨e31, f31⟩ := h31
    subst e31
    subst f31
    refine x_athrowH (t := 18) (n := 0) (if_pos rfl) rfl dX1_law_34 (th_out (cov _ _ (by omega)) (hQ _ _ (Or.inr ⟨_, _, rfl, f, hf, rfl, by omega, ?_⟩)))
    have h1 := CO.wr1 (x := f) hC9
    have h2 := CO.nw (t := 18) (z := 0) (sl := 6) h1.1
    exact CO.tr (hCr9.trans h1.2) h2
  have aft : ∀ (M19 : Mem) (r : LgS), rLaws tp sz (fun k => v (k + 849)) = .inr r → LnI M19 r.2.2 r.1 → CO M v n A hi vi tp 0 (-1) N 1300 5000 M19 → WP G d mX1_law 22 [some (dR 0), some (dI sz), none] [dI r.1, dR 54] M19 Q := by
    intro M19 r hr hln hco
    obtain ⟨hC, hCr⟩ := hco
    obtain ⟨hC1, hC54, hCA, hCR⟩ := id hC; obtain ⟨hS, hTab, hTx, hLn, hSk, hnx⟩ := id hC1; obtain ⟨hA, hL, hR⟩ := id hC54; obtain ⟨⟨s0, s199, s200, s201, s202, s203⟩, ⟨c0, c1, c2, c3, c4, c5, c6, c7, c8, c9, c10, c11, c12⟩, c203, hSt, m189, m191, g193, g196, ⟨⟨r2, r3, r4, r5, r6, r7, r53⟩, ⟨w0, w1, w2, w3, w4, w5, w6⟩, wx1, wx2, wx3⟩⟩ := id hS; have hv := hA.1; have hv8 := hv.n8; have hv0 := hv.1.1; have hv3 := hv.2.2.2.1; have hs54 := hSt 54 (by unfold SB; omega); obtain ⟨p0, p1, ⟨d0, d1, d2, d3, d4, d5, d6, d7⟩, ⟨t1, t2, t3, t4, t5, t6⟩, p5, p6, p7⟩ := id hs54; have t7 : msh (M19) (54 + 7) = some (4, 0) := p5.2.1; have t10 : msh (M19) (54 + 10) = some (4, 0) := p6.2.1; obtain ⟨hB, hW, hLw⟩ := id hR.1; obtain ⟨b1, b2, b3, b4, b5, b6, b7, b8, b9, b10, b11, b12, b13, b14, b15⟩ := id hB; obtain ⟨hn, hn2, hat, hAc⟩ := id hCA; obtain ⟨⟨hki, hhi⟩, hIm, ⟨htp, hsz, hsz2⟩, hfa⟩ := id hCR
    have hok := rLaws_ok hsz0 hr
    have hL5 : LinO (msh M19) (mcr M19) 5 := (hLn 5 (Or.inr rfl)).o
    refine g_putI (kI := 10) rfl dX1_law_22 fX1_167_3 (by first | assumption | first | assumption | (simp (disch := omega) only [shI, shR, shL, shC, shD, shW, sh_V, shN_e, shN_n, crI, crL, crC, crW, crV, crR_e, crR_n, crN_e, crN_n, ciR, ciL, ciD, ciN_e, ciN_n, rdI_e, rdI_n, rdC_i, rdC_o, rdW, rdU_e, rdU_n, rdLW, clI, clR, clC, clD, clW, clV, clN_e, clN_n, clL_e, clL_n]; done) | (simp (disch := omega) only [shI, shR, shL, shC, shD, shW, sh_V, shN_e, shN_n, crI, crL, crC, crW, crV, crR_e, crR_n, crN_e, crN_n, ciR, ciL, ciD, ciN_e, ciN_n, rdI_e, rdI_n, rdC_i, rdC_o, rdW, rdU_e, rdU_n, rdLW, clI, clR, clC, clD, clW, clV, clN_e, clN_n, clL_e, clL_n] <;> first | assumption | rfl | omega)) ?_
    refine x_goto (tgt := 35) dX1_law_25 (by decide) ?_
    refine x_aload_n dX1_law_35 rfl rfl ?_
    refine g_getR (kI := 0) rfl dX1_law_36 fX1_15_1 (by first | assumption | first | assumption | (simp (disch := omega) only [shI, shR, shL, shC, shD, shW, sh_V, shN_e, shN_n, crI, crL, crC, crW, crV, crR_e, crR_n, crN_e, crN_n, ciR, ciL, ciD, ciN_e, ciN_n, rdI_e, rdI_n, rdC_i, rdC_o, rdW, rdU_e, rdU_n, rdLW, clI, clR, clC, clD, clW, clV, clN_e, clN_n, clL_e, clL_n]; done) | (simp (disch := omega) only [shI, shR, shL, shC, shD, shW, sh_V, shN_e, shN_n, crI, crL, crC, crW, crV, crR_e, crR_n, crN_e, crN_n, ciR, ciL, ciD, ciN_e, ciN_n, rdI_e, rdI_n, rdC_i, rdC_o, rdW, rdU_e, rdU_n, rdLW, clI, clR, clC, clD, clW, clV, clN_e, clN_n, clL_e, clL_n] <;> first | assumption | rfl | omega)) (by first | assumption | first | assumption | (simp (disch := omega) only [shI, shR, shL, shC, shD, shW, sh_V, shN_e, shN_n, crI, crL, crC, crW, crV, crR_e, crR_n, crN_e, crN_n, ciR, ciL, ciD, ciN_e, ciN_n, rdI_e, rdI_n, rdC_i, rdC_o, rdW, rdU_e, rdU_n, rdLW, clI, clR, clC, clD, clW, clV, clN_e, clN_n, clL_e, clL_n]; done) | (simp (disch := omega) only [shI, shR, shL, shC, shD, shW, sh_V, shN_e, shN_n, crI, crL, crC, crW, crV, crR_e, crR_n, crN_e, crN_n, ciR, ciL, ciD, ciN_e, ciN_n, rdI_e, rdI_n, rdC_i, rdC_o, rdW, rdU_e, rdU_n, rdLW, clI, clR, clC, clD, clW, clV, clN_e, clN_n, clL_e, clL_n] <;> first | assumption | rfl | omega)) ?_
    refine g_getR (kI := 4) rfl dX1_law_39 fX1_170_2 (by first | assumption | first | assumption | (simp (disch := omega) only [shI, shR, shL, shC, shD, shW, sh_V, shN_e, shN_n, crI, crL, crC, crW, crV, crR_e, crR_n, crN_e, crN_n, ciR, ciL, ciD, ciN_e, ciN_n, rdI_e, rdI_n, rdC_i, rdC_o, rdW, rdU_e, rdU_n, rdLW, clI, clR, clC, clD, clW, clV, clN_e, clN_n, clL_e, clL_n]; done) | (simp (disch := omega) only [shI, shR, shL, shC, shD, shW, sh_V, shN_e, shN_n, crI, crL, crC, crW, crV, crR_e, crR_n, crN_e, crN_n, ciR, ciL, ciD, ciN_e, ciN_n, rdI_e, rdI_n, rdC_i, rdC_o, rdW, rdU_e, rdU_n, rdLW, clI, clR, clC, clD, clW, clV, clN_e, clN_n, clL_e, clL_n] <;> first | assumption | rfl | omega)) (by first | assumption | first | assumption | (simp (disch := omega) only [shI, shR, shL, shC, shD, shW, sh_V, shN_e, shN_n, crI, crL, crC, crW, crV, crR_e, crR_n, crN_e, crN_n, ciR, ciL, ciD, ciN_e, ciN_n, rdI_e, rdI_n, rdC_i, rdC_o, rdW, rdU_e, rdU_n, rdLW, clI, clR, clC, clD, clW, clV, clN_e, clN_n, clL_e, clL_n]; done) | (simp (disch := omega) only [shI, shR, shL, shC, shD, shW, sh_V, shN_e, shN_n, crI, crL, crC, crW, crV, crR_e, crR_n, crN_e, crN_n, ciR, ciL, ciD, ciN_e, ciN_n, rdI_e, rdI_n, rdC_i, rdC_o, rdW, rdU_e, rdU_n, rdLW, clI, clR, clC, clD, clW, clV, clN_e, clN_n, clL_e, clL_n] <;> first | assumption | rfl | omega)) ?_
    refine x_iconst dX1_law_42 rfl ?_
    refine x_aload_n dX1_law_43 rfl rfl ?_
    refine g_getR (kI := 1) rfl dX1_law_44 fX1_22_1 (by first | assumption | first | assumption | (simp (disch := omega) only [shI, shR, shL, shC, shD, shW, sh_V, shN_e, shN_n, crI, crL, crC, crW, crV, crR_e, crR_n, crN_e, crN_n, ciR, ciL, ciD, ciN_e, ciN_n, rdI_e, rdI_n, rdC_i, rdC_o, rdW, rdU_e, rdU_n, rdLW, clI, clR, clC, clD, clW, clV, clN_e, clN_n, clL_e, clL_n]; done) | (simp (disch := omega) only [shI, shR, shL, shC, shD, shW, sh_V, shN_e, shN_n, crI, crL, crC, crW, crV, crR_e, crR_n, crN_e, crN_n, ciR, ciL, ciD, ciN_e, ciN_n, rdI_e, rdI_n, rdC_i, rdC_o, rdW, rdU_e, rdU_n, rdLW, clI, clR, clC, clD, clW, clV, clN_e, clN_n, clL_e, clL_n] <;> first | assumption | rfl | omega)) (by first | assumption | first | assumption | (simp (disch := omega) only [shI, shR, shL, shC, shD, shW, sh_V, shN_e, shN_n, crI, crL, crC, crW, crV, crR_e, crR_n, crN_e, crN_n, ciR, ciL, ciD, ciN_e, ciN_n, rdI_e, rdI_n, rdC_i, rdC_o, rdW, rdU_e, rdU_n, rdLW, clI, clR, clC, clD, clW, clV, clN_e, clN_n, clL_e, clL_n]; done) | (simp (disch := omega) only [shI, shR, shL, shC, shD, shW, sh_V, shN_e, shN_n, crI, crL, crC, crW, crV, crR_e, crR_n, crN_e, crN_n, ciR, ciL, ciD, ciN_e, ciN_n, rdI_e, rdI_n, rdC_i, rdC_o, rdW, rdU_e, rdU_n, rdLW, clI, clR, clC, clD, clW, clV, clN_e, clN_n, clL_e, clL_n] <;> first | assumption | rfl | omega)) ?_
    refine g_getR (kI := 1) rfl dX1_law_47 fX1_174_3 (by first | assumption | first | assumption | (simp (disch := omega) only [shI, shR, shL, shC, shD, shW, sh_V, shN_e, shN_n, crI, crL, crC, crW, crV, crR_e, crR_n, crN_e, crN_n, ciR, ciL, ciD, ciN_e, ciN_n, rdI_e, rdI_n, rdC_i, rdC_o, rdW, rdU_e, rdU_n, rdLW, clI, clR, clC, clD, clW, clV, clN_e, clN_n, clL_e, clL_n]; done) | (simp (disch := omega) only [shI, shR, shL, shC, shD, shW, sh_V, shN_e, shN_n, crI, crL, crC, crW, crV, crR_e, crR_n, crN_e, crN_n, ciR, ciL, ciD, ciN_e, ciN_n, rdI_e, rdI_n, rdC_i, rdC_o, rdW, rdU_e, rdU_n, rdLW, clI, clR, clC, clD, clW, clV, clN_e, clN_n, clL_e, clL_n] <;> first | assumption | rfl | omega)) (by first | assumption | first | assumption | (simp (disch := omega) only [shI, shR, shL, shC, shD, shW, sh_V, shN_e, shN_n, crI, crL, crC, crW, crV, crR_e, crR_n, crN_e, crN_n, ciR, ciL, ciD, ciN_e, ciN_n, rdI_e, rdI_n, rdC_i, rdC_o, rdW, rdU_e, rdU_n, rdLW, clI, clR, clC, clD, clW, clV, clN_e, clN_n, clL_e, clL_n]; done) | (simp (disch := omega) only [shI, shR, shL, shC, shD, shW, sh_V, shN_e, shN_n, crI, crL, crC, crW, crV, crR_e, crR_n, crN_e, crN_n, ciR, ciL, ciD, ciN_e, ciN_n, rdI_e, rdI_n, rdC_i, rdC_o, rdW, rdU_e, rdU_n, rdLW, clI, clR, clC, clD, clW, clV, clN_e, clN_n, clL_e, clL_n] <;> first | assumption | rfl | omega)) ?_
    refine x_iconst dX1_law_50 rfl ?_
    refine x_bipush dX1_law_51 rfl ?_
    refine x_copyR (t := 134) (by decide) rfl kX1_177 (by omega) dX1_law_53 (by first | assumption | first | assumption | (simp (disch := omega) only [shI, shR, shL, shC, shD, shW, sh_V, shN_e, shN_n, crI, crL, crC, crW, crV, crR_e, crR_n, crN_e, crN_n, ciR, ciL, ciD, ciN_e, ciN_n, rdI_e, rdI_n, rdC_i, rdC_o, rdW, rdU_e, rdU_n, rdLW, clI, clR, clC, clD, clW, clV, clN_e, clN_n, clL_e, clL_n]; done) | (simp (disch := omega) only [shI, shR, shL, shC, shD, shW, sh_V, shN_e, shN_n, crI, crL, crC, crW, crV, crR_e, crR_n, crN_e, crN_n, ciR, ciL, ciD, ciN_e, ciN_n, rdI_e, rdI_n, rdC_i, rdC_o, rdW, rdU_e, rdU_n, rdLW, clI, clR, clC, clD, clW, clV, clN_e, clN_n, clL_e, clL_n] <;> first | assumption | rfl | omega)) (by omega) (by first | assumption | first | assumption | (simp (disch := omega) only [shI, shR, shL, shC, shD, shW, sh_V, shN_e, shN_n, crI, crL, crC, crW, crV, crR_e, crR_n, crN_e, crN_n, ciR, ciL, ciD, ciN_e, ciN_n, rdI_e, rdI_n, rdC_i, rdC_o, rdW, rdU_e, rdU_n, rdLW, clI, clR, clC, clD, clW, clV, clN_e, clN_n, clL_e, clL_n]; done) | (simp (disch := omega) only [shI, shR, shL, shC, shD, shW, sh_V, shN_e, shN_n, crI, crL, crC, crW, crV, crR_e, crR_n, crN_e, crN_n, ciR, ciL, ciD, ciN_e, ciN_n, rdI_e, rdI_n, rdC_i, rdC_o, rdW, rdU_e, rdU_n, rdLW, clI, clR, clC, clD, clW, clV, clN_e, clN_n, clL_e, clL_n] <;> first | assumption | rfl | omega)) (by omega) (by omega) (by omega) (by omega) (by omega) (Nat.le_of_ble_eq_true rfl) (fun k b h0 h1 hb => LinO.any (M := mI M19 54 10 r.1) (p := 5) hL5 (by omega) (by omega) hb) ?_
    refine x_aload_n dX1_law_56 rfl rfl ?_
    refine x_iconst dX1_law_57 rfl ?_
    refine g_putI (kI := 14) rfl dX1_law_58 fX1_157_1 (by first | assumption | first | assumption | (simp (disch := omega) only [shI, shR, shL, shC, shD, shW, sh_V, shN_e, shN_n, crI, crL, crC, crW, crV, crR_e, crR_n, crN_e, crN_n, ciR, ciL, ciD, ciN_e, ciN_n, rdI_e, rdI_n, rdC_i, rdC_o, rdW, rdU_e, rdU_n, rdLW, clI, clR, clC, clD, clW, clV, clN_e, clN_n, clL_e, clL_n]; done) | (simp (disch := omega) only [shI, shR, shL, shC, shD, shW, sh_V, shN_e, shN_n, crI, crL, crC, crW, crV, crR_e, crR_n, crN_e, crN_n, ciR, ciL, ciD, ciN_e, ciN_n, rdI_e, rdI_n, rdC_i, rdC_o, rdW, rdU_e, rdU_n, rdLW, clI, clR, clC, clD, clW, clV, clN_e, clN_n, clL_e, clL_n] <;> first | assumption | rfl | omega)) ?_
    refine x_aload_n dX1_law_61 rfl rfl ?_
    refine g_getR (kI := 1) rfl dX1_law_62 fX1_22_1 (by first | assumption | first | assumption | (simp (disch := omega) only [shI, shR, shL, shC, shD, shW, sh_V, shN_e, shN_n, crI, crL, crC, crW, crV, crR_e, crR_n, crN_e, crN_n, ciR, ciL, ciD, ciN_e, ciN_n, rdI_e, rdI_n, rdC_i, rdC_o, rdW, rdU_e, rdU_n, rdLW, clI, clR, clC, clD, clW, clV, clN_e, clN_n, clL_e, clL_n]; done) | (simp (disch := omega) only [shI, shR, shL, shC, shD, shW, sh_V, shN_e, shN_n, crI, crL, crC, crW, crV, crR_e, crR_n, crN_e, crN_n, ciR, ciL, ciD, ciN_e, ciN_n, rdI_e, rdI_n, rdC_i, rdC_o, rdW, rdU_e, rdU_n, rdLW, clI, clR, clC, clD, clW, clV, clN_e, clN_n, clL_e, clL_n] <;> first | assumption | rfl | omega)) (by first | assumption | first | assumption | (simp (disch := omega) only [shI, shR, shL, shC, shD, shW, sh_V, shN_e, shN_n, crI, crL, crC, crW, crV, crR_e, crR_n, crN_e, crN_n, ciR, ciL, ciD, ciN_e, ciN_n, rdI_e, rdI_n, rdC_i, rdC_o, rdW, rdU_e, rdU_n, rdLW, clI, clR, clC, clD, clW, clV, clN_e, clN_n, clL_e, clL_n]; done) | (simp (disch := omega) only [shI, shR, shL, shC, shD, shW, sh_V, shN_e, shN_n, crI, crL, crC, crW, crV, crR_e, crR_n, crN_e, crN_n, ciR, ciL, ciD, ciN_e, ciN_n, rdI_e, rdI_n, rdC_i, rdC_o, rdW, rdU_e, rdU_n, rdLW, clI, clR, clC, clD, clW, clV, clN_e, clN_n, clL_e, clL_n] <;> first | assumption | rfl | omega)) ?_
    refine g_getI (kI := 10) rfl dX1_law_65 fX1_167_3 (by first | assumption | first | assumption | (simp (disch := omega) only [shI, shR, shL, shC, shD, shW, sh_V, shN_e, shN_n, crI, crL, crC, crW, crV, crR_e, crR_n, crN_e, crN_n, ciR, ciL, ciD, ciN_e, ciN_n, rdI_e, rdI_n, rdC_i, rdC_o, rdW, rdU_e, rdU_n, rdLW, clI, clR, clC, clD, clW, clV, clN_e, clN_n, clL_e, clL_n]; done) | (simp (disch := omega) only [shI, shR, shL, shC, shD, shW, sh_V, shN_e, shN_n, crI, crL, crC, crW, crV, crR_e, crR_n, crN_e, crN_n, ciR, ciL, ciD, ciN_e, ciN_n, rdI_e, rdI_n, rdC_i, rdC_o, rdW, rdU_e, rdU_n, rdLW, clI, clR, clC, clD, clW, clV, clN_e, clN_n, clL_e, clL_n] <;> first | assumption | rfl | omega)) ?_
    try simp (disch := omega) only [rdI_e, rdI_n, rdC_i, rdC_o, rdW, rdR, rdU_e, rdU_n, rdLW, Int.add_zero, rdD]
    refine x_ireturn rfl dX1_law_68 ?_
    exact hQ _ _ (Or.inl ⟨_, rfl, r, hr, rfl, CO.tr hCr (CO.law hC hln hok.1 hok.2)⟩)
  obtain ⟨hC1, hC54, hCA, hCR⟩ := id hC; obtain ⟨hS, hTab, hTx, hLn, hSk, hnx⟩ := id hC1; obtain ⟨hA, hL, hR⟩ := id hC54; obtain ⟨⟨s0, s199, s200, s201, s202, s203⟩, ⟨c0, c1, c2, c3, c4, c5, c6, c7, c8, c9, c10, c11, c12⟩, c203, hSt, m189, m191, g193, g196, ⟨⟨r2, r3, r4, r5, r6, r7, r53⟩, ⟨w0, w1, w2, w3, w4, w5, w6⟩, wx1, wx2, wx3⟩⟩ := id hS; have hv := hA.1; have hv8 := hv.n8; have hv0 := hv.1.1; have hv3 := hv.2.2.2.1; have hs54 := hSt 54 (by unfold SB; omega); obtain ⟨p0, p1, ⟨d0, d1, d2, d3, d4, d5, d6, d7⟩, ⟨t1, t2, t3, t4, t5, t6⟩, p5, p6, p7⟩ := id hs54; have t7 : msh M (54 + 7) = some (4, 0) := p5.2.1; have t10 : msh M (54 + 10) = some (4, 0) := p6.2.1; obtain ⟨hB, hW, hLw⟩ := id hR.1; obtain ⟨b1, b2, b3, b4, b5, b6, b7, b8, b9, b10, b11, b12, b13, b14, b15⟩ := id hB; obtain ⟨hn, hn2, hat, hAc⟩ := id hCA; obtain ⟨⟨hki, hhi⟩, hIm, ⟨htp, hsz, hsz2⟩, hfa⟩ := id hCR
  refine x_aload_n dX1_law_0 rfl rfl ?_
  refine g_callI (vs := [_]) (d' := d - 1) rfl (s_X1_took (by omega) hC) dX1_law_1 kX1_135 (by omega) (by decide) rfl (Nat.le_of_ble_eq_true rfl) (rcv_o (by first | assumption | first | assumption | (simp (disch := omega) only [shI, shR, shL, shC, shD, shW, sh_V, shN_e, shN_n, crI, crL, crC, crW, crV, crR_e, crR_n, crN_e, crN_n, ciR, ciL, ciD, ciN_e, ciN_n, rdI_e, rdI_n, rdC_i, rdC_o, rdW, rdU_e, rdU_n, rdLW, clI, clR, clC, clD, clW, clV, clN_e, clN_n, clL_e, clL_n]; done) | (simp (disch := omega) only [shI, shR, shL, shC, shD, shW, sh_V, shN_e, shN_n, crI, crL, crC, crW, crV, crR_e, crR_n, crN_e, crN_n, ciR, ciL, ciD, ciN_e, ciN_n, rdI_e, rdI_n, rdC_i, rdC_o, rdW, rdU_e, rdU_n, rdLW, clI, clR, clC, clD, clW, clV, clN_e, clN_n, clL_e, clL_n] <;> first | assumption | rfl | omega)) rfl) (fun x1 M1 h1 => ?_)
  obtain ⟨e1, f1, g1⟩ := h1
  have e1' := e1.symm
  subst e1'
  obtain ⟨hC2, hCr2⟩ := g1
  have s0' : msh M1 0 = some (1, 0) := hC2.1.1.1.1
  clear f1
  refine x_istore_n (L' := [some _, some _, none]) dX1_law_4 rfl (by decide) rfl ?_
  refine x_aload_n dX1_law_5 rfl rfl ?_
  refine x_iconst dX1_law_6 rfl ?_
  refine g_putI (kI := 13) rfl dX1_law_7 fX1_65_1 (by first | assumption | first | assumption | (simp (disch := omega) only [shI, shR, shL, shC, shD, shW, sh_V, shN_e, shN_n, crI, crL, crC, crW, crV, crR_e, crR_n, crN_e, crN_n, ciR, ciL, ciD, ciN_e, ciN_n, rdI_e, rdI_n, rdC_i, rdC_o, rdW, rdU_e, rdU_n, rdLW, clI, clR, clC, clD, clW, clV, clN_e, clN_n, clL_e, clL_n]; done) | (simp (disch := omega) only [shI, shR, shL, shC, shD, shW, sh_V, shN_e, shN_n, crI, crL, crC, crW, crV, crR_e, crR_n, crN_e, crN_n, ciR, ciL, ciD, ciN_e, ciN_n, rdI_e, rdI_n, rdC_i, rdC_o, rdW, rdU_e, rdU_n, rdLW, clI, clR, clC, clD, clW, clV, clN_e, clN_n, clL_e, clL_n] <;> first | assumption | rfl | omega)) ?_
  have h3 := CO.wr1 (x := -1) hC2
  generalize mI M1 0 13 (-1) = MB at h3 ⊢
  obtain ⟨hC3, hCr3⟩ := h3
  have s0'' : msh MB 0 = some (1, 0) := hC3.1.1.1.1
  have c0'' : mcr MB 0 0 = some 2 := hC3.1.1.2.1.1
  have c1'' : mcr MB 0 1 = some 54 := hC3.1.1.2.1.2.1
  have r2'' : msh MB 2 = some (2, 0) := hC3.1.1.2.2.2.2.2.2.2.2.1.1
  refine x_aload_n dX1_law_10 rfl rfl ?_
  refine g_getR (kI := 1) rfl dX1_law_11 fX1_22_1 (by first | assumption | first | assumption | (simp (disch := omega) only [shI, shR, shL, shC, shD, shW, sh_V, shN_e, shN_n, crI, crL, crC, crW, crV, crR_e, crR_n, crN_e, crN_n, ciR, ciL, ciD, ciN_e, ciN_n, rdI_e, rdI_n, rdC_i, rdC_o, rdW, rdU_e, rdU_n, rdLW, clI, clR, clC, clD, clW, clV, clN_e, clN_n, clL_e, clL_n]; done) | (simp (disch := omega) only [shI, shR, shL, shC, shD, shW, sh_V, shN_e, shN_n, crI, crL, crC, crW, crV, crR_e, crR_n, crN_e, crN_n, ciR, ciL, ciD, ciN_e, ciN_n, rdI_e, rdI_n, rdC_i, rdC_o, rdW, rdU_e, rdU_n, rdLW, clI, clR, clC, clD, clW, clV, clN_e, clN_n, clL_e, clL_n] <;> first | assumption | rfl | omega)) (by first | assumption | first | assumption | (simp (disch := omega) only [shI, shR, shL, shC, shD, shW, sh_V, shN_e, shN_n, crI, crL, crC, crW, crV, crR_e, crR_n, crN_e, crN_n, ciR, ciL, ciD, ciN_e, ciN_n, rdI_e, rdI_n, rdC_i, rdC_o, rdW, rdU_e, rdU_n, rdLW, clI, clR, clC, clD, clW, clV, clN_e, clN_n, clL_e, clL_n]; done) | (simp (disch := omega) only [shI, shR, shL, shC, shD, shW, sh_V, shN_e, shN_n, crI, crL, crC, crW, crV, crR_e, crR_n, crN_e, crN_n, ciR, ciL, ciD, ciN_e, ciN_n, rdI_e, rdI_n, rdC_i, rdC_o, rdW, rdU_e, rdU_n, rdLW, clI, clR, clC, clD, clW, clV, clN_e, clN_n, clL_e, clL_n] <;> first | assumption | rfl | omega)) ?_
  refine x_aload_n dX1_law_14 rfl rfl ?_
  refine g_getR (kI := 0) rfl dX1_law_15 fX1_15_1 (by first | assumption | first | assumption | (simp (disch := omega) only [shI, shR, shL, shC, shD, shW, sh_V, shN_e, shN_n, crI, crL, crC, crW, crV, crR_e, crR_n, crN_e, crN_n, ciR, ciL, ciD, ciN_e, ciN_n, rdI_e, rdI_n, rdC_i, rdC_o, rdW, rdU_e, rdU_n, rdLW, clI, clR, clC, clD, clW, clV, clN_e, clN_n, clL_e, clL_n]; done) | (simp (disch := omega) only [shI, shR, shL, shC, shD, shW, sh_V, shN_e, shN_n, crI, crL, crC, crW, crV, crR_e, crR_n, crN_e, crN_n, ciR, ciL, ciD, ciN_e, ciN_n, rdI_e, rdI_n, rdC_i, rdC_o, rdW, rdU_e, rdU_n, rdLW, clI, clR, clC, clD, clW, clV, clN_e, clN_n, clL_e, clL_n] <;> first | assumption | rfl | omega)) (by first | assumption | first | assumption | (simp (disch := omega) only [shI, shR, shL, shC, shD, shW, sh_V, shN_e, shN_n, crI, crL, crC, crW, crV, crR_e, crR_n, crN_e, crN_n, ciR, ciL, ciD, ciN_e, ciN_n, rdI_e, rdI_n, rdC_i, rdC_o, rdW, rdU_e, rdU_n, rdLW, clI, clR, clC, clD, clW, clV, clN_e, clN_n, clL_e, clL_n]; done) | (simp (disch := omega) only [shI, shR, shL, shC, shD, shW, sh_V, shN_e, shN_n, crI, crL, crC, crW, crV, crR_e, crR_n, crN_e, crN_n, ciR, ciL, ciD, ciN_e, ciN_n, rdI_e, rdI_n, rdC_i, rdC_o, rdW, rdU_e, rdU_n, rdLW, clI, clR, clC, clD, clW, clV, clN_e, clN_n, clL_e, clL_n] <;> first | assumption | rfl | omega)) ?_
  refine x_iload_n dX1_law_18 rfl rfl ?_
  refine g_callIX (vs := [_, _]) (d' := d - 1) rfl (s_X2_laws (u := fun k => v (k + 849)) (by omega) hC3 hTpk hsz0) dX1_law_19 kX1_163 (by omega) (by decide) rfl (Nat.le_of_ble_eq_true rfl) (rcv_o (by first | assumption | first | assumption | (simp (disch := omega) only [shI, shR, shL, shC, shD, shW, sh_V, shN_e, shN_n, crI, crL, crC, crW, crV, crR_e, crR_n, crN_e, crN_n, ciR, ciL, ciD, ciN_e, ciN_n, rdI_e, rdI_n, rdC_i, rdC_o, rdW, rdU_e, rdU_n, rdLW, clI, clR, clC, clD, clW, clV, clN_e, clN_n, clL_e, clL_n]; done) | (simp (disch := omega) only [shI, shR, shL, shC, shD, shW, sh_V, shN_e, shN_n, crI, crL, crC, crW, crV, crR_e, crR_n, crN_e, crN_n, ciR, ciL, ciD, ciN_e, ciN_n, rdI_e, rdI_n, rdC_i, rdC_o, rdW, rdU_e, rdU_n, rdLW, clI, clR, clC, clD, clW, clV, clN_e, clN_n, clL_e, clL_n] <;> first | assumption | rfl | omega)) rfl) (fun x19 M19 h19 => ?_) (fun a19 E19 M19 h19 => ?_)
  · obtain ⟨r, hr, e19, hln, hco⟩ := h19
    subst e19
    exact aft _ r hr hln (CO.tr (hCr2.trans hCr3) hco)
  · obtain ⟨f, hf, ea, eE, e53, hco⟩ := h19
    subst ea
    subst eE
    exact th_catch (pre := []) (x := (10, 25, 28, 131)) (suf := []) (by omega) rfl (fun z hz => nomatch hz) rfl (by decide) q911 q430 (wrg _ f hf e53 (CO.tr (hCr2.trans hCr3) hco))
end X1

