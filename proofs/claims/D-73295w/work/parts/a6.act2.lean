/-! GuestView: acts that tune something, ticks, the image -/
theorem ChO.mny {p x : Int} {v : Vw} : ChO p p 9 3 x x 0 v := Or.inr (Or.inl ⟨rfl, rfl, rfl, rfl⟩)
theorem ChO.vec {p x : Int} {v : Vw} : ChO p p 12 4 x x 0 v := Or.inr (Or.inr (Or.inl ⟨rfl, rfl, rfl, rfl⟩))
theorem ChO.shf {p x : Int} {v : Vw} : ChO p p 13 5 (2 * x) x 0 v := Or.inr (Or.inr (Or.inr (Or.inl ⟨rfl, rfl, rfl, rfl⟩)))
theorem ChO.cst {p x : Int} {v : Vw} : ChO p p 14 6 x x 0 v := Or.inr (Or.inr (Or.inr (Or.inr (Or.inl ⟨rfl, rfl, rfl, rfl⟩))))
theorem ChO.alm {p x : Int} {v : Vw} : ChO p p 15 7 x x 0 v := Or.inr (Or.inr (Or.inr (Or.inr (Or.inr (Or.inl ⟨rfl, rfl, rfl, rfl⟩)))))
theorem ChO.prg {p c x : Int} {v : Vw} (h : 0 ≤ c ∧ c < 10) : ChO p (p + 5) c (12 + c) x x 0 v := Or.inr (Or.inr (Or.inr (Or.inr (Or.inr (Or.inr (Or.inr (Or.inr (Or.inl ⟨rfl, h, rfl, rfl⟩))))))))
theorem ChO.cel {p c x : Int} {v : Vw} (h : 0 ≤ c ∧ c < 8) : ChO p (p + 6) c (22 + c) x x 0 v := Or.inr (Or.inr (Or.inr (Or.inr (Or.inr (Or.inr (Or.inr (Or.inr (Or.inr (Or.inl ⟨rfl, h, rfl, rfl⟩)))))))))
theorem ChO.grd {p q x : Int} {v : Vw} (h : 0 ≤ q ∧ q < v 0) : ChO p (p + 13 + 4 * q) 4 (31 + 9 * q) x x q v := Or.inr (Or.inr (Or.inr (Or.inr (Or.inr (Or.inr (Or.inr (Or.inr (Or.inr (Or.inr ⟨h, rfl, Or.inl ⟨rfl, rfl⟩, rfl⟩)))))))))
theorem ChO.pat {p q x : Int} {v : Vw} (h : 0 ≤ q ∧ q < v 0) : ChO p (p + 13 + 4 * q) 5 (32 + 9 * q) x x q v := Or.inr (Or.inr (Or.inr (Or.inr (Or.inr (Or.inr (Or.inr (Or.inr (Or.inr (Or.inr ⟨h, rfl, Or.inr ⟨rfl, rfl⟩, rfl⟩)))))))))
theorem okB_vec {v : Vw} {x : Int} (h : okB v) (hx : 0 ≤ x ∧ x ≤ 9) : okB (us v 4 x) := h.us (Or.inr (Or.inl ⟨rfl, hx⟩))
theorem okB_shf {v : Vw} {x : Int} (h : okB v) (hx : 0 ≤ x ∧ x ≤ 3) : okB (us v 5 (2 * x)) := h.us (Or.inr (Or.inr (Or.inl ⟨rfl, by omega⟩)))
theorem okB_cst {v : Vw} {x : Int} (h : okB v) (hx : 0 ≤ x ∧ x ≤ 7) : okB (us v 6 x) := h.us (Or.inr (Or.inr (Or.inr (Or.inl ⟨rfl, hx⟩))))
theorem okB_alm {v : Vw} {x : Int} (h : okB v) (hx : 0 ≤ x ∧ x ≤ 100) : okB (us v 7 x) := h.us (Or.inr (Or.inr (Or.inr (Or.inr (Or.inl ⟨rfl, hx⟩)))))
theorem okB_pgm {v : Vw} {c x : Int} (h : okB v) (hc : 0 ≤ c ∧ c < 10) (hx : 0 ≤ x ∧ x < v 0) : okB (us v (12 + c) x) := h.us (Or.inr (Or.inr (Or.inr (Or.inr (Or.inr (Or.inr (Or.inr (Or.inl ⟨by omega, hx⟩))))))))
theorem okB_cel {v : Vw} {c x : Int} (h : okB v) (hc : 0 ≤ c ∧ c < 8) (hx : 0 ≤ x ∧ x < 4) : okB (us v (22 + c) x) := h.us (Or.inr (Or.inr (Or.inr (Or.inr (Or.inr (Or.inr (Or.inr (Or.inr (Or.inl ⟨by omega, hx⟩)))))))))
theorem bootV_at {u : Vw} {g j : Int} (hg : g = 0 ∨ g = 1) (h : guA g ≤ j ∧ j < guA g + 13) : bootV u j = if j = guA g + 2 then 1 else if guA g + 5 ≤ j then u (22 + (j - guA g - 5)) else 0 := by
  have e : ∃ w, bootV u j = setG w g 0 (0, 1, 0, 0, 0, fun k => u (22 + k)) 0 j := by
    rcases hg with rfl | rfl
    · exact ⟨u, bootV_g0 (by unfold guA at h; omega)⟩
    · exact ⟨_, rfl⟩
  obtain ⟨w, ew⟩ := e
  rw [ew]
  rcases (show j = guA g ∨ j = guA g + 1 ∨ j = guA g + 2 ∨ j = guA g + 3 ∨ j = guA g + 4 ∨ guA g + 5 ≤ j by omega) with q | q | q | q | q | q
  · subst q; rw [setG_0, if_neg (by omega), if_neg (by omega)]
  · subst q; rw [setG_1, if_neg (by omega), if_neg (by omega)]
  · subst q; rw [setG_2, if_pos rfl]
  · subst q; rw [setG_3, if_neg (by omega), if_neg (by omega)]
  · subst q; rw [setG_4, if_neg (by omega), if_neg (by omega)]
  · rw [if_neg (by omega), if_pos q]
    have e5 : j = guA g + 5 + (j - guA g - 5) := by omega
    conv => lhs; rw [e5]
    exact setG_5 (by omega)
theorem bootV_us {w : Vw} {i x : Int} (h1 : ¬ (22 ≤ i ∧ i < 30)) (h2 : ¬ (102 ≤ i ∧ i < 128)) : us (bootV w) i x = bootV (us w i x) := funext fun j => by
  by_cases q : 102 ≤ j ∧ j < 128
  · rw [us_n (by omega)]
    by_cases q0 : j < 115
    · rw [bootV_at (g := 0) (Or.inl rfl) (by unfold guA; omega), bootV_at (g := 0) (Or.inl rfl) (by unfold guA; omega)]
      split
      · rfl
      · split
        · rename_i a b
          unfold guA at b ⊢
          rw [us_n (by omega)]
        · rfl
    · rw [bootV_at (g := 1) (Or.inr rfl) (by unfold guA; omega), bootV_at (g := 1) (Or.inr rfl) (by unfold guA; omega)]
      split
      · rfl
      · split
        · rename_i a b
          unfold guA at b ⊢
          rw [us_n (by omega)]
        · rfl
  · rw [bootV_eqB j q]
    by_cases q1 : j = i
    · rw [us_e q1, us_e q1]
    · rw [us_n q1, us_n q1]
      exact bootV_eqB j q
section X1
variable {G : GW} {d : Nat} {M : Mem} {a b c e k n x y q op w st hi sz fa N i p o T : Int} {v vi u : Vw} {A : Int → Vw} {tp : Int → Int}
theorem lawOK.boot (h : lawOK v) (hi : i < 368) (hi2 : ¬ i = 2) : lawOK (bootV (us v i x)) := h.lo ((bootV_eqB 2 (by omega)).trans (us_n (by omega))) fun k a b => (bootV_eqB k (by omega)).trans (us_n (by omega))
/-- a number is another one, all is booted -/
theorem tune_ok (hd : 13 ≤ d) (hC : CI M v n A hi vi tp sz fa N) (hc : ChO 54 b c i x y q v) (hiq : i < 30 ∨ i = 32 + 9 * q) (hvB : okB (us v i x)) : CS G d mX1_reboots [dR 0] (mI M b c y) (postN fun M1 => CO M (bootV (us v i x)) n A hi vi tp sz fa N 0 0 M1) := by
  obtain ⟨hC1, hC54, hCA, hCR⟩ := id hC
  obtain ⟨hS, hTab, hTx, hLn, hSk, hnx⟩ := id hC1
  obtain ⟨hA, hL, hR⟩ := id hC54
  have hv := hA.1
  have h8 := hv.n8
  have hv0 := hv.1.1
  have hc' := hc
  unfold ChO at hc'
  have hb : (54 ≤ b ∧ b ≤ 98) ∧ (b = 54 ∨ b = 59 ∨ b = 60 ∨ 67 ≤ b) ∧ i < 368 ∧ ¬ i = 2 := by omega
  clear hc'
  have hRS : RelS (msh (mI M b c y)) (mci (mI M b c y)) (mcr (mI M b c y)) 761 (mnx M) 54 (us v i x) N := hR.1.ch hv hL hc hiq (by omega)
  have hsk : b01 (mci (mI M b c y) (54 + 7 + 1) 6) ∧ b01 (mci (mI M b c y) (54 + 10 + 1) 6) := by
    rw [rdI_n (by omega), rdI_n (by omega)]
    exact ⟨hR.2.1.2.2.1, hR.2.2.2.2.1⟩
  refine (s_X1_reboots (M := mI M b c y) hd hS hRS hvB hsk).mono fun r M1 z => ?_
  obtain ⟨e1, g, e2, hRA, hF⟩ := z
  subst e2
  have hg : ∀ b' k, ¬ (54 ≤ b' ∧ b' ≤ 98) → g b' k = mci M b' k := fun b' k z => (hF b' k (by omega)).trans (rdI_n (by omega))
  have hx := hC.now (g := g) (v' := bootV (us v i x)) (N' := N) (fun b k q1 q2 => hg b k q1) ⟨by rw [hg _ _ (by omega)]; exact hSk.2.1, by rw [hg _ _ (by omega)]; exact hSk.2.2.1, by rw [hg _ _ (by omega)]; exact hSk.2.2.2.1, by rw [hg _ _ (by omega)]; exact hSk.2.2.2.2⟩ ⟨bootV_ok hvB, hL.boot hb.2.2.1 hb.2.2.2, hRA⟩ (Int.le_refl _) (fun k a b => (bootV_eqB k (by omega)).trans (us_n (by omega)))
  exact ⟨e1, hx⟩
theorem s_X1_vector (hd : 20 ≤ d) (hC : CI M v n A hi vi tp sz fa N) : CS G d mX1_vector [dR 0, dI k] M (orT (postI fun y M1 => (0 ≤ k ∧ k ≤ 9) ∧ y = v 4 ∧ CO M (bootV (us v 4 k)) (remN n) (remA A n v) hi vi tp sz fa N 0 0 M1) (fun a E M1 => CO M v n A hi vi tp sz fa N 1 6 M1 ∧ ¬ (0 ≤ k ∧ k ≤ 9) ∧ E = "java/lang/IllegalArgumentException")) := by
  obtain ⟨hC1, hC54, hCA, hCR⟩ := id hC; obtain ⟨hS, hTab, hTx, hLn, hSk, hnx⟩ := id hC1; obtain ⟨hA, hL, hR⟩ := id hC54; obtain ⟨⟨s0, s199, s200, s201, s202, s203⟩, ⟨c0, c1, c2, c3, c4, c5, c6, c7, c8, c9, c10, c11, c12⟩, c203, hSt, m189, m191, g193, g196, ⟨⟨r2, r3, r4, r5, r6, r7, r53⟩, ⟨w0, w1, w2, w3, w4, w5, w6⟩, wx1, wx2, wx3⟩⟩ := id hS; have hv := hA.1; have hv8 := hv.n8; have hv0 := hv.1.1; have hv3 := hv.2.2.2.1; have hs54 := hSt 54 (by unfold SB; omega); obtain ⟨p0, p1, ⟨d0, d1, d2, d3, d4, d5, d6, d7⟩, ⟨t1, t2, t3, t4, t5, t6⟩, p5, p6, p7⟩ := id hs54; have t7 : msh M (54 + 7) = some (4, 0) := p5.2.1; have t10 : msh M (54 + 10) = some (4, 0) := p6.2.1; obtain ⟨hB, hW, hLw⟩ := id hR.1; obtain ⟨b1, b2, b3, b4, b5, b6, b7, b8, b9, b10, b11, b12, b13, b14, b15⟩ := id hB; obtain ⟨hn, hn2, hat, hAc⟩ := id hCA; obtain ⟨⟨hki, hhi⟩, hIm, ⟨htp, hsz, hsz2⟩, hfa⟩ := id hCR
  refine CS.mkQ (by decide) (Nat.le_of_ble_eq_true rfl) fun Q hQ => ?_
  refine x_iload_n dX1_vector_0 rfl rfl ?_
  refine x_iconst dX1_vector_1 rfl ?_
  refine x_bipush dX1_vector_2 rfl ?_
  refine g_callI (vs := [_, _, _]) (d' := d - 1) rfl (s_X1_isIn (by omega)) dX1_vector_4 kX1_104 (by omega) (by decide) rfl (Nat.le_of_ble_eq_true rfl) (rcv_n) (fun x4 M4 h4 => ?_)
  obtain ⟨e4, f4⟩ := h4
  have f4' := f4.symm
  subst f4'
  subst e4
  try simp (disch := omega) only [rdI_e, rdI_n, rdC_i, rdC_o, rdW, rdR, rdU_e, rdU_n, rdLW, Int.add_zero, b4]
  refine g_callNX (vs := [_]) (d' := d - 1) rfl (s_X1_must (by omega) (by first | omega | exact vP_r _)) dX1_vector_7 kX1_116 (by omega) (by decide) rfl (Nat.le_of_ble_eq_true rfl) (rcv_n) (fun M7 h7 => ?_) (fun a7 E7 M7 h7 => ?_)
  · obtain ⟨q7, e7⟩ := h7
    subst e7
    try simp only [vP_0, vP_1, vP_n0, vP_n1, Classical.not_not] at q7
    refine x_aload_n dX1_vector_10 rfl rfl ?_
    refine g_callN (vs := [_]) (d' := d - 1) rfl (s_X1_remembers (by omega) hC) dX1_vector_11 kX1_323 (by omega) (by decide) rfl (Nat.le_of_ble_eq_true rfl) (rcv_o (by first | assumption | first | assumption | (simp (disch := omega) only [shI, shR, shL, shC, shD, shW, sh_V, shN_e, shN_n, crI, crL, crC, crW, crV, crR_e, crR_n, crN_e, crN_n, ciR, ciL, ciD, ciN_e, ciN_n, rdI_e, rdI_n, rdC_i, rdC_o, rdW, rdU_e, rdU_n, rdLW, clI, clR, clC, clD, clW, clV, clN_e, clN_n, clL_e, clL_n]; done) | (simp (disch := omega) only [shI, shR, shL, shC, shD, shW, sh_V, shN_e, shN_n, crI, crL, crC, crW, crV, crR_e, crR_n, crN_e, crN_n, ciR, ciL, ciD, ciN_e, ciN_n, rdI_e, rdI_n, rdC_i, rdC_o, rdW, rdU_e, rdU_n, rdLW, clI, clR, clC, clD, clW, clV, clN_e, clN_n, clL_e, clL_n] <;> first | assumption | rfl | omega)) rfl) (fun M11 h11 => ?_)
    obtain ⟨hC, hCr⟩ := h11
    obtain ⟨hC1, hC54, hCA, hCR⟩ := id hC; obtain ⟨hS, hTab, hTx, hLn, hSk, hnx⟩ := id hC1; obtain ⟨hA, hL, hR⟩ := id hC54; obtain ⟨⟨s0, s199, s200, s201, s202, s203⟩, ⟨c0, c1, c2, c3, c4, c5, c6, c7, c8, c9, c10, c11, c12⟩, c203, hSt, m189, m191, g193, g196, ⟨⟨r2, r3, r4, r5, r6, r7, r53⟩, ⟨w0, w1, w2, w3, w4, w5, w6⟩, wx1, wx2, wx3⟩⟩ := id hS; have hv := hA.1; have hv8 := hv.n8; have hv0 := hv.1.1; have hv3 := hv.2.2.2.1; have hs54 := hSt 54 (by unfold SB; omega); obtain ⟨p0, p1, ⟨d0, d1, d2, d3, d4, d5, d6, d7⟩, ⟨t1, t2, t3, t4, t5, t6⟩, p5, p6, p7⟩ := id hs54; have t7 : msh (M11) (54 + 7) = some (4, 0) := p5.2.1; have t10 : msh (M11) (54 + 10) = some (4, 0) := p6.2.1; obtain ⟨hB, hW, hLw⟩ := id hR.1; obtain ⟨b1, b2, b3, b4, b5, b6, b7, b8, b9, b10, b11, b12, b13, b14, b15⟩ := id hB; obtain ⟨hn, hn2, hat, hAc⟩ := id hCA; obtain ⟨⟨hki, hhi⟩, hIm, ⟨htp, hsz, hsz2⟩, hfa⟩ := id hCR
    refine x_aload_n dX1_vector_14 rfl rfl ?_
    refine g_getR (kI := 1) rfl dX1_vector_15 fX1_22_1 (by first | assumption | first | assumption | (simp (disch := omega) only [shI, shR, shL, shC, shD, shW, sh_V, shN_e, shN_n, crI, crL, crC, crW, crV, crR_e, crR_n, crN_e, crN_n, ciR, ciL, ciD, ciN_e, ciN_n, rdI_e, rdI_n, rdC_i, rdC_o, rdW, rdU_e, rdU_n, rdLW, clI, clR, clC, clD, clW, clV, clN_e, clN_n, clL_e, clL_n]; done) | (simp (disch := omega) only [shI, shR, shL, shC, shD, shW, sh_V, shN_e, shN_n, crI, crL, crC, crW, crV, crR_e, crR_n, crN_e, crN_n, ciR, ciL, ciD, ciN_e, ciN_n, rdI_e, rdI_n, rdC_i, rdC_o, rdW, rdU_e, rdU_n, rdLW, clI, clR, clC, clD, clW, clV, clN_e, clN_n, clL_e, clL_n] <;> first | assumption | rfl | omega)) (by first | assumption | first | assumption | (simp (disch := omega) only [shI, shR, shL, shC, shD, shW, sh_V, shN_e, shN_n, crI, crL, crC, crW, crV, crR_e, crR_n, crN_e, crN_n, ciR, ciL, ciD, ciN_e, ciN_n, rdI_e, rdI_n, rdC_i, rdC_o, rdW, rdU_e, rdU_n, rdLW, clI, clR, clC, clD, clW, clV, clN_e, clN_n, clL_e, clL_n]; done) | (simp (disch := omega) only [shI, shR, shL, shC, shD, shW, sh_V, shN_e, shN_n, crI, crL, crC, crW, crV, crR_e, crR_n, crN_e, crN_n, ciR, ciL, ciD, ciN_e, ciN_n, rdI_e, rdI_n, rdC_i, rdC_o, rdW, rdU_e, rdU_n, rdLW, clI, clR, clC, clD, clW, clV, clN_e, clN_n, clL_e, clL_n] <;> first | assumption | rfl | omega)) ?_
    refine g_getI (kI := 12) rfl dX1_vector_18 fX1_338_3 (by first | assumption | first | assumption | (simp (disch := omega) only [shI, shR, shL, shC, shD, shW, sh_V, shN_e, shN_n, crI, crL, crC, crW, crV, crR_e, crR_n, crN_e, crN_n, ciR, ciL, ciD, ciN_e, ciN_n, rdI_e, rdI_n, rdC_i, rdC_o, rdW, rdU_e, rdU_n, rdLW, clI, clR, clC, clD, clW, clV, clN_e, clN_n, clL_e, clL_n]; done) | (simp (disch := omega) only [shI, shR, shL, shC, shD, shW, sh_V, shN_e, shN_n, crI, crL, crC, crW, crV, crR_e, crR_n, crN_e, crN_n, ciR, ciL, ciD, ciN_e, ciN_n, rdI_e, rdI_n, rdC_i, rdC_o, rdW, rdU_e, rdU_n, rdLW, clI, clR, clC, clD, clW, clV, clN_e, clN_n, clL_e, clL_n] <;> first | assumption | rfl | omega)) ?_
    try simp (disch := omega) only [rdI_e, rdI_n, rdC_i, rdC_o, rdW, rdR, rdU_e, rdU_n, rdLW, Int.add_zero, b4]
    refine x_istore_n (L' := [some _, some _, some _]) dX1_vector_21 rfl (by decide) rfl ?_
    refine x_aload_n dX1_vector_22 rfl rfl ?_
    refine g_getR (kI := 1) rfl dX1_vector_23 fX1_22_1 (by first | assumption | first | assumption | (simp (disch := omega) only [shI, shR, shL, shC, shD, shW, sh_V, shN_e, shN_n, crI, crL, crC, crW, crV, crR_e, crR_n, crN_e, crN_n, ciR, ciL, ciD, ciN_e, ciN_n, rdI_e, rdI_n, rdC_i, rdC_o, rdW, rdU_e, rdU_n, rdLW, clI, clR, clC, clD, clW, clV, clN_e, clN_n, clL_e, clL_n]; done) | (simp (disch := omega) only [shI, shR, shL, shC, shD, shW, sh_V, shN_e, shN_n, crI, crL, crC, crW, crV, crR_e, crR_n, crN_e, crN_n, ciR, ciL, ciD, ciN_e, ciN_n, rdI_e, rdI_n, rdC_i, rdC_o, rdW, rdU_e, rdU_n, rdLW, clI, clR, clC, clD, clW, clV, clN_e, clN_n, clL_e, clL_n] <;> first | assumption | rfl | omega)) (by first | assumption | first | assumption | (simp (disch := omega) only [shI, shR, shL, shC, shD, shW, sh_V, shN_e, shN_n, crI, crL, crC, crW, crV, crR_e, crR_n, crN_e, crN_n, ciR, ciL, ciD, ciN_e, ciN_n, rdI_e, rdI_n, rdC_i, rdC_o, rdW, rdU_e, rdU_n, rdLW, clI, clR, clC, clD, clW, clV, clN_e, clN_n, clL_e, clL_n]; done) | (simp (disch := omega) only [shI, shR, shL, shC, shD, shW, sh_V, shN_e, shN_n, crI, crL, crC, crW, crV, crR_e, crR_n, crN_e, crN_n, ciR, ciL, ciD, ciN_e, ciN_n, rdI_e, rdI_n, rdC_i, rdC_o, rdW, rdU_e, rdU_n, rdLW, clI, clR, clC, clD, clW, clV, clN_e, clN_n, clL_e, clL_n] <;> first | assumption | rfl | omega)) ?_
    refine x_iload_n dX1_vector_26 rfl rfl ?_
    refine g_putI (kI := 12) rfl dX1_vector_27 fX1_338_3 (by first | assumption | first | assumption | (simp (disch := omega) only [shI, shR, shL, shC, shD, shW, sh_V, shN_e, shN_n, crI, crL, crC, crW, crV, crR_e, crR_n, crN_e, crN_n, ciR, ciL, ciD, ciN_e, ciN_n, rdI_e, rdI_n, rdC_i, rdC_o, rdW, rdU_e, rdU_n, rdLW, clI, clR, clC, clD, clW, clV, clN_e, clN_n, clL_e, clL_n]; done) | (simp (disch := omega) only [shI, shR, shL, shC, shD, shW, sh_V, shN_e, shN_n, crI, crL, crC, crW, crV, crR_e, crR_n, crN_e, crN_n, ciR, ciL, ciD, ciN_e, ciN_n, rdI_e, rdI_n, rdC_i, rdC_o, rdW, rdU_e, rdU_n, rdLW, clI, clR, clC, clD, clW, clV, clN_e, clN_n, clL_e, clL_n] <;> first | assumption | rfl | omega)) ?_
    refine x_aload_n dX1_vector_30 rfl rfl ?_
    refine g_callN (vs := [_]) (d' := d - 1) rfl (tune_ok (i := 4) (x := k) (q := 0) (by omega) hC ChO.vec (Or.inl (by decide)) (okB_vec hv q7)) dX1_vector_31 kX1_330 (by omega) (by decide) rfl (Nat.le_of_ble_eq_true rfl) (rcv_o (by first | assumption | first | assumption | (simp (disch := omega) only [shI, shR, shL, shC, shD, shW, sh_V, shN_e, shN_n, crI, crL, crC, crW, crV, crR_e, crR_n, crN_e, crN_n, ciR, ciL, ciD, ciN_e, ciN_n, rdI_e, rdI_n, rdC_i, rdC_o, rdW, rdU_e, rdU_n, rdLW, clI, clR, clC, clD, clW, clV, clN_e, clN_n, clL_e, clL_n]; done) | (simp (disch := omega) only [shI, shR, shL, shC, shD, shW, sh_V, shN_e, shN_n, crI, crL, crC, crW, crV, crR_e, crR_n, crN_e, crN_n, ciR, ciL, ciD, ciN_e, ciN_n, rdI_e, rdI_n, rdC_i, rdC_o, rdW, rdU_e, rdU_n, rdLW, clI, clR, clC, clD, clW, clV, clN_e, clN_n, clL_e, clL_n] <;> first | assumption | rfl | omega)) rfl) (fun M31 h31 => ?_)
    refine x_iload_n dX1_vector_34 rfl rfl ?_
    refine x_ireturn rfl dX1_vector_35 ?_
    exact hQ _ _ (Or.inl ⟨_, rfl, q7, rfl, CO.tr hCr h31⟩)
  · obtain ⟨q7, eE7, eM7⟩ := h7
    subst eE7
    subst eM7
    rw [vP_0] at q7
    exact th_nil rfl (hQ _ _ (Or.inr ⟨_, _, rfl, CO.xx hC, q7, rfl⟩))
theorem s_X1_cost (hd : 20 ≤ d) (hC : CI M v n A hi vi tp sz fa N) : CS G d mX1_cost [dR 0, dI k] M (orT (postI fun y M1 => (0 ≤ k ∧ k ≤ 7) ∧ y = v 6 ∧ CO M (bootV (us v 6 k)) (remN n) (remA A n v) hi vi tp sz fa N 0 0 M1) (fun a E M1 => CO M v n A hi vi tp sz fa N 1 6 M1 ∧ ¬ (0 ≤ k ∧ k ≤ 7) ∧ E = "java/lang/IllegalArgumentException")) := by
  obtain ⟨hC1, hC54, hCA, hCR⟩ := id hC; obtain ⟨hS, hTab, hTx, hLn, hSk, hnx⟩ := id hC1; obtain ⟨hA, hL, hR⟩ := id hC54; obtain ⟨⟨s0, s199, s200, s201, s202, s203⟩, ⟨c0, c1, c2, c3, c4, c5, c6, c7, c8, c9, c10, c11, c12⟩, c203, hSt, m189, m191, g193, g196, ⟨⟨r2, r3, r4, r5, r6, r7, r53⟩, ⟨w0, w1, w2, w3, w4, w5, w6⟩, wx1, wx2, wx3⟩⟩ := id hS; have hv := hA.1; have hv8 := hv.n8; have hv0 := hv.1.1; have hv3 := hv.2.2.2.1; have hs54 := hSt 54 (by unfold SB; omega); obtain ⟨p0, p1, ⟨d0, d1, d2, d3, d4, d5, d6, d7⟩, ⟨t1, t2, t3, t4, t5, t6⟩, p5, p6, p7⟩ := id hs54; have t7 : msh M (54 + 7) = some (4, 0) := p5.2.1; have t10 : msh M (54 + 10) = some (4, 0) := p6.2.1; obtain ⟨hB, hW, hLw⟩ := id hR.1; obtain ⟨b1, b2, b3, b4, b5, b6, b7, b8, b9, b10, b11, b12, b13, b14, b15⟩ := id hB; obtain ⟨hn, hn2, hat, hAc⟩ := id hCA; obtain ⟨⟨hki, hhi⟩, hIm, ⟨htp, hsz, hsz2⟩, hfa⟩ := id hCR
  refine CS.mkQ (by decide) (Nat.le_of_ble_eq_true rfl) fun Q hQ => ?_
  refine x_iload_n dX1_cost_0 rfl rfl ?_
  refine x_iconst dX1_cost_1 rfl ?_
  refine x_bipush dX1_cost_2 rfl ?_
  refine g_callI (vs := [_, _, _]) (d' := d - 1) rfl (s_X1_isIn (by omega)) dX1_cost_4 kX1_104 (by omega) (by decide) rfl (Nat.le_of_ble_eq_true rfl) (rcv_n) (fun x4 M4 h4 => ?_)
  obtain ⟨e4, f4⟩ := h4
  have f4' := f4.symm
  subst f4'
  subst e4
  try simp (disch := omega) only [rdI_e, rdI_n, rdC_i, rdC_o, rdW, rdR, rdU_e, rdU_n, rdLW, Int.add_zero, b6]
  refine g_callNX (vs := [_]) (d' := d - 1) rfl (s_X1_must (by omega) (by first | omega | exact vP_r _)) dX1_cost_7 kX1_116 (by omega) (by decide) rfl (Nat.le_of_ble_eq_true rfl) (rcv_n) (fun M7 h7 => ?_) (fun a7 E7 M7 h7 => ?_)
  · obtain ⟨q7, e7⟩ := h7
    subst e7
    try simp only [vP_0, vP_1, vP_n0, vP_n1, Classical.not_not] at q7
    refine x_aload_n dX1_cost_10 rfl rfl ?_
    refine g_callN (vs := [_]) (d' := d - 1) rfl (s_X1_remembers (by omega) hC) dX1_cost_11 kX1_323 (by omega) (by decide) rfl (Nat.le_of_ble_eq_true rfl) (rcv_o (by first | assumption | first | assumption | (simp (disch := omega) only [shI, shR, shL, shC, shD, shW, sh_V, shN_e, shN_n, crI, crL, crC, crW, crV, crR_e, crR_n, crN_e, crN_n, ciR, ciL, ciD, ciN_e, ciN_n, rdI_e, rdI_n, rdC_i, rdC_o, rdW, rdU_e, rdU_n, rdLW, clI, clR, clC, clD, clW, clV, clN_e, clN_n, clL_e, clL_n]; done) | (simp (disch := omega) only [shI, shR, shL, shC, shD, shW, sh_V, shN_e, shN_n, crI, crL, crC, crW, crV, crR_e, crR_n, crN_e, crN_n, ciR, ciL, ciD, ciN_e, ciN_n, rdI_e, rdI_n, rdC_i, rdC_o, rdW, rdU_e, rdU_n, rdLW, clI, clR, clC, clD, clW, clV, clN_e, clN_n, clL_e, clL_n] <;> first | assumption | rfl | omega)) rfl) (fun M11 h11 => ?_)
    obtain ⟨hC, hCr⟩ := h11
    obtain ⟨hC1, hC54, hCA, hCR⟩ := id hC; obtain ⟨hS, hTab, hTx, hLn, hSk, hnx⟩ := id hC1; obtain ⟨hA, hL, hR⟩ := id hC54; obtain ⟨⟨s0, s199, s200, s201, s202, s203⟩, ⟨c0, c1, c2, c3, c4, c5, c6, c7, c8, c9, c10, c11, c12⟩, c203, hSt, m189, m191, g193, g196, ⟨⟨r2, r3, r4, r5, r6, r7, r53⟩, ⟨w0, w1, w2, w3, w4, w5, w6⟩, wx1, wx2, wx3⟩⟩ := id hS; have hv := hA.1; have hv8 := hv.n8; have hv0 := hv.1.1; have hv3 := hv.2.2.2.1; have hs54 := hSt 54 (by unfold SB; omega); obtain ⟨p0, p1, ⟨d0, d1, d2, d3, d4, d5, d6, d7⟩, ⟨t1, t2, t3, t4, t5, t6⟩, p5, p6, p7⟩ := id hs54; have t7 : msh (M11) (54 + 7) = some (4, 0) := p5.2.1; have t10 : msh (M11) (54 + 10) = some (4, 0) := p6.2.1; obtain ⟨hB, hW, hLw⟩ := id hR.1; obtain ⟨b1, b2, b3, b4, b5, b6, b7, b8, b9, b10, b11, b12, b13, b14, b15⟩ := id hB; obtain ⟨hn, hn2, hat, hAc⟩ := id hCA; obtain ⟨⟨hki, hhi⟩, hIm, ⟨htp, hsz, hsz2⟩, hfa⟩ := id hCR
    refine x_aload_n dX1_cost_14 rfl rfl ?_
    refine g_getR (kI := 1) rfl dX1_cost_15 fX1_22_1 (by first | assumption | first | assumption | (simp (disch := omega) only [shI, shR, shL, shC, shD, shW, sh_V, shN_e, shN_n, crI, crL, crC, crW, crV, crR_e, crR_n, crN_e, crN_n, ciR, ciL, ciD, ciN_e, ciN_n, rdI_e, rdI_n, rdC_i, rdC_o, rdW, rdU_e, rdU_n, rdLW, clI, clR, clC, clD, clW, clV, clN_e, clN_n, clL_e, clL_n]; done) | (simp (disch := omega) only [shI, shR, shL, shC, shD, shW, sh_V, shN_e, shN_n, crI, crL, crC, crW, crV, crR_e, crR_n, crN_e, crN_n, ciR, ciL, ciD, ciN_e, ciN_n, rdI_e, rdI_n, rdC_i, rdC_o, rdW, rdU_e, rdU_n, rdLW, clI, clR, clC, clD, clW, clV, clN_e, clN_n, clL_e, clL_n] <;> first | assumption | rfl | omega)) (by first | assumption | first | assumption | (simp (disch := omega) only [shI, shR, shL, shC, shD, shW, sh_V, shN_e, shN_n, crI, crL, crC, crW, crV, crR_e, crR_n, crN_e, crN_n, ciR, ciL, ciD, ciN_e, ciN_n, rdI_e, rdI_n, rdC_i, rdC_o, rdW, rdU_e, rdU_n, rdLW, clI, clR, clC, clD, clW, clV, clN_e, clN_n, clL_e, clL_n]; done) | (simp (disch := omega) only [shI, shR, shL, shC, shD, shW, sh_V, shN_e, shN_n, crI, crL, crC, crW, crV, crR_e, crR_n, crN_e, crN_n, ciR, ciL, ciD, ciN_e, ciN_n, rdI_e, rdI_n, rdC_i, rdC_o, rdW, rdU_e, rdU_n, rdLW, clI, clR, clC, clD, clW, clV, clN_e, clN_n, clL_e, clL_n] <;> first | assumption | rfl | omega)) ?_
    refine g_getI (kI := 14) rfl dX1_cost_18 fX1_344_3 (by first | assumption | first | assumption | (simp (disch := omega) only [shI, shR, shL, shC, shD, shW, sh_V, shN_e, shN_n, crI, crL, crC, crW, crV, crR_e, crR_n, crN_e, crN_n, ciR, ciL, ciD, ciN_e, ciN_n, rdI_e, rdI_n, rdC_i, rdC_o, rdW, rdU_e, rdU_n, rdLW, clI, clR, clC, clD, clW, clV, clN_e, clN_n, clL_e, clL_n]; done) | (simp (disch := omega) only [shI, shR, shL, shC, shD, shW, sh_V, shN_e, shN_n, crI, crL, crC, crW, crV, crR_e, crR_n, crN_e, crN_n, ciR, ciL, ciD, ciN_e, ciN_n, rdI_e, rdI_n, rdC_i, rdC_o, rdW, rdU_e, rdU_n, rdLW, clI, clR, clC, clD, clW, clV, clN_e, clN_n, clL_e, clL_n] <;> first | assumption | rfl | omega)) ?_
    try simp (disch := omega) only [rdI_e, rdI_n, rdC_i, rdC_o, rdW, rdR, rdU_e, rdU_n, rdLW, Int.add_zero, b6]
    refine x_istore_n (L' := [some _, some _, some _]) dX1_cost_21 rfl (by decide) rfl ?_
    refine x_aload_n dX1_cost_22 rfl rfl ?_
    refine g_getR (kI := 1) rfl dX1_cost_23 fX1_22_1 (by first | assumption | first | assumption | (simp (disch := omega) only [shI, shR, shL, shC, shD, shW, sh_V, shN_e, shN_n, crI, crL, crC, crW, crV, crR_e, crR_n, crN_e, crN_n, ciR, ciL, ciD, ciN_e, ciN_n, rdI_e, rdI_n, rdC_i, rdC_o, rdW, rdU_e, rdU_n, rdLW, clI, clR, clC, clD, clW, clV, clN_e, clN_n, clL_e, clL_n]; done) | (simp (disch := omega) only [shI, shR, shL, shC, shD, shW, sh_V, shN_e, shN_n, crI, crL, crC, crW, crV, crR_e, crR_n, crN_e, crN_n, ciR, ciL, ciD, ciN_e, ciN_n, rdI_e, rdI_n, rdC_i, rdC_o, rdW, rdU_e, rdU_n, rdLW, clI, clR, clC, clD, clW, clV, clN_e, clN_n, clL_e, clL_n] <;> first | assumption | rfl | omega)) (by first | assumption | first | assumption | (simp (disch := omega) only [shI, shR, shL, shC, shD, shW, sh_V, shN_e, shN_n, crI, crL, crC, crW, crV, crR_e, crR_n, crN_e, crN_n, ciR, ciL, ciD, ciN_e, ciN_n, rdI_e, rdI_n, rdC_i, rdC_o, rdW, rdU_e, rdU_n, rdLW, clI, clR, clC, clD, clW, clV, clN_e, clN_n, clL_e, clL_n]; done) | (simp (disch := omega) only [shI, shR, shL, shC, shD, shW, sh_V, shN_e, shN_n, crI, crL, crC, crW, crV, crR_e, crR_n, crN_e, crN_n, ciR, ciL, ciD, ciN_e, ciN_n, rdI_e, rdI_n, rdC_i, rdC_o, rdW, rdU_e, rdU_n, rdLW, clI, clR, clC, clD, clW, clV, clN_e, clN_n, clL_e, clL_n] <;> first | assumption | rfl | omega)) ?_
    refine x_iload_n dX1_cost_26 rfl rfl ?_
    refine g_putI (kI := 14) rfl dX1_cost_27 fX1_344_3 (by first | assumption | first | assumption | (simp (disch := omega) only [shI, shR, shL, shC, shD, shW, sh_V, shN_e, shN_n, crI, crL, crC, crW, crV, crR_e, crR_n, crN_e, crN_n, ciR, ciL, ciD, ciN_e, ciN_n, rdI_e, rdI_n, rdC_i, rdC_o, rdW, rdU_e, rdU_n, rdLW, clI, clR, clC, clD, clW, clV, clN_e, clN_n, clL_e, clL_n]; done) | (simp (disch := omega) only [shI, shR, shL, shC, shD, shW, sh_V, shN_e, shN_n, crI, crL, crC, crW, crV, crR_e, crR_n, crN_e, crN_n, ciR, ciL, ciD, ciN_e, ciN_n, rdI_e, rdI_n, rdC_i, rdC_o, rdW, rdU_e, rdU_n, rdLW, clI, clR, clC, clD, clW, clV, clN_e, clN_n, clL_e, clL_n] <;> first | assumption | rfl | omega)) ?_
    refine x_aload_n dX1_cost_30 rfl rfl ?_
    refine g_callN (vs := [_]) (d' := d - 1) rfl (tune_ok (i := 6) (x := k) (q := 0) (by omega) hC ChO.cst (Or.inl (by decide)) (okB_cst hv q7)) dX1_cost_31 kX1_330 (by omega) (by decide) rfl (Nat.le_of_ble_eq_true rfl) (rcv_o (by first | assumption | first | assumption | (simp (disch := omega) only [shI, shR, shL, shC, shD, shW, sh_V, shN_e, shN_n, crI, crL, crC, crW, crV, crR_e, crR_n, crN_e, crN_n, ciR, ciL, ciD, ciN_e, ciN_n, rdI_e, rdI_n, rdC_i, rdC_o, rdW, rdU_e, rdU_n, rdLW, clI, clR, clC, clD, clW, clV, clN_e, clN_n, clL_e, clL_n]; done) | (simp (disch := omega) only [shI, shR, shL, shC, shD, shW, sh_V, shN_e, shN_n, crI, crL, crC, crW, crV, crR_e, crR_n, crN_e, crN_n, ciR, ciL, ciD, ciN_e, ciN_n, rdI_e, rdI_n, rdC_i, rdC_o, rdW, rdU_e, rdU_n, rdLW, clI, clR, clC, clD, clW, clV, clN_e, clN_n, clL_e, clL_n] <;> first | assumption | rfl | omega)) rfl) (fun M31 h31 => ?_)
    refine x_iload_n dX1_cost_34 rfl rfl ?_
    refine x_ireturn rfl dX1_cost_35 ?_
    exact hQ _ _ (Or.inl ⟨_, rfl, q7, rfl, CO.tr hCr h31⟩)
  · obtain ⟨q7, eE7, eM7⟩ := h7
    subst eE7
    subst eM7
    rw [vP_0] at q7
    exact th_nil rfl (hQ _ _ (Or.inr ⟨_, _, rfl, CO.xx hC, q7, rfl⟩))
theorem s_X1_alarm (hd : 20 ≤ d) (hC : CI M v n A hi vi tp sz fa N) : CS G d mX1_alarm [dR 0, dI k] M (orT (postI fun y M1 => (0 ≤ k ∧ k ≤ 100) ∧ y = v 7 ∧ CO M (bootV (us v 7 k)) (remN n) (remA A n v) hi vi tp sz fa N 0 0 M1) (fun a E M1 => CO M v n A hi vi tp sz fa N 1 6 M1 ∧ ¬ (0 ≤ k ∧ k ≤ 100) ∧ E = "java/lang/IllegalArgumentException")) := by
  obtain ⟨hC1, hC54, hCA, hCR⟩ := id hC; obtain ⟨hS, hTab, hTx, hLn, hSk, hnx⟩ := id hC1; obtain ⟨hA, hL, hR⟩ := id hC54; obtain ⟨⟨s0, s199, s200, s201, s202, s203⟩, ⟨c0, c1, c2, c3, c4, c5, c6, c7, c8, c9, c10, c11, c12⟩, c203, hSt, m189, m191, g193, g196, ⟨⟨r2, r3, r4, r5, r6, r7, r53⟩, ⟨w0, w1, w2, w3, w4, w5, w6⟩, wx1, wx2, wx3⟩⟩ := id hS; have hv := hA.1; have hv8 := hv.n8; have hv0 := hv.1.1; have hv3 := hv.2.2.2.1; have hs54 := hSt 54 (by unfold SB; omega); obtain ⟨p0, p1, ⟨d0, d1, d2, d3, d4, d5, d6, d7⟩, ⟨t1, t2, t3, t4, t5, t6⟩, p5, p6, p7⟩ := id hs54; have t7 : msh M (54 + 7) = some (4, 0) := p5.2.1; have t10 : msh M (54 + 10) = some (4, 0) := p6.2.1; obtain ⟨hB, hW, hLw⟩ := id hR.1; obtain ⟨b1, b2, b3, b4, b5, b6, b7, b8, b9, b10, b11, b12, b13, b14, b15⟩ := id hB; obtain ⟨hn, hn2, hat, hAc⟩ := id hCA; obtain ⟨⟨hki, hhi⟩, hIm, ⟨htp, hsz, hsz2⟩, hfa⟩ := id hCR
  refine CS.mkQ (by decide) (Nat.le_of_ble_eq_true rfl) fun Q hQ => ?_
  refine x_iload_n dX1_alarm_0 rfl rfl ?_
  refine x_iconst dX1_alarm_1 rfl ?_
  refine x_bipush dX1_alarm_2 rfl ?_
  refine g_callI (vs := [_, _, _]) (d' := d - 1) rfl (s_X1_isIn (by omega)) dX1_alarm_4 kX1_104 (by omega) (by decide) rfl (Nat.le_of_ble_eq_true rfl) (rcv_n) (fun x4 M4 h4 => ?_)
  obtain ⟨e4, f4⟩ := h4
  have f4' := f4.symm
  subst f4'
  subst e4
  try simp (disch := omega) only [rdI_e, rdI_n, rdC_i, rdC_o, rdW, rdR, rdU_e, rdU_n, rdLW, Int.add_zero, b7]
  refine g_callNX (vs := [_]) (d' := d - 1) rfl (s_X1_must (by omega) (by first | omega | exact vP_r _)) dX1_alarm_7 kX1_116 (by omega) (by decide) rfl (Nat.le_of_ble_eq_true rfl) (rcv_n) (fun M7 h7 => ?_) (fun a7 E7 M7 h7 => ?_)
  · obtain ⟨q7, e7⟩ := h7
    subst e7
    try simp only [vP_0, vP_1, vP_n0, vP_n1, Classical.not_not] at q7
    refine x_aload_n dX1_alarm_10 rfl rfl ?_
    refine g_callN (vs := [_]) (d' := d - 1) rfl (s_X1_remembers (by omega) hC) dX1_alarm_11 kX1_323 (by omega) (by decide) rfl (Nat.le_of_ble_eq_true rfl) (rcv_o (by first | assumption | first | assumption | (simp (disch := omega) only [shI, shR, shL, shC, shD, shW, sh_V, shN_e, shN_n, crI, crL, crC, crW, crV, crR_e, crR_n, crN_e, crN_n, ciR, ciL, ciD, ciN_e, ciN_n, rdI_e, rdI_n, rdC_i, rdC_o, rdW, rdU_e, rdU_n, rdLW, clI, clR, clC, clD, clW, clV, clN_e, clN_n, clL_e, clL_n]; done) | (simp (disch := omega) only [shI, shR, shL, shC, shD, shW, sh_V, shN_e, shN_n, crI, crL, crC, crW, crV, crR_e, crR_n, crN_e, crN_n, ciR, ciL, ciD, ciN_e, ciN_n, rdI_e, rdI_n, rdC_i, rdC_o, rdW, rdU_e, rdU_n, rdLW, clI, clR, clC, clD, clW, clV, clN_e, clN_n, clL_e, clL_n] <;> first | assumption | rfl | omega)) rfl) (fun M11 h11 => ?_)
    obtain ⟨hC, hCr⟩ := h11
    obtain ⟨hC1, hC54, hCA, hCR⟩ := id hC; obtain ⟨hS, hTab, hTx, hLn, hSk, hnx⟩ := id hC1; obtain ⟨hA, hL, hR⟩ := id hC54; obtain ⟨⟨s0, s199, s200, s201, s202, s203⟩, ⟨c0, c1, c2, c3, c4, c5, c6, c7, c8, c9, c10, c11, c12⟩, c203, hSt, m189, m191, g193, g196, ⟨⟨r2, r3, r4, r5, r6, r7, r53⟩, ⟨w0, w1, w2, w3, w4, w5, w6⟩, wx1, wx2, wx3⟩⟩ := id hS; have hv := hA.1; have hv8 := hv.n8; have hv0 := hv.1.1; have hv3 := hv.2.2.2.1; have hs54 := hSt 54 (by unfold SB; omega); obtain ⟨p0, p1, ⟨d0, d1, d2, d3, d4, d5, d6, d7⟩, ⟨t1, t2, t3, t4, t5, t6⟩, p5, p6, p7⟩ := id hs54; have t7 : msh (M11) (54 + 7) = some (4, 0) := p5.2.1; have t10 : msh (M11) (54 + 10) = some (4, 0) := p6.2.1; obtain ⟨hB, hW, hLw⟩ := id hR.1; obtain ⟨b1, b2, b3, b4, b5, b6, b7, b8, b9, b10, b11, b12, b13, b14, b15⟩ := id hB; obtain ⟨hn, hn2, hat, hAc⟩ := id hCA; obtain ⟨⟨hki, hhi⟩, hIm, ⟨htp, hsz, hsz2⟩, hfa⟩ := id hCR
    refine x_aload_n dX1_alarm_14 rfl rfl ?_
    refine g_getR (kI := 1) rfl dX1_alarm_15 fX1_22_1 (by first | assumption | first | assumption | (simp (disch := omega) only [shI, shR, shL, shC, shD, shW, sh_V, shN_e, shN_n, crI, crL, crC, crW, crV, crR_e, crR_n, crN_e, crN_n, ciR, ciL, ciD, ciN_e, ciN_n, rdI_e, rdI_n, rdC_i, rdC_o, rdW, rdU_e, rdU_n, rdLW, clI, clR, clC, clD, clW, clV, clN_e, clN_n, clL_e, clL_n]; done) | (simp (disch := omega) only [shI, shR, shL, shC, shD, shW, sh_V, shN_e, shN_n, crI, crL, crC, crW, crV, crR_e, crR_n, crN_e, crN_n, ciR, ciL, ciD, ciN_e, ciN_n, rdI_e, rdI_n, rdC_i, rdC_o, rdW, rdU_e, rdU_n, rdLW, clI, clR, clC, clD, clW, clV, clN_e, clN_n, clL_e, clL_n] <;> first | assumption | rfl | omega)) (by first | assumption | first | assumption | (simp (disch := omega) only [shI, shR, shL, shC, shD, shW, sh_V, shN_e, shN_n, crI, crL, crC, crW, crV, crR_e, crR_n, crN_e, crN_n, ciR, ciL, ciD, ciN_e, ciN_n, rdI_e, rdI_n, rdC_i, rdC_o, rdW, rdU_e, rdU_n, rdLW, clI, clR, clC, clD, clW, clV, clN_e, clN_n, clL_e, clL_n]; done) | (simp (disch := omega) only [shI, shR, shL, shC, shD, shW, sh_V, shN_e, shN_n, crI, crL, crC, crW, crV, crR_e, crR_n, crN_e, crN_n, ciR, ciL, ciD, ciN_e, ciN_n, rdI_e, rdI_n, rdC_i, rdC_o, rdW, rdU_e, rdU_n, rdLW, clI, clR, clC, clD, clW, clV, clN_e, clN_n, clL_e, clL_n] <;> first | assumption | rfl | omega)) ?_
    refine g_getI (kI := 15) rfl dX1_alarm_18 fX1_347_3 (by first | assumption | first | assumption | (simp (disch := omega) only [shI, shR, shL, shC, shD, shW, sh_V, shN_e, shN_n, crI, crL, crC, crW, crV, crR_e, crR_n, crN_e, crN_n, ciR, ciL, ciD, ciN_e, ciN_n, rdI_e, rdI_n, rdC_i, rdC_o, rdW, rdU_e, rdU_n, rdLW, clI, clR, clC, clD, clW, clV, clN_e, clN_n, clL_e, clL_n]; done) | (simp (disch := omega) only [shI, shR, shL, shC, shD, shW, sh_V, shN_e, shN_n, crI, crL, crC, crW, crV, crR_e, crR_n, crN_e, crN_n, ciR, ciL, ciD, ciN_e, ciN_n, rdI_e, rdI_n, rdC_i, rdC_o, rdW, rdU_e, rdU_n, rdLW, clI, clR, clC, clD, clW, clV, clN_e, clN_n, clL_e, clL_n] <;> first | assumption | rfl | omega)) ?_
    try simp (disch := omega) only [rdI_e, rdI_n, rdC_i, rdC_o, rdW, rdR, rdU_e, rdU_n, rdLW, Int.add_zero, b7]
    refine x_istore_n (L' := [some _, some _, some _]) dX1_alarm_21 rfl (by decide) rfl ?_
    refine x_aload_n dX1_alarm_22 rfl rfl ?_
    refine g_getR (kI := 1) rfl dX1_alarm_23 fX1_22_1 (by first | assumption | first | assumption | (simp (disch := omega) only [shI, shR, shL, shC, shD, shW, sh_V, shN_e, shN_n, crI, crL, crC, crW, crV, crR_e, crR_n, crN_e, crN_n, ciR, ciL, ciD, ciN_e, ciN_n, rdI_e, rdI_n, rdC_i, rdC_o, rdW, rdU_e, rdU_n, rdLW, clI, clR, clC, clD, clW, clV, clN_e, clN_n, clL_e, clL_n]; done) | (simp (disch := omega) only [shI, shR, shL, shC, shD, shW, sh_V, shN_e, shN_n, crI, crL, crC, crW, crV, crR_e, crR_n, crN_e, crN_n, ciR, ciL, ciD, ciN_e, ciN_n, rdI_e, rdI_n, rdC_i, rdC_o, rdW, rdU_e, rdU_n, rdLW, clI, clR, clC, clD, clW, clV, clN_e, clN_n, clL_e, clL_n] <;> first | assumption | rfl | omega)) (by first | assumption | first | assumption | (simp (disch := omega) only [shI, shR, shL, shC, shD, shW, sh_V, shN_e, shN_n, crI, crL, crC, crW, crV, crR_e, crR_n, crN_e, crN_n, ciR, ciL, ciD, ciN_e, ciN_n, rdI_e, rdI_n, rdC_i, rdC_o, rdW, rdU_e, rdU_n, rdLW, clI, clR, clC, clD, clW, clV, clN_e, clN_n, clL_e, clL_n]; done) | (simp (disch := omega) only [shI, shR, shL, shC, shD, shW, sh_V, shN_e, shN_n, crI, crL, crC, crW, crV, crR_e, crR_n, crN_e, crN_n, ciR, ciL, ciD, ciN_e, ciN_n, rdI_e, rdI_n, rdC_i, rdC_o, rdW, rdU_e, rdU_n, rdLW, clI, clR, clC, clD, clW, clV, clN_e, clN_n, clL_e, clL_n] <;> first | assumption | rfl | omega)) ?_
    refine x_iload_n dX1_alarm_26 rfl rfl ?_
    refine g_putI (kI := 15) rfl dX1_alarm_27 fX1_347_3 (by first | assumption | first | assumption | (simp (disch := omega) only [shI, shR, shL, shC, shD, shW, sh_V, shN_e, shN_n, crI, crL, crC, crW, crV, crR_e, crR_n, crN_e, crN_n, ciR, ciL, ciD, ciN_e, ciN_n, rdI_e, rdI_n, rdC_i, rdC_o, rdW, rdU_e, rdU_n, rdLW, clI, clR, clC, clD, clW, clV, clN_e, clN_n, clL_e, clL_n]; done) | (simp (disch := omega) only [shI, shR, shL, shC, shD, shW, sh_V, shN_e, shN_n, crI, crL, crC, crW, crV, crR_e, crR_n, crN_e, crN_n, ciR, ciL, ciD, ciN_e, ciN_n, rdI_e, rdI_n, rdC_i, rdC_o, rdW, rdU_e, rdU_n, rdLW, clI, clR, clC, clD, clW, clV, clN_e, clN_n, clL_e, clL_n] <;> first | assumption | rfl | omega)) ?_
    refine x_aload_n dX1_alarm_30 rfl rfl ?_
    refine g_callN (vs := [_]) (d' := d - 1) rfl (tune_ok (i := 7) (x := k) (q := 0) (by omega) hC ChO.alm (Or.inl (by decide)) (okB_alm hv q7)) dX1_alarm_31 kX1_330 (by omega) (by decide) rfl (Nat.le_of_ble_eq_true rfl) (rcv_o (by first | assumption | first | assumption | (simp (disch := omega) only [shI, shR, shL, shC, shD, shW, sh_V, shN_e, shN_n, crI, crL, crC, crW, crV, crR_e, crR_n, crN_e, crN_n, ciR, ciL, ciD, ciN_e, ciN_n, rdI_e, rdI_n, rdC_i, rdC_o, rdW, rdU_e, rdU_n, rdLW, clI, clR, clC, clD, clW, clV, clN_e, clN_n, clL_e, clL_n]; done) | (simp (disch := omega) only [shI, shR, shL, shC, shD, shW, sh_V, shN_e, shN_n, crI, crL, crC, crW, crV, crR_e, crR_n, crN_e, crN_n, ciR, ciL, ciD, ciN_e, ciN_n, rdI_e, rdI_n, rdC_i, rdC_o, rdW, rdU_e, rdU_n, rdLW, clI, clR, clC, clD, clW, clV, clN_e, clN_n, clL_e, clL_n] <;> first | assumption | rfl | omega)) rfl) (fun M31 h31 => ?_)
    refine x_iload_n dX1_alarm_34 rfl rfl ?_
    refine x_ireturn rfl dX1_alarm_35 ?_
    exact hQ _ _ (Or.inl ⟨_, rfl, q7, rfl, CO.tr hCr h31⟩)
  · obtain ⟨q7, eE7, eM7⟩ := h7
    subst eE7
    subst eM7
    rw [vP_0] at q7
    exact th_nil rfl (hQ _ _ (Or.inr ⟨_, _, rfl, CO.xx hC, q7, rfl⟩))
theorem s_X1_shift (hd : 20 ≤ d) (hC : CI M v n A hi vi tp sz fa N) : CS G d mX1_shift [dR 0, dI k] M (orT (postI fun y M1 => (0 ≤ k ∧ k ≤ 3) ∧ y = v 5 / 2 ∧ CO M (bootV (us v 5 (2 * k))) (remN n) (remA A n v) hi vi tp sz fa N 0 0 M1) (fun a E M1 => CO M v n A hi vi tp sz fa N 1 6 M1 ∧ ¬ (0 ≤ k ∧ k ≤ 3) ∧ E = "java/lang/IllegalArgumentException")) := by
  obtain ⟨hC1, hC54, hCA, hCR⟩ := id hC; obtain ⟨hS, hTab, hTx, hLn, hSk, hnx⟩ := id hC1; obtain ⟨hA, hL, hR⟩ := id hC54; obtain ⟨⟨s0, s199, s200, s201, s202, s203⟩, ⟨c0, c1, c2, c3, c4, c5, c6, c7, c8, c9, c10, c11, c12⟩, c203, hSt, m189, m191, g193, g196, ⟨⟨r2, r3, r4, r5, r6, r7, r53⟩, ⟨w0, w1, w2, w3, w4, w5, w6⟩, wx1, wx2, wx3⟩⟩ := id hS; have hv := hA.1; have hv8 := hv.n8; have hv0 := hv.1.1; have hv3 := hv.2.2.2.1; have hs54 := hSt 54 (by unfold SB; omega); obtain ⟨p0, p1, ⟨d0, d1, d2, d3, d4, d5, d6, d7⟩, ⟨t1, t2, t3, t4, t5, t6⟩, p5, p6, p7⟩ := id hs54; have t7 : msh M (54 + 7) = some (4, 0) := p5.2.1; have t10 : msh M (54 + 10) = some (4, 0) := p6.2.1; obtain ⟨hB, hW, hLw⟩ := id hR.1; obtain ⟨b1, b2, b3, b4, b5, b6, b7, b8, b9, b10, b11, b12, b13, b14, b15⟩ := id hB; obtain ⟨hn, hn2, hat, hAc⟩ := id hCA; obtain ⟨⟨hki, hhi⟩, hIm, ⟨htp, hsz, hsz2⟩, hfa⟩ := id hCR
  refine CS.mkQ (by decide) (Nat.le_of_ble_eq_true rfl) fun Q hQ => ?_
  refine x_iload_n dX1_shift_0 rfl rfl ?_
  refine x_iconst dX1_shift_1 rfl ?_
  refine x_iconst dX1_shift_2 rfl ?_
  refine g_callI (vs := [_, _, _]) (d' := d - 1) rfl (s_X1_isIn (by omega)) dX1_shift_3 kX1_104 (by omega) (by decide) rfl (Nat.le_of_ble_eq_true rfl) (rcv_n) (fun x3 M3 h3 => ?_)
  obtain ⟨e3, f3⟩ := h3
  have f3' := f3.symm
  subst f3'
  subst e3
  try simp (disch := omega) only [rdI_e, rdI_n, rdC_i, rdC_o, rdW, rdR, rdU_e, rdU_n, rdLW, Int.add_zero]
  refine g_callNX (vs := [_]) (d' := d - 1) rfl (s_X1_must (by omega) (by first | omega | exact vP_r _)) dX1_shift_6 kX1_116 (by omega) (by decide) rfl (Nat.le_of_ble_eq_true rfl) (rcv_n) (fun M6 h6 => ?_) (fun a6 E6 M6 h6 => ?_)
  · obtain ⟨q6, e6⟩ := h6
    subst e6
    try simp only [vP_0, vP_1, vP_n0, vP_n1, Classical.not_not] at q6
    refine x_aload_n dX1_shift_9 rfl rfl ?_
    refine g_callN (vs := [_]) (d' := d - 1) rfl (s_X1_remembers (by omega) hC) dX1_shift_10 kX1_323 (by omega) (by decide) rfl (Nat.le_of_ble_eq_true rfl) (rcv_o (by first | assumption | first | assumption | (simp (disch := omega) only [shI, shR, shL, shC, shD, shW, sh_V, shN_e, shN_n, crI, crL, crC, crW, crV, crR_e, crR_n, crN_e, crN_n, ciR, ciL, ciD, ciN_e, ciN_n, rdI_e, rdI_n, rdC_i, rdC_o, rdW, rdU_e, rdU_n, rdLW, clI, clR, clC, clD, clW, clV, clN_e, clN_n, clL_e, clL_n]; done) | (simp (disch := omega) only [shI, shR, shL, shC, shD, shW, sh_V, shN_e, shN_n, crI, crL, crC, crW, crV, crR_e, crR_n, crN_e, crN_n, ciR, ciL, ciD, ciN_e, ciN_n, rdI_e, rdI_n, rdC_i, rdC_o, rdW, rdU_e, rdU_n, rdLW, clI, clR, clC, clD, clW, clV, clN_e, clN_n, clL_e, clL_n] <;> first | assumption | rfl | omega)) rfl) (fun M10 h10 => ?_)
    obtain ⟨hC, hCr⟩ := h10
    obtain ⟨hC1, hC54, hCA, hCR⟩ := id hC; obtain ⟨hS, hTab, hTx, hLn, hSk, hnx⟩ := id hC1; obtain ⟨hA, hL, hR⟩ := id hC54; obtain ⟨⟨s0, s199, s200, s201, s202, s203⟩, ⟨c0, c1, c2, c3, c4, c5, c6, c7, c8, c9, c10, c11, c12⟩, c203, hSt, m189, m191, g193, g196, ⟨⟨r2, r3, r4, r5, r6, r7, r53⟩, ⟨w0, w1, w2, w3, w4, w5, w6⟩, wx1, wx2, wx3⟩⟩ := id hS; have hv := hA.1; have hv8 := hv.n8; have hv0 := hv.1.1; have hv3 := hv.2.2.2.1; have hs54 := hSt 54 (by unfold SB; omega); obtain ⟨p0, p1, ⟨d0, d1, d2, d3, d4, d5, d6, d7⟩, ⟨t1, t2, t3, t4, t5, t6⟩, p5, p6, p7⟩ := id hs54; have t7 : msh (M10) (54 + 7) = some (4, 0) := p5.2.1; have t10 : msh (M10) (54 + 10) = some (4, 0) := p6.2.1; obtain ⟨hB, hW, hLw⟩ := id hR.1; obtain ⟨b1, b2, b3, b4, b5, b6, b7, b8, b9, b10, b11, b12, b13, b14, b15⟩ := id hB; obtain ⟨hn, hn2, hat, hAc⟩ := id hCA; obtain ⟨⟨hki, hhi⟩, hIm, ⟨htp, hsz, hsz2⟩, hfa⟩ := id hCR
    refine x_aload_n dX1_shift_13 rfl rfl ?_
    refine g_getR (kI := 1) rfl dX1_shift_14 fX1_22_1 (by first | assumption | first | assumption | (simp (disch := omega) only [shI, shR, shL, shC, shD, shW, sh_V, shN_e, shN_n, crI, crL, crC, crW, crV, crR_e, crR_n, crN_e, crN_n, ciR, ciL, ciD, ciN_e, ciN_n, rdI_e, rdI_n, rdC_i, rdC_o, rdW, rdU_e, rdU_n, rdLW, clI, clR, clC, clD, clW, clV, clN_e, clN_n, clL_e, clL_n]; done) | (simp (disch := omega) only [shI, shR, shL, shC, shD, shW, sh_V, shN_e, shN_n, crI, crL, crC, crW, crV, crR_e, crR_n, crN_e, crN_n, ciR, ciL, ciD, ciN_e, ciN_n, rdI_e, rdI_n, rdC_i, rdC_o, rdW, rdU_e, rdU_n, rdLW, clI, clR, clC, clD, clW, clV, clN_e, clN_n, clL_e, clL_n] <;> first | assumption | rfl | omega)) (by first | assumption | first | assumption | (simp (disch := omega) only [shI, shR, shL, shC, shD, shW, sh_V, shN_e, shN_n, crI, crL, crC, crW, crV, crR_e, crR_n, crN_e, crN_n, ciR, ciL, ciD, ciN_e, ciN_n, rdI_e, rdI_n, rdC_i, rdC_o, rdW, rdU_e, rdU_n, rdLW, clI, clR, clC, clD, clW, clV, clN_e, clN_n, clL_e, clL_n]; done) | (simp (disch := omega) only [shI, shR, shL, shC, shD, shW, sh_V, shN_e, shN_n, crI, crL, crC, crW, crV, crR_e, crR_n, crN_e, crN_n, ciR, ciL, ciD, ciN_e, ciN_n, rdI_e, rdI_n, rdC_i, rdC_o, rdW, rdU_e, rdU_n, rdLW, clI, clR, clC, clD, clW, clV, clN_e, clN_n, clL_e, clL_n] <;> first | assumption | rfl | omega)) ?_
    refine g_getI (kI := 13) rfl dX1_shift_17 fX1_341_3 (by first | assumption | first | assumption | (simp (disch := omega) only [shI, shR, shL, shC, shD, shW, sh_V, shN_e, shN_n, crI, crL, crC, crW, crV, crR_e, crR_n, crN_e, crN_n, ciR, ciL, ciD, ciN_e, ciN_n, rdI_e, rdI_n, rdC_i, rdC_o, rdW, rdU_e, rdU_n, rdLW, clI, clR, clC, clD, clW, clV, clN_e, clN_n, clL_e, clL_n]; done) | (simp (disch := omega) only [shI, shR, shL, shC, shD, shW, sh_V, shN_e, shN_n, crI, crL, crC, crW, crV, crR_e, crR_n, crN_e, crN_n, ciR, ciL, ciD, ciN_e, ciN_n, rdI_e, rdI_n, rdC_i, rdC_o, rdW, rdU_e, rdU_n, rdLW, clI, clR, clC, clD, clW, clV, clN_e, clN_n, clL_e, clL_n] <;> first | assumption | rfl | omega)) ?_
    try simp (disch := omega) only [rdI_e, rdI_n, rdC_i, rdC_o, rdW, rdR, rdU_e, rdU_n, rdLW, Int.add_zero]
    refine x_istore_n (L' := [some _, some _, some _]) dX1_shift_20 rfl (by decide) rfl ?_
    refine x_aload_n dX1_shift_21 rfl rfl ?_
    refine g_getR (kI := 1) rfl dX1_shift_22 fX1_22_1 (by first | assumption | first | assumption | (simp (disch := omega) only [shI, shR, shL, shC, shD, shW, sh_V, shN_e, shN_n, crI, crL, crC, crW, crV, crR_e, crR_n, crN_e, crN_n, ciR, ciL, ciD, ciN_e, ciN_n, rdI_e, rdI_n, rdC_i, rdC_o, rdW, rdU_e, rdU_n, rdLW, clI, clR, clC, clD, clW, clV, clN_e, clN_n, clL_e, clL_n]; done) | (simp (disch := omega) only [shI, shR, shL, shC, shD, shW, sh_V, shN_e, shN_n, crI, crL, crC, crW, crV, crR_e, crR_n, crN_e, crN_n, ciR, ciL, ciD, ciN_e, ciN_n, rdI_e, rdI_n, rdC_i, rdC_o, rdW, rdU_e, rdU_n, rdLW, clI, clR, clC, clD, clW, clV, clN_e, clN_n, clL_e, clL_n] <;> first | assumption | rfl | omega)) (by first | assumption | first | assumption | (simp (disch := omega) only [shI, shR, shL, shC, shD, shW, sh_V, shN_e, shN_n, crI, crL, crC, crW, crV, crR_e, crR_n, crN_e, crN_n, ciR, ciL, ciD, ciN_e, ciN_n, rdI_e, rdI_n, rdC_i, rdC_o, rdW, rdU_e, rdU_n, rdLW, clI, clR, clC, clD, clW, clV, clN_e, clN_n, clL_e, clL_n]; done) | (simp (disch := omega) only [shI, shR, shL, shC, shD, shW, sh_V, shN_e, shN_n, crI, crL, crC, crW, crV, crR_e, crR_n, crN_e, crN_n, ciR, ciL, ciD, ciN_e, ciN_n, rdI_e, rdI_n, rdC_i, rdC_o, rdW, rdU_e, rdU_n, rdLW, clI, clR, clC, clD, clW, clV, clN_e, clN_n, clL_e, clL_n] <;> first | assumption | rfl | omega)) ?_
    refine x_iload_n dX1_shift_25 rfl rfl ?_
    refine g_putI (kI := 13) rfl dX1_shift_26 fX1_341_3 (by first | assumption | first | assumption | (simp (disch := omega) only [shI, shR, shL, shC, shD, shW, sh_V, shN_e, shN_n, crI, crL, crC, crW, crV, crR_e, crR_n, crN_e, crN_n, ciR, ciL, ciD, ciN_e, ciN_n, rdI_e, rdI_n, rdC_i, rdC_o, rdW, rdU_e, rdU_n, rdLW, clI, clR, clC, clD, clW, clV, clN_e, clN_n, clL_e, clL_n]; done) | (simp (disch := omega) only [shI, shR, shL, shC, shD, shW, sh_V, shN_e, shN_n, crI, crL, crC, crW, crV, crR_e, crR_n, crN_e, crN_n, ciR, ciL, ciD, ciN_e, ciN_n, rdI_e, rdI_n, rdC_i, rdC_o, rdW, rdU_e, rdU_n, rdLW, clI, clR, clC, clD, clW, clV, clN_e, clN_n, clL_e, clL_n] <;> first | assumption | rfl | omega)) ?_
    refine x_aload_n dX1_shift_29 rfl rfl ?_
    refine g_callN (vs := [_]) (d' := d - 1) rfl (tune_ok (i := 5) (x := 2 * k) (q := 0) (by omega) hC ChO.shf (Or.inl (by decide)) (okB_shf hv q6)) dX1_shift_30 kX1_330 (by omega) (by decide) rfl (Nat.le_of_ble_eq_true rfl) (rcv_o (by first | assumption | first | assumption | (simp (disch := omega) only [shI, shR, shL, shC, shD, shW, sh_V, shN_e, shN_n, crI, crL, crC, crW, crV, crR_e, crR_n, crN_e, crN_n, ciR, ciL, ciD, ciN_e, ciN_n, rdI_e, rdI_n, rdC_i, rdC_o, rdW, rdU_e, rdU_n, rdLW, clI, clR, clC, clD, clW, clV, clN_e, clN_n, clL_e, clL_n]; done) | (simp (disch := omega) only [shI, shR, shL, shC, shD, shW, sh_V, shN_e, shN_n, crI, crL, crC, crW, crV, crR_e, crR_n, crN_e, crN_n, ciR, ciL, ciD, ciN_e, ciN_n, rdI_e, rdI_n, rdC_i, rdC_o, rdW, rdU_e, rdU_n, rdLW, clI, clR, clC, clD, clW, clV, clN_e, clN_n, clL_e, clL_n] <;> first | assumption | rfl | omega)) rfl) (fun M30 h30 => ?_)
    refine x_iload_n dX1_shift_33 rfl rfl ?_
    refine x_ireturn rfl dX1_shift_34 ?_
    exact hQ _ _ (Or.inl ⟨_, rfl, q6, by omega, CO.tr hCr h30⟩)
  · obtain ⟨q6, eE6, eM6⟩ := h6
    subst eE6
    subst eM6
    rw [vP_0] at q6
    exact th_nil rfl (hQ _ _ (Or.inr ⟨_, _, rfl, CO.xx hC, q6, rfl⟩))
/-- an operation is laid into the program, all is booted -/
theorem put_ok (hd : 13 ≤ d) (hC : CI M v n A hi vi tp sz fa N) (hk : 0 ≤ k ∧ k ≤ v 3 ∧ k ≤ 9) (ho : 0 ≤ op ∧ op < v 0) : CS G d mX1_reboots [dR 0] (mI (mI M (54 + 5) k op) 54 9 (if k = v 3 then v 3 + 1 else v 3)) (postN fun M1 => CO M (us (bootV (us v (12 + k) op)) 3 (if k = v 3 then v 3 + 1 else v 3)) n A hi vi tp sz fa N 0 0 M1) := by
  obtain ⟨hC1, hC54, hCA, hCR⟩ := id hC
  obtain ⟨hS, hTab, hTx, hLn, hSk, hnx⟩ := id hC1
  obtain ⟨hA, hL, hR⟩ := id hC54
  have hv := hA.1
  have h8 := hv.n8
  have hv3 := hv.2.2.2.1
  generalize hx : (if k = v 3 then v 3 + 1 else v 3) = x
  have hx2 : x = v 3 ∧ k < v 3 ∨ x = v 3 + 1 ∧ k = v 3 := by split at hx <;> omega
  have hc1 : ChO 54 (54 + 5) k (12 + k) op op 0 v := ChO.prg (by omega)
  have hv1 : okB (us v (12 + k) op) := okB_pgm hv (by omega) ho
  have hL1 : lawOK (us v (12 + k) op) := hL.lo (us_n (by omega)) fun k a b => us_n (by omega)
  have hc2 : ChO 54 54 9 3 x x 0 (us v (12 + k) op) := ChO.mny
  have hv2 : okB (us (us v (12 + k) op) 3 x) := by
    have e : ∀ j, ¬ j = 3 → us (us v (12 + k) op) 3 x j = us v (12 + k) op j := fun j q => us_n q
    have e3 : us (us v (12 + k) op) 3 x 3 = x := us_e rfl
    have e0 : us (us v (12 + k) op) 3 x 0 = v 0 := (us_n (by omega)).trans (us_n (by omega))
    have hv8 := hv1.n8
    obtain ⟨h1, h2, h3, h4, h5, h6, h7, h8, h9, h10, h11, h12, h13, h14⟩ := hv1
    refine ⟨by rw [e 0 (by omega)]; exact h1, by rw [e 1 (by omega)]; exact h2, by rw [e 2 (by omega)]; exact h3, by rw [e3]; omega, by rw [e 4 (by omega)]; exact h5, by rw [e 5 (by omega)]; exact h6, by rw [e 6 (by omega)]; exact h7, by rw [e 7 (by omega)]; exact h8, by rw [e 8 (by omega)]; exact h9, by rw [e 9 (by omega)]; exact h10, by rw [e 10 (by omega)]; exact h11, fun j a b => ?_, fun j a b => ?_, fun j a b => ?_⟩
    · rw [e3] at b
      rw [e0, e _ (by omega)]
      by_cases q : j = k
      · rw [us_e (by omega)]; exact ho
      · rw [us_n (by omega)]
        exact hv.pr j a (by omega)
    · rw [e _ (by omega)]; exact h13 j a b
    · rw [e 0 (by omega)] at b
      obtain ⟨k1, k2, k3, k4⟩ := h14 j a b
      have eN : opN (us (us v (12 + k) op) 3 x) j = opN (us v (12 + k) op) j := us_n (by omega)
      refine ⟨by rw [eN]; exact k1, by rw [show opG (us (us v (12 + k) op) 3 x) j = opG (us v (12 + k) op) j from us_n (by omega)]; exact k2, by rw [show opP (us (us v (12 + k) op) 3 x) j = opP (us v (12 + k) op) j from us_n (by omega)]; exact k3, fun i c1 c2 => ?_⟩
      rw [eN] at c2
      rw [show opK (us (us v (12 + k) op) 3 x) j i = opK (us v (12 + k) op) j i from us_n (by omega), show opX (us (us v (12 + k) op) 3 x) j i = opX (us v (12 + k) op) j i from us_n (by omega)]
      exact k4 i c1 c2
  have hR1 := hR.1.ch hv hL hc1 (Or.inl (by omega)) (by omega)
  have hRS : RelS (msh (mI (mI M (54 + 5) k op) 54 9 x)) (mci (mI (mI M (54 + 5) k op) 54 9 x)) (mcr (mI (mI M (54 + 5) k op) 54 9 x)) 761 (mnx M) 54 (us (us v (12 + k) op) 3 x) N := hR1.ch hv1 hL1 hc2 (Or.inl (by omega)) (by omega)
  have hsk : b01 (mci (mI (mI M (54 + 5) k op) 54 9 x) (54 + 7 + 1) 6) ∧ b01 (mci (mI (mI M (54 + 5) k op) 54 9 x) (54 + 10 + 1) 6) := by
    rw [rdI_n (by omega), rdI_n (by omega), rdI_n (by omega), rdI_n (by omega)]
    exact ⟨hR.2.1.2.2.1, hR.2.2.2.2.1⟩
  have eb : us (bootV (us v (12 + k) op)) 3 x = bootV (us (us v (12 + k) op) 3 x) := bootV_us (by omega) (by omega)
  rw [eb]
  refine (s_X1_reboots (M := mI (mI M (54 + 5) k op) 54 9 x) hd hS hRS hv2 hsk).mono fun r M1 z => ?_
  obtain ⟨e1, g, e2, hRA, hF⟩ := z
  subst e2
  have hg : ∀ b' k', ¬ (54 ≤ b' ∧ b' ≤ 98) → g b' k' = mci M b' k' := fun b' k' z => (hF b' k' (by omega)).trans ((rdI_n (by omega)).trans (rdI_n (by omega)))
  have hlo : ∀ j, 128 ≤ j → bootV (us (us v (12 + k) op) 3 x) j = v j := fun j q => (bootV_eqB j (by omega)).trans ((us_n (by omega)).trans (us_n (by omega)))
  have hx := hC.now (g := g) (v' := bootV (us (us v (12 + k) op) 3 x)) (N' := N) (fun b k q1 q2 => hg b k q1) ⟨by rw [hg _ _ (by omega)]; exact hSk.2.1, by rw [hg _ _ (by omega)]; exact hSk.2.2.1, by rw [hg _ _ (by omega)]; exact hSk.2.2.2.1, by rw [hg _ _ (by omega)]; exact hSk.2.2.2.2⟩ ⟨bootV_ok hv2, hL.lo ((bootV_eqB 2 (by omega)).trans ((us_n (by omega)).trans (us_n (by omega)))) (fun j a b => hlo j (by omega)), hRA⟩ (Int.le_refl _) (fun j a b => hlo j (by omega))
  exact ⟨e1, hx⟩
theorem s_X1_store (hd : 20 ≤ d) (hC : CI M v n A hi vi tp sz fa N) : CS G d mX1_store [dR 0, dI k, dI x] M (orT (postI fun y M1 => ((0 ≤ k ∧ k ≤ 7) ∧ 0 ≤ x ∧ x ≤ 3) ∧ y = v (22 + k) ∧ CO M (bootV (us v (22 + k) x)) (remN n) (remA A n v) hi vi tp sz fa N 0 0 M1) (fun a E M1 => CO M v n A hi vi tp sz fa N 1 6 M1 ∧ ((¬ (0 ≤ k ∧ k ≤ 7) ∧ E = "java/lang/IndexOutOfBoundsException") ∨ ((0 ≤ k ∧ k ≤ 7) ∧ ¬ (0 ≤ x ∧ x ≤ 3) ∧ E = "java/lang/IllegalArgumentException")))) := by
  obtain ⟨hC1, hC54, hCA, hCR⟩ := id hC; obtain ⟨hS, hTab, hTx, hLn, hSk, hnx⟩ := id hC1; obtain ⟨hA, hL, hR⟩ := id hC54; obtain ⟨⟨s0, s199, s200, s201, s202, s203⟩, ⟨c0, c1, c2, c3, c4, c5, c6, c7, c8, c9, c10, c11, c12⟩, c203, hSt, m189, m191, g193, g196, ⟨⟨r2, r3, r4, r5, r6, r7, r53⟩, ⟨w0, w1, w2, w3, w4, w5, w6⟩, wx1, wx2, wx3⟩⟩ := id hS; have hv := hA.1; have hv8 := hv.n8; have hv0 := hv.1.1; have hv3 := hv.2.2.2.1; have hs54 := hSt 54 (by unfold SB; omega); obtain ⟨p0, p1, ⟨d0, d1, d2, d3, d4, d5, d6, d7⟩, ⟨t1, t2, t3, t4, t5, t6⟩, p5, p6, p7⟩ := id hs54; have t7 : msh M (54 + 7) = some (4, 0) := p5.2.1; have t10 : msh M (54 + 10) = some (4, 0) := p6.2.1; obtain ⟨hB, hW, hLw⟩ := id hR.1; obtain ⟨b1, b2, b3, b4, b5, b6, b7, b8, b9, b10, b11, b12, b13, b14, b15⟩ := id hB; obtain ⟨hn, hn2, hat, hAc⟩ := id hCA; obtain ⟨⟨hki, hhi⟩, hIm, ⟨htp, hsz, hsz2⟩, hfa⟩ := id hCR
  refine CS.mkQ (by decide) (Nat.le_of_ble_eq_true rfl) fun Q hQ => ?_
  refine x_iload_n dX1_store_0 rfl rfl ?_
  refine g_callNX (vs := [_]) (d' := d - 1) rfl (s_X1_isCell (by omega)) dX1_store_1 kX1_294 (by omega) (by decide) rfl (Nat.le_of_ble_eq_true rfl) (rcv_n) (fun M1 h1 => ?_) (fun a1 E1 M1 h1 => ?_)
  · obtain ⟨q1, e1⟩ := h1
    subst e1
    refine x_iload_n dX1_store_4 rfl rfl ?_
    refine x_iconst dX1_store_5 rfl ?_
    refine x_iconst dX1_store_6 rfl ?_
    refine g_callI (vs := [_, _, _]) (d' := d - 1) rfl (s_X1_isIn (by omega)) dX1_store_7 kX1_104 (by omega) (by decide) rfl (Nat.le_of_ble_eq_true rfl) (rcv_n) (fun x7 M7 h7 => ?_)
    obtain ⟨e7, f7⟩ := h7
    have f7' := f7.symm
    subst f7'
    subst e7
    refine g_callNX (vs := [_]) (d' := d - 1) rfl (s_X1_must (by omega) (by first | omega | exact vP_r _)) dX1_store_10 kX1_116 (by omega) (by decide) rfl (Nat.le_of_ble_eq_true rfl) (rcv_n) (fun M10 h10 => ?_) (fun a10 E10 M10 h10 => ?_)
    · obtain ⟨q10, e10⟩ := h10
      subst e10
      try simp only [vP_0, vP_1, vP_n0, vP_n1, Classical.not_not] at q10
      refine x_aload_n dX1_store_13 rfl rfl ?_
      refine g_callN (vs := [_]) (d' := d - 1) rfl (s_X1_remembers (by omega) hC) dX1_store_14 kX1_323 (by omega) (by decide) rfl (Nat.le_of_ble_eq_true rfl) (rcv_o (by first | assumption | first | assumption | (simp (disch := omega) only [shI, shR, shL, shC, shD, shW, sh_V, shN_e, shN_n, crI, crL, crC, crW, crV, crR_e, crR_n, crN_e, crN_n, ciR, ciL, ciD, ciN_e, ciN_n, rdI_e, rdI_n, rdC_i, rdC_o, rdW, rdU_e, rdU_n, rdLW, clI, clR, clC, clD, clW, clV, clN_e, clN_n, clL_e, clL_n]; done) | (simp (disch := omega) only [shI, shR, shL, shC, shD, shW, sh_V, shN_e, shN_n, crI, crL, crC, crW, crV, crR_e, crR_n, crN_e, crN_n, ciR, ciL, ciD, ciN_e, ciN_n, rdI_e, rdI_n, rdC_i, rdC_o, rdW, rdU_e, rdU_n, rdLW, clI, clR, clC, clD, clW, clV, clN_e, clN_n, clL_e, clL_n] <;> first | assumption | rfl | omega)) rfl) (fun M14 h14 => ?_)
      obtain ⟨hC, hCr⟩ := h14
      obtain ⟨hC1, hC54, hCA, hCR⟩ := id hC; obtain ⟨hS, hTab, hTx, hLn, hSk, hnx⟩ := id hC1; obtain ⟨hA, hL, hR⟩ := id hC54; obtain ⟨⟨s0, s199, s200, s201, s202, s203⟩, ⟨c0, c1, c2, c3, c4, c5, c6, c7, c8, c9, c10, c11, c12⟩, c203, hSt, m189, m191, g193, g196, ⟨⟨r2, r3, r4, r5, r6, r7, r53⟩, ⟨w0, w1, w2, w3, w4, w5, w6⟩, wx1, wx2, wx3⟩⟩ := id hS; have hv := hA.1; have hv8 := hv.n8; have hv0 := hv.1.1; have hv3 := hv.2.2.2.1; have hs54 := hSt 54 (by unfold SB; omega); obtain ⟨p0, p1, ⟨d0, d1, d2, d3, d4, d5, d6, d7⟩, ⟨t1, t2, t3, t4, t5, t6⟩, p5, p6, p7⟩ := id hs54; have t7 : msh (M14) (54 + 7) = some (4, 0) := p5.2.1; have t10 : msh (M14) (54 + 10) = some (4, 0) := p6.2.1; obtain ⟨hB, hW, hLw⟩ := id hR.1; obtain ⟨b1, b2, b3, b4, b5, b6, b7, b8, b9, b10, b11, b12, b13, b14, b15⟩ := id hB; obtain ⟨hn, hn2, hat, hAc⟩ := id hCA; obtain ⟨⟨hki, hhi⟩, hIm, ⟨htp, hsz, hsz2⟩, hfa⟩ := id hCR
      refine x_aload_n dX1_store_17 rfl rfl ?_
      refine g_getR (kI := 1) rfl dX1_store_18 fX1_22_1 (by first | assumption | first | assumption | (simp (disch := omega) only [shI, shR, shL, shC, shD, shW, sh_V, shN_e, shN_n, crI, crL, crC, crW, crV, crR_e, crR_n, crN_e, crN_n, ciR, ciL, ciD, ciN_e, ciN_n, rdI_e, rdI_n, rdC_i, rdC_o, rdW, rdU_e, rdU_n, rdLW, clI, clR, clC, clD, clW, clV, clN_e, clN_n, clL_e, clL_n]; done) | (simp (disch := omega) only [shI, shR, shL, shC, shD, shW, sh_V, shN_e, shN_n, crI, crL, crC, crW, crV, crR_e, crR_n, crN_e, crN_n, ciR, ciL, ciD, ciN_e, ciN_n, rdI_e, rdI_n, rdC_i, rdC_o, rdW, rdU_e, rdU_n, rdLW, clI, clR, clC, clD, clW, clV, clN_e, clN_n, clL_e, clL_n] <;> first | assumption | rfl | omega)) (by first | assumption | first | assumption | (simp (disch := omega) only [shI, shR, shL, shC, shD, shW, sh_V, shN_e, shN_n, crI, crL, crC, crW, crV, crR_e, crR_n, crN_e, crN_n, ciR, ciL, ciD, ciN_e, ciN_n, rdI_e, rdI_n, rdC_i, rdC_o, rdW, rdU_e, rdU_n, rdLW, clI, clR, clC, clD, clW, clV, clN_e, clN_n, clL_e, clL_n]; done) | (simp (disch := omega) only [shI, shR, shL, shC, shD, shW, sh_V, shN_e, shN_n, crI, crL, crC, crW, crV, crR_e, crR_n, crN_e, crN_n, ciR, ciL, ciD, ciN_e, ciN_n, rdI_e, rdI_n, rdC_i, rdC_o, rdW, rdU_e, rdU_n, rdLW, clI, clR, clC, clD, clW, clV, clN_e, clN_n, clL_e, clL_n] <;> first | assumption | rfl | omega)) ?_
      refine g_getR (kI := 5) rfl dX1_store_21 fX1_73_3 (by first | assumption | first | assumption | (simp (disch := omega) only [shI, shR, shL, shC, shD, shW, sh_V, shN_e, shN_n, crI, crL, crC, crW, crV, crR_e, crR_n, crN_e, crN_n, ciR, ciL, ciD, ciN_e, ciN_n, rdI_e, rdI_n, rdC_i, rdC_o, rdW, rdU_e, rdU_n, rdLW, clI, clR, clC, clD, clW, clV, clN_e, clN_n, clL_e, clL_n]; done) | (simp (disch := omega) only [shI, shR, shL, shC, shD, shW, sh_V, shN_e, shN_n, crI, crL, crC, crW, crV, crR_e, crR_n, crN_e, crN_n, ciR, ciL, ciD, ciN_e, ciN_n, rdI_e, rdI_n, rdC_i, rdC_o, rdW, rdU_e, rdU_n, rdLW, clI, clR, clC, clD, clW, clV, clN_e, clN_n, clL_e, clL_n] <;> first | assumption | rfl | omega)) (by first | assumption | first | assumption | (simp (disch := omega) only [shI, shR, shL, shC, shD, shW, sh_V, shN_e, shN_n, crI, crL, crC, crW, crV, crR_e, crR_n, crN_e, crN_n, ciR, ciL, ciD, ciN_e, ciN_n, rdI_e, rdI_n, rdC_i, rdC_o, rdW, rdU_e, rdU_n, rdLW, clI, clR, clC, clD, clW, clV, clN_e, clN_n, clL_e, clL_n]; done) | (simp (disch := omega) only [shI, shR, shL, shC, shD, shW, sh_V, shN_e, shN_n, crI, crL, crC, crW, crV, crR_e, crR_n, crN_e, crN_n, ciR, ciL, ciD, ciN_e, ciN_n, rdI_e, rdI_n, rdC_i, rdC_o, rdW, rdU_e, rdU_n, rdLW, clI, clR, clC, clD, clW, clV, clN_e, clN_n, clL_e, clL_n] <;> first | assumption | rfl | omega)) ?_
      refine x_iload_n dX1_store_24 rfl rfl ?_
      refine x_iald dX1_store_25 (by first | assumption | first | assumption | (simp (disch := omega) only [shI, shR, shL, shC, shD, shW, sh_V, shN_e, shN_n, crI, crL, crC, crW, crV, crR_e, crR_n, crN_e, crN_n, ciR, ciL, ciD, ciN_e, ciN_n, rdI_e, rdI_n, rdC_i, rdC_o, rdW, rdU_e, rdU_n, rdLW, clI, clR, clC, clD, clW, clV, clN_e, clN_n, clL_e, clL_n]; done) | (simp (disch := omega) only [shI, shR, shL, shC, shD, shW, sh_V, shN_e, shN_n, crI, crL, crC, crW, crV, crR_e, crR_n, crN_e, crN_n, ciR, ciL, ciD, ciN_e, ciN_n, rdI_e, rdI_n, rdC_i, rdC_o, rdW, rdU_e, rdU_n, rdLW, clI, clR, clC, clD, clW, clV, clN_e, clN_n, clL_e, clL_n] <;> first | assumption | rfl | omega)) (by omega) (by omega) ?_
      refine x_istore_n (L' := [some _, some _, some _, some _]) dX1_store_26 rfl (by decide) rfl ?_
      refine x_aload_n dX1_store_27 rfl rfl ?_
      refine g_getR (kI := 1) rfl dX1_store_28 fX1_22_1 (by first | assumption | first | assumption | (simp (disch := omega) only [shI, shR, shL, shC, shD, shW, sh_V, shN_e, shN_n, crI, crL, crC, crW, crV, crR_e, crR_n, crN_e, crN_n, ciR, ciL, ciD, ciN_e, ciN_n, rdI_e, rdI_n, rdC_i, rdC_o, rdW, rdU_e, rdU_n, rdLW, clI, clR, clC, clD, clW, clV, clN_e, clN_n, clL_e, clL_n]; done) | (simp (disch := omega) only [shI, shR, shL, shC, shD, shW, sh_V, shN_e, shN_n, crI, crL, crC, crW, crV, crR_e, crR_n, crN_e, crN_n, ciR, ciL, ciD, ciN_e, ciN_n, rdI_e, rdI_n, rdC_i, rdC_o, rdW, rdU_e, rdU_n, rdLW, clI, clR, clC, clD, clW, clV, clN_e, clN_n, clL_e, clL_n] <;> first | assumption | rfl | omega)) (by first | assumption | first | assumption | (simp (disch := omega) only [shI, shR, shL, shC, shD, shW, sh_V, shN_e, shN_n, crI, crL, crC, crW, crV, crR_e, crR_n, crN_e, crN_n, ciR, ciL, ciD, ciN_e, ciN_n, rdI_e, rdI_n, rdC_i, rdC_o, rdW, rdU_e, rdU_n, rdLW, clI, clR, clC, clD, clW, clV, clN_e, clN_n, clL_e, clL_n]; done) | (simp (disch := omega) only [shI, shR, shL, shC, shD, shW, sh_V, shN_e, shN_n, crI, crL, crC, crW, crV, crR_e, crR_n, crN_e, crN_n, ciR, ciL, ciD, ciN_e, ciN_n, rdI_e, rdI_n, rdC_i, rdC_o, rdW, rdU_e, rdU_n, rdLW, clI, clR, clC, clD, clW, clV, clN_e, clN_n, clL_e, clL_n] <;> first | assumption | rfl | omega)) ?_
      refine g_getR (kI := 5) rfl dX1_store_31 fX1_73_3 (by first | assumption | first | assumption | (simp (disch := omega) only [shI, shR, shL, shC, shD, shW, sh_V, shN_e, shN_n, crI, crL, crC, crW, crV, crR_e, crR_n, crN_e, crN_n, ciR, ciL, ciD, ciN_e, ciN_n, rdI_e, rdI_n, rdC_i, rdC_o, rdW, rdU_e, rdU_n, rdLW, clI, clR, clC, clD, clW, clV, clN_e, clN_n, clL_e, clL_n]; done) | (simp (disch := omega) only [shI, shR, shL, shC, shD, shW, sh_V, shN_e, shN_n, crI, crL, crC, crW, crV, crR_e, crR_n, crN_e, crN_n, ciR, ciL, ciD, ciN_e, ciN_n, rdI_e, rdI_n, rdC_i, rdC_o, rdW, rdU_e, rdU_n, rdLW, clI, clR, clC, clD, clW, clV, clN_e, clN_n, clL_e, clL_n] <;> first | assumption | rfl | omega)) (by first | assumption | first | assumption | (simp (disch := omega) only [shI, shR, shL, shC, shD, shW, sh_V, shN_e, shN_n, crI, crL, crC, crW, crV, crR_e, crR_n, crN_e, crN_n, ciR, ciL, ciD, ciN_e, ciN_n, rdI_e, rdI_n, rdC_i, rdC_o, rdW, rdU_e, rdU_n, rdLW, clI, clR, clC, clD, clW, clV, clN_e, clN_n, clL_e, clL_n]; done) | (simp (disch := omega) only [shI, shR, shL, shC, shD, shW, sh_V, shN_e, shN_n, crI, crL, crC, crW, crV, crR_e, crR_n, crN_e, crN_n, ciR, ciL, ciD, ciN_e, ciN_n, rdI_e, rdI_n, rdC_i, rdC_o, rdW, rdU_e, rdU_n, rdLW, clI, clR, clC, clD, clW, clV, clN_e, clN_n, clL_e, clL_n] <;> first | assumption | rfl | omega)) ?_
      refine x_iload_n dX1_store_34 rfl rfl ?_
      refine x_iload_n dX1_store_35 rfl rfl ?_
      refine x_iast (by omega) dX1_store_36 (by first | assumption | first | assumption | (simp (disch := omega) only [shI, shR, shL, shC, shD, shW, sh_V, shN_e, shN_n, crI, crL, crC, crW, crV, crR_e, crR_n, crN_e, crN_n, ciR, ciL, ciD, ciN_e, ciN_n, rdI_e, rdI_n, rdC_i, rdC_o, rdW, rdU_e, rdU_n, rdLW, clI, clR, clC, clD, clW, clV, clN_e, clN_n, clL_e, clL_n]; done) | (simp (disch := omega) only [shI, shR, shL, shC, shD, shW, sh_V, shN_e, shN_n, crI, crL, crC, crW, crV, crR_e, crR_n, crN_e, crN_n, ciR, ciL, ciD, ciN_e, ciN_n, rdI_e, rdI_n, rdC_i, rdC_o, rdW, rdU_e, rdU_n, rdLW, clI, clR, clC, clD, clW, clV, clN_e, clN_n, clL_e, clL_n] <;> first | assumption | rfl | omega)) (by omega) (by omega) ?_
      refine x_aload_n dX1_store_37 rfl rfl ?_
      refine g_callN (vs := [_]) (d' := d - 1) rfl (tune_ok (i := 22 + k) (x := x) (q := 0) (by omega) hC (ChO.cel (by omega)) (Or.inl (by omega)) (okB_cel hv (by omega) (by omega))) dX1_store_38 kX1_330 (by omega) (by decide) rfl (Nat.le_of_ble_eq_true rfl) (rcv_o (by first | assumption | first | assumption | (simp (disch := omega) only [shI, shR, shL, shC, shD, shW, sh_V, shN_e, shN_n, crI, crL, crC, crW, crV, crR_e, crR_n, crN_e, crN_n, ciR, ciL, ciD, ciN_e, ciN_n, rdI_e, rdI_n, rdC_i, rdC_o, rdW, rdU_e, rdU_n, rdLW, clI, clR, clC, clD, clW, clV, clN_e, clN_n, clL_e, clL_n]; done) | (simp (disch := omega) only [shI, shR, shL, shC, shD, shW, sh_V, shN_e, shN_n, crI, crL, crC, crW, crV, crR_e, crR_n, crN_e, crN_n, ciR, ciL, ciD, ciN_e, ciN_n, rdI_e, rdI_n, rdC_i, rdC_o, rdW, rdU_e, rdU_n, rdLW, clI, clR, clC, clD, clW, clV, clN_e, clN_n, clL_e, clL_n] <;> first | assumption | rfl | omega)) rfl) (fun M38 h38 => ?_)
      refine x_iload_n dX1_store_41 rfl rfl ?_
      refine x_ireturn rfl dX1_store_42 ?_
      exact hQ _ _ (Or.inl ⟨_, rfl, ⟨q1, q10⟩, b13 k (by omega) (by omega), CO.tr hCr h38⟩)
    · obtain ⟨q10, eE10, eM10⟩ := h10
      subst eE10
      subst eM10
      rw [vP_0] at q10
      exact th_nil rfl (hQ _ _ (Or.inr ⟨_, _, rfl, CO.xx hC, Or.inr ⟨q1, q10, rfl⟩⟩))
  · obtain ⟨q1, eE1, eM1⟩ := h1
    subst eE1
    subst eM1
    exact th_nil rfl (hQ _ _ (Or.inr ⟨_, _, rfl, CO.xx hC, Or.inl ⟨q1, rfl⟩⟩))
theorem s_X1_put (hd : 20 ≤ d) (hC : CI M v n A hi vi tp sz fa N) : CS G d mX1_put [dR 0, dI k, dI op] M (orT (postI fun y M1 => ((0 ≤ k ∧ k ≤ v 3 ∧ k ≤ 9) ∧ 0 ≤ op ∧ op < v 0) ∧ y = progAns v k ∧ CO M (us (bootV (us v (12 + k) op)) 3 (if k = v 3 then v 3 + 1 else v 3)) (remN n) (remA A n v) hi vi tp sz fa N 0 0 M1) (fun a E M1 => CO M v n A hi vi tp sz fa N 1 6 M1 ∧ ¬ ((0 ≤ k ∧ k ≤ v 3 ∧ k ≤ 9) ∧ 0 ≤ op ∧ op < v 0) ∧ E = "java/lang/IndexOutOfBoundsException")) := by
  obtain ⟨hC1, hC54, hCA, hCR⟩ := id hC; obtain ⟨hS, hTab, hTx, hLn, hSk, hnx⟩ := id hC1; obtain ⟨hA, hL, hR⟩ := id hC54; obtain ⟨⟨s0, s199, s200, s201, s202, s203⟩, ⟨c0, c1, c2, c3, c4, c5, c6, c7, c8, c9, c10, c11, c12⟩, c203, hSt, m189, m191, g193, g196, ⟨⟨r2, r3, r4, r5, r6, r7, r53⟩, ⟨w0, w1, w2, w3, w4, w5, w6⟩, wx1, wx2, wx3⟩⟩ := id hS; have hv := hA.1; have hv8 := hv.n8; have hv0 := hv.1.1; have hv3 := hv.2.2.2.1; have hs54 := hSt 54 (by unfold SB; omega); obtain ⟨p0, p1, ⟨d0, d1, d2, d3, d4, d5, d6, d7⟩, ⟨t1, t2, t3, t4, t5, t6⟩, p5, p6, p7⟩ := id hs54; have t7 : msh M (54 + 7) = some (4, 0) := p5.2.1; have t10 : msh M (54 + 10) = some (4, 0) := p6.2.1; obtain ⟨hB, hW, hLw⟩ := id hR.1; obtain ⟨b1, b2, b3, b4, b5, b6, b7, b8, b9, b10, b11, b12, b13, b14, b15⟩ := id hB; obtain ⟨hn, hn2, hat, hAc⟩ := id hCA; obtain ⟨⟨hki, hhi⟩, hIm, ⟨htp, hsz, hsz2⟩, hfa⟩ := id hCR
  refine CS.mkQ (by decide) (Nat.le_of_ble_eq_true rfl) fun Q hQ => ?_
  refine x_iload_n dX1_put_0 rfl rfl ?_
  refine x_iconst dX1_put_1 rfl ?_
  refine x_aload_n dX1_put_2 rfl rfl ?_
  refine g_getR (kI := 1) rfl dX1_put_3 fX1_22_1 (by first | assumption | first | assumption | (simp (disch := omega) only [shI, shR, shL, shC, shD, shW, sh_V, shN_e, shN_n, crI, crL, crC, crW, crV, crR_e, crR_n, crN_e, crN_n, ciR, ciL, ciD, ciN_e, ciN_n, rdI_e, rdI_n, rdC_i, rdC_o, rdW, rdU_e, rdU_n, rdLW, clI, clR, clC, clD, clW, clV, clN_e, clN_n, clL_e, clL_n]; done) | (simp (disch := omega) only [shI, shR, shL, shC, shD, shW, sh_V, shN_e, shN_n, crI, crL, crC, crW, crV, crR_e, crR_n, crN_e, crN_n, ciR, ciL, ciD, ciN_e, ciN_n, rdI_e, rdI_n, rdC_i, rdC_o, rdW, rdU_e, rdU_n, rdLW, clI, clR, clC, clD, clW, clV, clN_e, clN_n, clL_e, clL_n] <;> first | assumption | rfl | omega)) (by first | assumption | first | assumption | (simp (disch := omega) only [shI, shR, shL, shC, shD, shW, sh_V, shN_e, shN_n, crI, crL, crC, crW, crV, crR_e, crR_n, crN_e, crN_n, ciR, ciL, ciD, ciN_e, ciN_n, rdI_e, rdI_n, rdC_i, rdC_o, rdW, rdU_e, rdU_n, rdLW, clI, clR, clC, clD, clW, clV, clN_e, clN_n, clL_e, clL_n]; done) | (simp (disch := omega) only [shI, shR, shL, shC, shD, shW, sh_V, shN_e, shN_n, crI, crL, crC, crW, crV, crR_e, crR_n, crN_e, crN_n, ciR, ciL, ciD, ciN_e, ciN_n, rdI_e, rdI_n, rdC_i, rdC_o, rdW, rdU_e, rdU_n, rdLW, clI, clR, clC, clD, clW, clV, clN_e, clN_n, clL_e, clL_n] <;> first | assumption | rfl | omega)) ?_
  refine g_getI (kI := 9) rfl dX1_put_6 fX1_272_3 (by first | assumption | first | assumption | (simp (disch := omega) only [shI, shR, shL, shC, shD, shW, sh_V, shN_e, shN_n, crI, crL, crC, crW, crV, crR_e, crR_n, crN_e, crN_n, ciR, ciL, ciD, ciN_e, ciN_n, rdI_e, rdI_n, rdC_i, rdC_o, rdW, rdU_e, rdU_n, rdLW, clI, clR, clC, clD, clW, clV, clN_e, clN_n, clL_e, clL_n]; done) | (simp (disch := omega) only [shI, shR, shL, shC, shD, shW, sh_V, shN_e, shN_n, crI, crL, crC, crW, crV, crR_e, crR_n, crN_e, crN_n, ciR, ciL, ciD, ciN_e, ciN_n, rdI_e, rdI_n, rdC_i, rdC_o, rdW, rdU_e, rdU_n, rdLW, clI, clR, clC, clD, clW, clV, clN_e, clN_n, clL_e, clL_n] <;> first | assumption | rfl | omega)) ?_
  try simp (disch := omega) only [rdI_e, rdI_n, rdC_i, rdC_o, rdW, rdR, rdU_e, rdU_n, rdLW, Int.add_zero, b2]
  refine x_bipush dX1_put_9 rfl ?_
  refine g_callI (vs := [_, _]) (d' := d - 1) rfl (s_min (by omega)) dX1_put_11 kX1_313 (by omega) (by decide) rfl (Nat.le_of_ble_eq_true rfl) (rcv_n) (fun x11 M11 h11 => ?_)
  obtain ⟨e11, f11⟩ := h11
  have f11' := f11.symm
  subst f11'
  refine g_callI (vs := [_, _, _]) (d' := d - 1) rfl (s_X1_isIn (by omega)) dX1_put_14 kX1_104 (by omega) (by decide) rfl (Nat.le_of_ble_eq_true rfl) (rcv_n) (fun x14 M14 h14 => ?_)
  obtain ⟨e14, f14⟩ := h14
  have f14' := f14.symm
  subst f14'
  subst e14
  try simp (disch := omega) only [rdI_e, rdI_n, rdC_i, rdC_o, rdW, rdR, rdU_e, rdU_n, rdLW, Int.add_zero, b2]
  refine g_callNX (vs := [_]) (d' := d - 1) rfl (s_X1_mustBe (by omega) (by first | omega | exact vP_r _)) dX1_put_17 kX1_108 (by omega) (by decide) rfl (Nat.le_of_ble_eq_true rfl) (rcv_n) (fun M17 h17 => ?_) (fun a17 E17 M17 h17 => ?_)
  · obtain ⟨q17, e17⟩ := h17
    subst e17
    try simp only [vP_0, vP_1, vP_n0, vP_n1, Classical.not_not] at q17
    refine x_aload_n dX1_put_20 rfl rfl ?_
    refine x_iload_n dX1_put_21 rfl rfl ?_
    refine g_callRX (vs := [_, _]) (d' := d - 1) rfl (s_X1_opOf (by omega) hC) dX1_put_22 kX1_240 (by omega) (by decide) rfl (Nat.le_of_ble_eq_true rfl) (rcv_o (by first | assumption | first | assumption | (simp (disch := omega) only [shI, shR, shL, shC, shD, shW, sh_V, shN_e, shN_n, crI, crL, crC, crW, crV, crR_e, crR_n, crN_e, crN_n, ciR, ciL, ciD, ciN_e, ciN_n, rdI_e, rdI_n, rdC_i, rdC_o, rdW, rdU_e, rdU_n, rdLW, clI, clR, clC, clD, clW, clV, clN_e, clN_n, clL_e, clL_n]; done) | (simp (disch := omega) only [shI, shR, shL, shC, shD, shW, sh_V, shN_e, shN_n, crI, crL, crC, crW, crV, crR_e, crR_n, crN_e, crN_n, ciR, ciL, ciD, ciN_e, ciN_n, rdI_e, rdI_n, rdC_i, rdC_o, rdW, rdU_e, rdU_n, rdLW, clI, clR, clC, clD, clW, clV, clN_e, clN_n, clL_e, clL_n] <;> first | assumption | rfl | omega)) rfl) (fun x22 M22 h22 => ?_) (fun a22 E22 M22 h22 => ?_)
    · obtain ⟨q22, e22, f22⟩ := h22
      subst e22
      subst f22
      refine x_pop dX1_put_25 rfl ?_
      refine x_aload_n dX1_put_26 rfl rfl ?_
      refine g_callN (vs := [_]) (d' := d - 1) rfl (s_X1_remembers (by omega) hC) dX1_put_27 kX1_323 (by omega) (by decide) rfl (Nat.le_of_ble_eq_true rfl) (rcv_o (by first | assumption | first | assumption | (simp (disch := omega) only [shI, shR, shL, shC, shD, shW, sh_V, shN_e, shN_n, crI, crL, crC, crW, crV, crR_e, crR_n, crN_e, crN_n, ciR, ciL, ciD, ciN_e, ciN_n, rdI_e, rdI_n, rdC_i, rdC_o, rdW, rdU_e, rdU_n, rdLW, clI, clR, clC, clD, clW, clV, clN_e, clN_n, clL_e, clL_n]; done) | (simp (disch := omega) only [shI, shR, shL, shC, shD, shW, sh_V, shN_e, shN_n, crI, crL, crC, crW, crV, crR_e, crR_n, crN_e, crN_n, ciR, ciL, ciD, ciN_e, ciN_n, rdI_e, rdI_n, rdC_i, rdC_o, rdW, rdU_e, rdU_n, rdLW, clI, clR, clC, clD, clW, clV, clN_e, clN_n, clL_e, clL_n] <;> first | assumption | rfl | omega)) rfl) (fun M27 h27 => ?_)
      obtain ⟨hC, hCr⟩ := h27
      obtain ⟨hC1, hC54, hCA, hCR⟩ := id hC; obtain ⟨hS, hTab, hTx, hLn, hSk, hnx⟩ := id hC1; obtain ⟨hA, hL, hR⟩ := id hC54; obtain ⟨⟨s0, s199, s200, s201, s202, s203⟩, ⟨c0, c1, c2, c3, c4, c5, c6, c7, c8, c9, c10, c11, c12⟩, c203, hSt, m189, m191, g193, g196, ⟨⟨r2, r3, r4, r5, r6, r7, r53⟩, ⟨w0, w1, w2, w3, w4, w5, w6⟩, wx1, wx2, wx3⟩⟩ := id hS; have hv := hA.1; have hv8 := hv.n8; have hv0 := hv.1.1; have hv3 := hv.2.2.2.1; have hs54 := hSt 54 (by unfold SB; omega); obtain ⟨p0, p1, ⟨d0, d1, d2, d3, d4, d5, d6, d7⟩, ⟨t1, t2, t3, t4, t5, t6⟩, p5, p6, p7⟩ := id hs54; have t7 : msh (M27) (54 + 7) = some (4, 0) := p5.2.1; have t10 : msh (M27) (54 + 10) = some (4, 0) := p6.2.1; obtain ⟨hB, hW, hLw⟩ := id hR.1; obtain ⟨b1, b2, b3, b4, b5, b6, b7, b8, b9, b10, b11, b12, b13, b14, b15⟩ := id hB; obtain ⟨hn, hn2, hat, hAc⟩ := id hCA; obtain ⟨⟨hki, hhi⟩, hIm, ⟨htp, hsz, hsz2⟩, hfa⟩ := id hCR
      refine x_aload_n dX1_put_30 rfl rfl ?_
      refine x_iload_n dX1_put_31 rfl rfl ?_
      refine g_callI (vs := [_, _]) (d' := d - 1) rfl (s_X1_program (by omega) hC) dX1_put_32 kX1_333 (by omega) (by decide) rfl (Nat.le_of_ble_eq_true rfl) (rcv_o (by first | assumption | first | assumption | (simp (disch := omega) only [shI, shR, shL, shC, shD, shW, sh_V, shN_e, shN_n, crI, crL, crC, crW, crV, crR_e, crR_n, crN_e, crN_n, ciR, ciL, ciD, ciN_e, ciN_n, rdI_e, rdI_n, rdC_i, rdC_o, rdW, rdU_e, rdU_n, rdLW, clI, clR, clC, clD, clW, clV, clN_e, clN_n, clL_e, clL_n]; done) | (simp (disch := omega) only [shI, shR, shL, shC, shD, shW, sh_V, shN_e, shN_n, crI, crL, crC, crW, crV, crR_e, crR_n, crN_e, crN_n, ciR, ciL, ciD, ciN_e, ciN_n, rdI_e, rdI_n, rdC_i, rdC_o, rdW, rdU_e, rdU_n, rdLW, clI, clR, clC, clD, clW, clV, clN_e, clN_n, clL_e, clL_n] <;> first | assumption | rfl | omega)) rfl) (fun x32 M32 h32 => ?_)
      obtain ⟨e32, f32⟩ := h32
      have f32' := f32.symm
      subst f32'
      refine x_istore_n (L' := [some _, some _, some _, some _]) dX1_put_35 rfl (by decide) rfl ?_
      refine x_aload_n dX1_put_36 rfl rfl ?_
      refine g_getR (kI := 1) rfl dX1_put_37 fX1_22_1 (by first | assumption | first | assumption | (simp (disch := omega) only [shI, shR, shL, shC, shD, shW, sh_V, shN_e, shN_n, crI, crL, crC, crW, crV, crR_e, crR_n, crN_e, crN_n, ciR, ciL, ciD, ciN_e, ciN_n, rdI_e, rdI_n, rdC_i, rdC_o, rdW, rdU_e, rdU_n, rdLW, clI, clR, clC, clD, clW, clV, clN_e, clN_n, clL_e, clL_n]; done) | (simp (disch := omega) only [shI, shR, shL, shC, shD, shW, sh_V, shN_e, shN_n, crI, crL, crC, crW, crV, crR_e, crR_n, crN_e, crN_n, ciR, ciL, ciD, ciN_e, ciN_n, rdI_e, rdI_n, rdC_i, rdC_o, rdW, rdU_e, rdU_n, rdLW, clI, clR, clC, clD, clW, clV, clN_e, clN_n, clL_e, clL_n] <;> first | assumption | rfl | omega)) (by first | assumption | first | assumption | (simp (disch := omega) only [shI, shR, shL, shC, shD, shW, sh_V, shN_e, shN_n, crI, crL, crC, crW, crV, crR_e, crR_n, crN_e, crN_n, ciR, ciL, ciD, ciN_e, ciN_n, rdI_e, rdI_n, rdC_i, rdC_o, rdW, rdU_e, rdU_n, rdLW, clI, clR, clC, clD, clW, clV, clN_e, clN_n, clL_e, clL_n]; done) | (simp (disch := omega) only [shI, shR, shL, shC, shD, shW, sh_V, shN_e, shN_n, crI, crL, crC, crW, crV, crR_e, crR_n, crN_e, crN_n, ciR, ciL, ciD, ciN_e, ciN_n, rdI_e, rdI_n, rdC_i, rdC_o, rdW, rdU_e, rdU_n, rdLW, clI, clR, clC, clD, clW, clV, clN_e, clN_n, clL_e, clL_n] <;> first | assumption | rfl | omega)) ?_
      refine g_getR (kI := 4) rfl dX1_put_40 fX1_293_3 (by first | assumption | first | assumption | (simp (disch := omega) only [shI, shR, shL, shC, shD, shW, sh_V, shN_e, shN_n, crI, crL, crC, crW, crV, crR_e, crR_n, crN_e, crN_n, ciR, ciL, ciD, ciN_e, ciN_n, rdI_e, rdI_n, rdC_i, rdC_o, rdW, rdU_e, rdU_n, rdLW, clI, clR, clC, clD, clW, clV, clN_e, clN_n, clL_e, clL_n]; done) | (simp (disch := omega) only [shI, shR, shL, shC, shD, shW, sh_V, shN_e, shN_n, crI, crL, crC, crW, crV, crR_e, crR_n, crN_e, crN_n, ciR, ciL, ciD, ciN_e, ciN_n, rdI_e, rdI_n, rdC_i, rdC_o, rdW, rdU_e, rdU_n, rdLW, clI, clR, clC, clD, clW, clV, clN_e, clN_n, clL_e, clL_n] <;> first | assumption | rfl | omega)) (by first | assumption | first | assumption | (simp (disch := omega) only [shI, shR, shL, shC, shD, shW, sh_V, shN_e, shN_n, crI, crL, crC, crW, crV, crR_e, crR_n, crN_e, crN_n, ciR, ciL, ciD, ciN_e, ciN_n, rdI_e, rdI_n, rdC_i, rdC_o, rdW, rdU_e, rdU_n, rdLW, clI, clR, clC, clD, clW, clV, clN_e, clN_n, clL_e, clL_n]; done) | (simp (disch := omega) only [shI, shR, shL, shC, shD, shW, sh_V, shN_e, shN_n, crI, crL, crC, crW, crV, crR_e, crR_n, crN_e, crN_n, ciR, ciL, ciD, ciN_e, ciN_n, rdI_e, rdI_n, rdC_i, rdC_o, rdW, rdU_e, rdU_n, rdLW, clI, clR, clC, clD, clW, clV, clN_e, clN_n, clL_e, clL_n] <;> first | assumption | rfl | omega)) ?_
      refine x_iload_n dX1_put_43 rfl rfl ?_
      refine x_iload_n dX1_put_44 rfl rfl ?_
      refine x_iast (by omega) dX1_put_45 (by first | assumption | first | assumption | (simp (disch := omega) only [shI, shR, shL, shC, shD, shW, sh_V, shN_e, shN_n, crI, crL, crC, crW, crV, crR_e, crR_n, crN_e, crN_n, ciR, ciL, ciD, ciN_e, ciN_n, rdI_e, rdI_n, rdC_i, rdC_o, rdW, rdU_e, rdU_n, rdLW, clI, clR, clC, clD, clW, clV, clN_e, clN_n, clL_e, clL_n]; done) | (simp (disch := omega) only [shI, shR, shL, shC, shD, shW, sh_V, shN_e, shN_n, crI, crL, crC, crW, crV, crR_e, crR_n, crN_e, crN_n, ciR, ciL, ciD, ciN_e, ciN_n, rdI_e, rdI_n, rdC_i, rdC_o, rdW, rdU_e, rdU_n, rdLW, clI, clR, clC, clD, clW, clV, clN_e, clN_n, clL_e, clL_n] <;> first | assumption | rfl | omega)) (by omega) (by omega) ?_
      refine x_aload_n dX1_put_46 rfl rfl ?_
      refine g_getR (kI := 1) rfl dX1_put_47 fX1_22_1 (by first | assumption | first | assumption | (simp (disch := omega) only [shI, shR, shL, shC, shD, shW, sh_V, shN_e, shN_n, crI, crL, crC, crW, crV, crR_e, crR_n, crN_e, crN_n, ciR, ciL, ciD, ciN_e, ciN_n, rdI_e, rdI_n, rdC_i, rdC_o, rdW, rdU_e, rdU_n, rdLW, clI, clR, clC, clD, clW, clV, clN_e, clN_n, clL_e, clL_n]; done) | (simp (disch := omega) only [shI, shR, shL, shC, shD, shW, sh_V, shN_e, shN_n, crI, crL, crC, crW, crV, crR_e, crR_n, crN_e, crN_n, ciR, ciL, ciD, ciN_e, ciN_n, rdI_e, rdI_n, rdC_i, rdC_o, rdW, rdU_e, rdU_n, rdLW, clI, clR, clC, clD, clW, clV, clN_e, clN_n, clL_e, clL_n] <;> first | assumption | rfl | omega)) (by first | assumption | first | assumption | (simp (disch := omega) only [shI, shR, shL, shC, shD, shW, sh_V, shN_e, shN_n, crI, crL, crC, crW, crV, crR_e, crR_n, crN_e, crN_n, ciR, ciL, ciD, ciN_e, ciN_n, rdI_e, rdI_n, rdC_i, rdC_o, rdW, rdU_e, rdU_n, rdLW, clI, clR, clC, clD, clW, clV, clN_e, clN_n, clL_e, clL_n]; done) | (simp (disch := omega) only [shI, shR, shL, shC, shD, shW, sh_V, shN_e, shN_n, crI, crL, crC, crW, crV, crR_e, crR_n, crN_e, crN_n, ciR, ciL, ciD, ciN_e, ciN_n, rdI_e, rdI_n, rdC_i, rdC_o, rdW, rdU_e, rdU_n, rdLW, clI, clR, clC, clD, clW, clV, clN_e, clN_n, clL_e, clL_n] <;> first | assumption | rfl | omega)) ?_
      refine x_aload_n dX1_put_50 rfl rfl ?_
      refine g_getR (kI := 1) rfl dX1_put_51 fX1_22_1 (by first | assumption | first | assumption | (simp (disch := omega) only [shI, shR, shL, shC, shD, shW, sh_V, shN_e, shN_n, crI, crL, crC, crW, crV, crR_e, crR_n, crN_e, crN_n, ciR, ciL, ciD, ciN_e, ciN_n, rdI_e, rdI_n, rdC_i, rdC_o, rdW, rdU_e, rdU_n, rdLW, clI, clR, clC, clD, clW, clV, clN_e, clN_n, clL_e, clL_n]; done) | (simp (disch := omega) only [shI, shR, shL, shC, shD, shW, sh_V, shN_e, shN_n, crI, crL, crC, crW, crV, crR_e, crR_n, crN_e, crN_n, ciR, ciL, ciD, ciN_e, ciN_n, rdI_e, rdI_n, rdC_i, rdC_o, rdW, rdU_e, rdU_n, rdLW, clI, clR, clC, clD, clW, clV, clN_e, clN_n, clL_e, clL_n] <;> first | assumption | rfl | omega)) (by first | assumption | first | assumption | (simp (disch := omega) only [shI, shR, shL, shC, shD, shW, sh_V, shN_e, shN_n, crI, crL, crC, crW, crV, crR_e, crR_n, crN_e, crN_n, ciR, ciL, ciD, ciN_e, ciN_n, rdI_e, rdI_n, rdC_i, rdC_o, rdW, rdU_e, rdU_n, rdLW, clI, clR, clC, clD, clW, clV, clN_e, clN_n, clL_e, clL_n]; done) | (simp (disch := omega) only [shI, shR, shL, shC, shD, shW, sh_V, shN_e, shN_n, crI, crL, crC, crW, crV, crR_e, crR_n, crN_e, crN_n, ciR, ciL, ciD, ciN_e, ciN_n, rdI_e, rdI_n, rdC_i, rdC_o, rdW, rdU_e, rdU_n, rdLW, clI, clR, clC, clD, clW, clV, clN_e, clN_n, clL_e, clL_n] <;> first | assumption | rfl | omega)) ?_
      refine g_getI (kI := 9) rfl dX1_put_54 fX1_272_3 (by first | assumption | first | assumption | (simp (disch := omega) only [shI, shR, shL, shC, shD, shW, sh_V, shN_e, shN_n, crI, crL, crC, crW, crV, crR_e, crR_n, crN_e, crN_n, ciR, ciL, ciD, ciN_e, ciN_n, rdI_e, rdI_n, rdC_i, rdC_o, rdW, rdU_e, rdU_n, rdLW, clI, clR, clC, clD, clW, clV, clN_e, clN_n, clL_e, clL_n]; done) | (simp (disch := omega) only [shI, shR, shL, shC, shD, shW, sh_V, shN_e, shN_n, crI, crL, crC, crW, crV, crR_e, crR_n, crN_e, crN_n, ciR, ciL, ciD, ciN_e, ciN_n, rdI_e, rdI_n, rdC_i, rdC_o, rdW, rdU_e, rdU_n, rdLW, clI, clR, clC, clD, clW, clV, clN_e, clN_n, clL_e, clL_n] <;> first | assumption | rfl | omega)) ?_
      try simp (disch := omega) only [rdI_e, rdI_n, rdC_i, rdC_o, rdW, rdR, rdU_e, rdU_n, rdLW, Int.add_zero, b2]
      refine x_iload_n dX1_put_57 rfl rfl ?_
      refine x_iconst dX1_put_58 rfl ?_
      first | refine x_iaddN dX1_put_59 (by unfold i32; omega) ?_ | refine x_iadd dX1_put_59 ?_
      refine g_callI (vs := [_, _]) (d' := d - 1) rfl (s_max (by omega)) dX1_put_60 kX1_335 (by omega) (by decide) rfl (Nat.le_of_ble_eq_true rfl) (rcv_n) (fun x60 M60 h60 => ?_)
      obtain ⟨e60, f60⟩ := h60
      have f60' := f60.symm
      subst f60'
      refine g_putI (kI := 9) rfl dX1_put_63 fX1_272_3 (by first | assumption | first | assumption | (simp (disch := omega) only [shI, shR, shL, shC, shD, shW, sh_V, shN_e, shN_n, crI, crL, crC, crW, crV, crR_e, crR_n, crN_e, crN_n, ciR, ciL, ciD, ciN_e, ciN_n, rdI_e, rdI_n, rdC_i, rdC_o, rdW, rdU_e, rdU_n, rdLW, clI, clR, clC, clD, clW, clV, clN_e, clN_n, clL_e, clL_n]; done) | (simp (disch := omega) only [shI, shR, shL, shC, shD, shW, sh_V, shN_e, shN_n, crI, crL, crC, crW, crV, crR_e, crR_n, crN_e, crN_n, ciR, ciL, ciD, ciN_e, ciN_n, rdI_e, rdI_n, rdC_i, rdC_o, rdW, rdU_e, rdU_n, rdLW, clI, clR, clC, clD, clW, clV, clN_e, clN_n, clL_e, clL_n] <;> first | assumption | rfl | omega)) ?_
      have e3 : x60 = (if k = v 3 then v 3 + 1 else v 3) := by split <;> omega
      subst e3
      have hk : 0 ≤ k ∧ k ≤ v 3 ∧ k ≤ 9 := by omega
      have hx := put_ok (G := G) (d := d - 1) (by omega) hC hk q22
      refine x_aload_n dX1_put_66 rfl rfl ?_
      refine g_callN (vs := [_]) (d' := d - 1) rfl (hx) dX1_put_67 kX1_330 (by omega) (by decide) rfl (Nat.le_of_ble_eq_true rfl) (rcv_o (by first | assumption | first | assumption | (simp (disch := omega) only [shI, shR, shL, shC, shD, shW, sh_V, shN_e, shN_n, crI, crL, crC, crW, crV, crR_e, crR_n, crN_e, crN_n, ciR, ciL, ciD, ciN_e, ciN_n, rdI_e, rdI_n, rdC_i, rdC_o, rdW, rdU_e, rdU_n, rdLW, clI, clR, clC, clD, clW, clV, clN_e, clN_n, clL_e, clL_n]; done) | (simp (disch := omega) only [shI, shR, shL, shC, shD, shW, sh_V, shN_e, shN_n, crI, crL, crC, crW, crV, crR_e, crR_n, crN_e, crN_n, ciR, ciL, ciD, ciN_e, ciN_n, rdI_e, rdI_n, rdC_i, rdC_o, rdW, rdU_e, rdU_n, rdLW, clI, clR, clC, clD, clW, clV, clN_e, clN_n, clL_e, clL_n] <;> first | assumption | rfl | omega)) rfl) (fun M67 h67 => ?_)
      refine x_iload_n dX1_put_70 rfl rfl ?_
      refine x_ireturn rfl dX1_put_71 ?_
      exact hQ _ _ (Or.inl ⟨_, rfl, ⟨by omega, q22⟩, e32, CO.tr hCr h67⟩)
    · obtain ⟨q22, eE22, eM22⟩ := h22
      subst eE22
      subst eM22
      exact th_nil rfl (hQ _ _ (Or.inr ⟨_, _, rfl, CO.xx hC, by omega, rfl⟩))
  · obtain ⟨q17, eE17, eM17⟩ := h17
    subst eE17
    subst eM17
    rw [vP_0] at q17
    exact th_nil rfl (hQ _ _ (Or.inr ⟨_, _, rfl, CO.xx hC, by omega, rfl⟩))
theorem s_X1_goOn {dr : Int} (hd : 47 ≤ d) (hS : SkC (msh M) (mcr M)) (hC54 : StOk M 54 v N) (hnx : 761 ≤ mnx M) (hdr : dr = 0 ∨ dr = 1) (hk : 0 ≤ k ∧ k ≤ 60) (hN : N ≤ 900000000) : CS G d mX1_goOn [dR 0, dI k, dI dr] M (postI fun y M1 => y = cntT v (dr = 1) k.toNat ∧ ∃ g, M1 = wI M g ∧ StOk (wI M g) 54 (goT v (dr = 1) k.toNat) (N + 2 * k) ∧ Fo 54 66 (mci M) g) := by
  obtain ⟨⟨s0, -⟩, ⟨c0, c1, -⟩, -, hSt, -⟩ := id hS
  have hs54 := hSt 54 (by unfold SB; omega)
  obtain ⟨p0, p1, -⟩ := id hs54
  have hcr := cntT_r v (dr = 1)
  refine CS.mkQ (by decide) (Nat.le_of_ble_eq_true rfl) fun Q hQ => ?_
  have lp : ∀ (t : Nat) (j : Int) (g : Ci), (k - j).toNat = t → (0 ≤ j ∧ j ≤ k) → (Fo 54 66 (mci M) g) → (StOk (wI M g) 54 (goT v (dr = 1) j.toNat) (N + 2 * j)) → WP G d mX1_goOn 5 [some (dR 0), some (dI k), some (dI dr), some (dI (cntT v (dr = 1) j.toNat)), some (dI j)] [] (wI M g) Q := by
    intro t
    induction t using Nat.strongRecOn with
    | _ t ih =>
      intro j g ht j0 hg hs
      have e1 : (j + 1).toNat = j.toNat + 1 := by omega
      have e2 : cntT v (dr = 1) (j + 1).toNat = cntT v (dr = 1) j.toNat + vP (trapsT (goT v (dr = 1) j.toNat) (dr = 1)) := by rw [e1]; rfl
      have hr := hcr j.toNat
      have hvn := vP_nn (p := trapsT (goT v (dr = 1) j.toNat) (dr = 1))
      refine x_iload dX1_goOn_5 rfl ?_
      refine x_iload_n dX1_goOn_7 rfl rfl ?_
      refine x_icmp_ge (tgt := 31) dX1_goOn_8 (by decide) (fun h8 => ?_) (fun h8 => ?_)
      · refine x_iload_n dX1_goOn_31 rfl rfl ?_
        refine x_ireturn rfl dX1_goOn_32 ?_
        refine hQ _ _ ⟨_, rfl, ?_, g, rfl, ?_, hg⟩
        · rw [show j = k by omega]
        · rw [show k = j by omega]; exact hs
      · refine x_iload_n dX1_goOn_11 rfl rfl ?_
        refine x_aload_n dX1_goOn_12 rfl rfl ?_
        refine g_getR (kI := 1) rfl dX1_goOn_13 fX1_22_1 (by first | assumption | first | assumption | (simp (disch := omega) only [shI, shR, shL, shC, shD, shW, sh_V, shN_e, shN_n, crI, crL, crC, crW, crV, crR_e, crR_n, crN_e, crN_n, ciR, ciL, ciD, ciN_e, ciN_n, rdI_e, rdI_n, rdC_i, rdC_o, rdW, rdU_e, rdU_n, rdLW, clI, clR, clC, clD, clW, clV, clN_e, clN_n, clL_e, clL_n]; done) | (simp (disch := omega) only [shI, shR, shL, shC, shD, shW, sh_V, shN_e, shN_n, crI, crL, crC, crW, crV, crR_e, crR_n, crN_e, crN_n, ciR, ciL, ciD, ciN_e, ciN_n, rdI_e, rdI_n, rdC_i, rdC_o, rdW, rdU_e, rdU_n, rdLW, clI, clR, clC, clD, clW, clV, clN_e, clN_n, clL_e, clL_n] <;> first | assumption | rfl | omega)) (by first | assumption | first | assumption | (simp (disch := omega) only [shI, shR, shL, shC, shD, shW, sh_V, shN_e, shN_n, crI, crL, crC, crW, crV, crR_e, crR_n, crN_e, crN_n, ciR, ciL, ciD, ciN_e, ciN_n, rdI_e, rdI_n, rdC_i, rdC_o, rdW, rdU_e, rdU_n, rdLW, clI, clR, clC, clD, clW, clV, clN_e, clN_n, clL_e, clL_n]; done) | (simp (disch := omega) only [shI, shR, shL, shC, shD, shW, sh_V, shN_e, shN_n, crI, crL, crC, crW, crV, crR_e, crR_n, crN_e, crN_n, ciR, ciL, ciD, ciN_e, ciN_n, rdI_e, rdI_n, rdC_i, rdC_o, rdW, rdU_e, rdU_n, rdLW, clI, clR, clC, clD, clW, clV, clN_e, clN_n, clL_e, clL_n] <;> first | assumption | rfl | omega)) ?_
        refine x_iload_n dX1_goOn_16 rfl rfl ?_
        refine g_callI (vs := [_, _]) (d' := d - 1) rfl (s_X3_passes (M := wI M g) (by omega) hdr hs54 hs.2.2 hs.1 (by omega) (by omega)) dX1_goOn_17 kX1_319 (by omega) (by decide) rfl (Nat.le_of_ble_eq_true rfl) (rcv_o (by first | assumption | first | assumption | (simp (disch := omega) only [shI, shR, shL, shC, shD, shW, sh_V, shN_e, shN_n, crI, crL, crC, crW, crV, crR_e, crR_n, crN_e, crN_n, ciR, ciL, ciD, ciN_e, ciN_n, rdI_e, rdI_n, rdC_i, rdC_o, rdW, rdU_e, rdU_n, rdLW, clI, clR, clC, clD, clW, clV, clN_e, clN_n, clL_e, clL_n]; done) | (simp (disch := omega) only [shI, shR, shL, shC, shD, shW, sh_V, shN_e, shN_n, crI, crL, crC, crW, crV, crR_e, crR_n, crN_e, crN_n, ciR, ciL, ciD, ciN_e, ciN_n, rdI_e, rdI_n, rdC_i, rdC_o, rdW, rdU_e, rdU_n, rdLW, clI, clR, clC, clD, clW, clV, clN_e, clN_n, clL_e, clL_n] <;> first | assumption | rfl | omega)) rfl) (fun x17 M17 h17 => ?_)
        obtain ⟨e17, g17, hM17, a17, y17, f17⟩ := h17
        subst hM17
        refine g_callI (vs := [_]) (d' := d - 1) rfl (s_X1_flag (by omega) (by rw [e17]; exact vP_r _)) dX1_goOn_20 kX1_248 (by omega) (by decide) rfl (Nat.le_of_ble_eq_true rfl) (rcv_n) (fun x20 M20 h20 => ?_)
        obtain ⟨e20, f20⟩ := h20
        have f20' := f20.symm
        subst f20'
        subst e20
        first | refine x_iaddN dX1_goOn_23 (by unfold i32; omega) ?_ | refine x_iadd dX1_goOn_23 ?_
        rw [e17, ← e2]
        refine x_istore_n (L' := [some _, some _, some _, some _, some _]) dX1_goOn_24 rfl (by decide) rfl ?_
        first | refine x_iincN (L' := [some _, some _, some _, some _, some _]) dX1_goOn_25 rfl (by decide) (by unfold i32; omega) rfl ?_ | refine x_iinc (L' := [some _, some _, some _, some _, some _]) dX1_goOn_25 rfl (by decide) rfl ?_
        refine x_goto (tgt := 5) dX1_goOn_28 (by decide) ?_
        refine WP.mem (M1 := wI M g17) rfl (ih _ (by omega) (j + 1) g17 rfl (by omega) (hg.trans (f17.mono (by omega) (by omega))) ⟨?_, ?_, ?_⟩)
        · rw [e1]; exact y17
        · rw [e1]; exact hs.2.1.eqM eqM_tickV
        · rw [e1, show N + 2 * (j + 1) = N + 2 * j + 2 by omega]; exact a17
  refine x_iconst dX1_goOn_0 rfl ?_
  refine x_istore_n (L' := [some _, some _, some _, some _, none]) dX1_goOn_1 rfl (by decide) rfl ?_
  refine x_iconst dX1_goOn_2 rfl ?_
  refine x_istore (L' := [some _, some _, some _, some _, some _]) dX1_goOn_3 (by decide) rfl ?_
  exact WP.mem (wI_id M).symm (lp _ 0 (mci M) rfl (by omega) Fo.rfl (by rw [show N + 2 * 0 = N by omega]; exact hC54))
theorem goT_hi {dr : Prop} (hA : okA v) (hL : lawOK v) {t : Nat} (k : Int) (h : 368 ≤ k) : goT v dr t k = v k := (okA_goT hA hL t).2 k (by omega) (by omega) (by omega)
theorem s_X1_ticks (hd : 50 ≤ d) (hC : CI M v n A hi vi tp sz fa N) (hN : N ≤ 900000000) : CS G d mX1_ticks [dR 0, dI k] M (orT (postI fun y M1 => (1 ≤ k ∧ k ≤ 60) ∧ y = cntT v True k.toNat ∧ CO M (goT v True k.toNat) (remN n) (remA A n v) hi vi tp sz fa (N + 120) 0 0 M1) (fun a E M1 => CO M v n A hi vi tp sz fa N 1 6 M1 ∧ ¬ (1 ≤ k ∧ k ≤ 60) ∧ E = "java/lang/IllegalArgumentException")) := by
  obtain ⟨hC1, hC54, hCA, hCR⟩ := id hC; obtain ⟨hS, hTab, hTx, hLn, hSk, hnx⟩ := id hC1; obtain ⟨hA, hL, hR⟩ := id hC54; obtain ⟨⟨s0, s199, s200, s201, s202, s203⟩, ⟨c0, c1, c2, c3, c4, c5, c6, c7, c8, c9, c10, c11, c12⟩, c203, hSt, m189, m191, g193, g196, ⟨⟨r2, r3, r4, r5, r6, r7, r53⟩, ⟨w0, w1, w2, w3, w4, w5, w6⟩, wx1, wx2, wx3⟩⟩ := id hS; have hv := hA.1; have hv8 := hv.n8; have hv0 := hv.1.1; have hv3 := hv.2.2.2.1; have hs54 := hSt 54 (by unfold SB; omega); obtain ⟨p0, p1, ⟨d0, d1, d2, d3, d4, d5, d6, d7⟩, ⟨t1, t2, t3, t4, t5, t6⟩, p5, p6, p7⟩ := id hs54; have t7 : msh M (54 + 7) = some (4, 0) := p5.2.1; have t10 : msh M (54 + 10) = some (4, 0) := p6.2.1; obtain ⟨hB, hW, hLw⟩ := id hR.1; obtain ⟨b1, b2, b3, b4, b5, b6, b7, b8, b9, b10, b11, b12, b13, b14, b15⟩ := id hB; obtain ⟨hn, hn2, hat, hAc⟩ := id hCA; obtain ⟨⟨hki, hhi⟩, hIm, ⟨htp, hsz, hsz2⟩, hfa⟩ := id hCR
  have e11 : ((1 : Int) = 1) = True := by simp
  refine CS.mkQ (by decide) (Nat.le_of_ble_eq_true rfl) fun Q hQ => ?_
  refine x_iload_n dX1_ticks_0 rfl rfl ?_
  refine x_iconst dX1_ticks_1 rfl ?_
  refine x_bipush dX1_ticks_2 rfl ?_
  refine g_callI (vs := [_, _, _]) (d' := d - 1) rfl (s_X1_isIn (by omega)) dX1_ticks_4 kX1_104 (by omega) (by decide) rfl (Nat.le_of_ble_eq_true rfl) (rcv_n) (fun x4 M4 h4 => ?_)
  obtain ⟨e4, f4⟩ := h4
  have f4' := f4.symm
  subst f4'
  subst e4
  refine g_callNX (vs := [_]) (d' := d - 1) rfl (s_X1_must (by omega) (by first | omega | exact vP_r _)) dX1_ticks_7 kX1_116 (by omega) (by decide) rfl (Nat.le_of_ble_eq_true rfl) (rcv_n) (fun M7 h7 => ?_) (fun a7 E7 M7 h7 => ?_)
  · obtain ⟨q7, e7⟩ := h7
    subst e7
    try simp only [vP_0, vP_1, vP_n0, vP_n1, Classical.not_not] at q7
    refine x_aload_n dX1_ticks_10 rfl rfl ?_
    refine g_callN (vs := [_]) (d' := d - 1) rfl (s_X1_remembers (by omega) hC) dX1_ticks_11 kX1_323 (by omega) (by decide) rfl (Nat.le_of_ble_eq_true rfl) (rcv_o (by first | assumption | first | assumption | (simp (disch := omega) only [shI, shR, shL, shC, shD, shW, sh_V, shN_e, shN_n, crI, crL, crC, crW, crV, crR_e, crR_n, crN_e, crN_n, ciR, ciL, ciD, ciN_e, ciN_n, rdI_e, rdI_n, rdC_i, rdC_o, rdW, rdU_e, rdU_n, rdLW, clI, clR, clC, clD, clW, clV, clN_e, clN_n, clL_e, clL_n]; done) | (simp (disch := omega) only [shI, shR, shL, shC, shD, shW, sh_V, shN_e, shN_n, crI, crL, crC, crW, crV, crR_e, crR_n, crN_e, crN_n, ciR, ciL, ciD, ciN_e, ciN_n, rdI_e, rdI_n, rdC_i, rdC_o, rdW, rdU_e, rdU_n, rdLW, clI, clR, clC, clD, clW, clV, clN_e, clN_n, clL_e, clL_n] <;> first | assumption | rfl | omega)) rfl) (fun M11 h11 => ?_)
    obtain ⟨hC, hCr⟩ := h11
    obtain ⟨hC1, hC54, hCA, hCR⟩ := id hC; obtain ⟨hS, hTab, hTx, hLn, hSk, hnx⟩ := id hC1; obtain ⟨hA, hL, hR⟩ := id hC54; obtain ⟨⟨s0, s199, s200, s201, s202, s203⟩, ⟨c0, c1, c2, c3, c4, c5, c6, c7, c8, c9, c10, c11, c12⟩, c203, hSt, m189, m191, g193, g196, ⟨⟨r2, r3, r4, r5, r6, r7, r53⟩, ⟨w0, w1, w2, w3, w4, w5, w6⟩, wx1, wx2, wx3⟩⟩ := id hS; have hv := hA.1; have hv8 := hv.n8; have hv0 := hv.1.1; have hv3 := hv.2.2.2.1; have hs54 := hSt 54 (by unfold SB; omega); obtain ⟨p0, p1, ⟨d0, d1, d2, d3, d4, d5, d6, d7⟩, ⟨t1, t2, t3, t4, t5, t6⟩, p5, p6, p7⟩ := id hs54; have t7 : msh (M11) (54 + 7) = some (4, 0) := p5.2.1; have t10 : msh (M11) (54 + 10) = some (4, 0) := p6.2.1; obtain ⟨hB, hW, hLw⟩ := id hR.1; obtain ⟨b1, b2, b3, b4, b5, b6, b7, b8, b9, b10, b11, b12, b13, b14, b15⟩ := id hB; obtain ⟨hn, hn2, hat, hAc⟩ := id hCA; obtain ⟨⟨hki, hhi⟩, hIm, ⟨htp, hsz, hsz2⟩, hfa⟩ := id hCR
    refine x_aload_n dX1_ticks_14 rfl rfl ?_
    refine x_iload_n dX1_ticks_15 rfl rfl ?_
    refine x_iconst dX1_ticks_16 rfl ?_
    refine g_callI (vs := [_, _, _]) (d' := d - 1) rfl (s_X1_goOn (by omega) hS hC54 hnx (Or.inr rfl) (by omega) hN) dX1_ticks_17 kX1_326 (by omega) (by decide) rfl (Nat.le_of_ble_eq_true rfl) (rcv_o (by first | assumption | first | assumption | (simp (disch := omega) only [shI, shR, shL, shC, shD, shW, sh_V, shN_e, shN_n, crI, crL, crC, crW, crV, crR_e, crR_n, crN_e, crN_n, ciR, ciL, ciD, ciN_e, ciN_n, rdI_e, rdI_n, rdC_i, rdC_o, rdW, rdU_e, rdU_n, rdLW, clI, clR, clC, clD, clW, clV, clN_e, clN_n, clL_e, clL_n]; done) | (simp (disch := omega) only [shI, shR, shL, shC, shD, shW, sh_V, shN_e, shN_n, crI, crL, crC, crW, crV, crR_e, crR_n, crN_e, crN_n, ciR, ciL, ciD, ciN_e, ciN_n, rdI_e, rdI_n, rdC_i, rdC_o, rdW, rdU_e, rdU_n, rdLW, clI, clR, clC, clD, clW, clV, clN_e, clN_n, clL_e, clL_n] <;> first | assumption | rfl | omega)) rfl) (fun x17 M17 h17 => ?_)
    obtain ⟨e17, g17, hM17, a17, f17⟩ := h17
    refine x_ireturn rfl dX1_ticks_20 ?_
    subst hM17
    rw [e11] at e17 a17
    have hx := hC.now (g := g17) (v' := goT v True k.toNat) (N' := N + 120) (fun b k q1 q2 => f17 b k (by omega)) ⟨by rw [f17 _ _ (by omega)]; exact hSk.2.1, by rw [f17 _ _ (by omega)]; exact hSk.2.2.1, by rw [f17 _ _ (by omega)]; exact hSk.2.2.2.1, by rw [f17 _ _ (by omega)]; exact hSk.2.2.2.2⟩ (a17.up (by omega)) (by omega) (fun k a b => goT_hi hA hL k a)
    exact hQ _ _ (Or.inl ⟨_, rfl, q7, e17, CO.tr hCr hx⟩)
  · obtain ⟨q7, eE7, eM7⟩ := h7
    subst eE7
    subst eM7
    rw [vP_0] at q7
    exact th_nil rfl (hQ _ _ (Or.inr ⟨_, _, rfl, CO.xx hC, q7, rfl⟩))
theorem s_X1_patch (hd : 20 ≤ d) (hC : CI M v n A hi vi tp sz fa N) (hb : b = 0 ∨ b = 1) : CS G d mX1_patch [dR 0, dI op, dI b] M (orT (postI fun y M1 => (0 ≤ op ∧ op < v 0) ∧ y = vP (¬ opP v op = b) ∧ CO M (bootV (us v (32 + 9 * op) b)) (remN n) (remA A n v) hi vi tp sz fa N 0 0 M1) (fun a E M1 => CO M v n A hi vi tp sz fa N 1 6 M1 ∧ ¬ (0 ≤ op ∧ op < v 0) ∧ E = "java/lang/IndexOutOfBoundsException")) := by
  obtain ⟨hC1, hC54, hCA, hCR⟩ := id hC; obtain ⟨hS, hTab, hTx, hLn, hSk, hnx⟩ := id hC1; obtain ⟨hA, hL, hR⟩ := id hC54; obtain ⟨⟨s0, s199, s200, s201, s202, s203⟩, ⟨c0, c1, c2, c3, c4, c5, c6, c7, c8, c9, c10, c11, c12⟩, c203, hSt, m189, m191, g193, g196, ⟨⟨r2, r3, r4, r5, r6, r7, r53⟩, ⟨w0, w1, w2, w3, w4, w5, w6⟩, wx1, wx2, wx3⟩⟩ := id hS; have hv := hA.1; have hv8 := hv.n8; have hv0 := hv.1.1; have hv3 := hv.2.2.2.1; have hs54 := hSt 54 (by unfold SB; omega); obtain ⟨p0, p1, ⟨d0, d1, d2, d3, d4, d5, d6, d7⟩, ⟨t1, t2, t3, t4, t5, t6⟩, p5, p6, p7⟩ := id hs54; have t7 : msh M (54 + 7) = some (4, 0) := p5.2.1; have t10 : msh M (54 + 10) = some (4, 0) := p6.2.1; obtain ⟨hB, hW, hLw⟩ := id hR.1; obtain ⟨b1, b2, b3, b4, b5, b6, b7, b8, b9, b10, b11, b12, b13, b14, b15⟩ := id hB; obtain ⟨hn, hn2, hat, hAc⟩ := id hCA; obtain ⟨⟨hki, hhi⟩, hIm, ⟨htp, hsz, hsz2⟩, hfa⟩ := id hCR
  refine CS.mkQ (by decide) (Nat.le_of_ble_eq_true rfl) fun Q hQ => ?_
  refine x_aload_n dX1_patch_0 rfl rfl ?_
  refine x_iload_n dX1_patch_1 rfl rfl ?_
  refine g_callRX (vs := [_, _]) (d' := d - 1) rfl (s_X1_opOf (by omega) hC) dX1_patch_2 kX1_240 (by omega) (by decide) rfl (Nat.le_of_ble_eq_true rfl) (rcv_o (by first | assumption | first | assumption | (simp (disch := omega) only [shI, shR, shL, shC, shD, shW, sh_V, shN_e, shN_n, crI, crL, crC, crW, crV, crR_e, crR_n, crN_e, crN_n, ciR, ciL, ciD, ciN_e, ciN_n, rdI_e, rdI_n, rdC_i, rdC_o, rdW, rdU_e, rdU_n, rdLW, clI, clR, clC, clD, clW, clV, clN_e, clN_n, clL_e, clL_n]; done) | (simp (disch := omega) only [shI, shR, shL, shC, shD, shW, sh_V, shN_e, shN_n, crI, crL, crC, crW, crV, crR_e, crR_n, crN_e, crN_n, ciR, ciL, ciD, ciN_e, ciN_n, rdI_e, rdI_n, rdC_i, rdC_o, rdW, rdU_e, rdU_n, rdLW, clI, clR, clC, clD, clW, clV, clN_e, clN_n, clL_e, clL_n] <;> first | assumption | rfl | omega)) rfl) (fun x2 M2 h2 => ?_) (fun a2 E2 M2 h2 => ?_)
  · obtain ⟨q2, e2, f2⟩ := h2
    subst e2
    subst f2
    refine x_astore_n (L' := [some _, some _, some _, some _, none]) dX1_patch_5 rfl (by decide) rfl ?_
    refine x_aload_n dX1_patch_6 rfl rfl ?_
    refine g_callN (vs := [_]) (d' := d - 1) rfl (s_X1_remembers (by omega) hC) dX1_patch_7 kX1_323 (by omega) (by decide) rfl (Nat.le_of_ble_eq_true rfl) (rcv_o (by first | assumption | first | assumption | (simp (disch := omega) only [shI, shR, shL, shC, shD, shW, sh_V, shN_e, shN_n, crI, crL, crC, crW, crV, crR_e, crR_n, crN_e, crN_n, ciR, ciL, ciD, ciN_e, ciN_n, rdI_e, rdI_n, rdC_i, rdC_o, rdW, rdU_e, rdU_n, rdLW, clI, clR, clC, clD, clW, clV, clN_e, clN_n, clL_e, clL_n]; done) | (simp (disch := omega) only [shI, shR, shL, shC, shD, shW, sh_V, shN_e, shN_n, crI, crL, crC, crW, crV, crR_e, crR_n, crN_e, crN_n, ciR, ciL, ciD, ciN_e, ciN_n, rdI_e, rdI_n, rdC_i, rdC_o, rdW, rdU_e, rdU_n, rdLW, clI, clR, clC, clD, clW, clV, clN_e, clN_n, clL_e, clL_n] <;> first | assumption | rfl | omega)) rfl) (fun M7 h7 => ?_)
    obtain ⟨hC, hCr⟩ := h7
    obtain ⟨hC1, hC54, hCA, hCR⟩ := id hC; obtain ⟨hS, hTab, hTx, hLn, hSk, hnx⟩ := id hC1; obtain ⟨hA, hL, hR⟩ := id hC54; obtain ⟨⟨s0, s199, s200, s201, s202, s203⟩, ⟨c0, c1, c2, c3, c4, c5, c6, c7, c8, c9, c10, c11, c12⟩, c203, hSt, m189, m191, g193, g196, ⟨⟨r2, r3, r4, r5, r6, r7, r53⟩, ⟨w0, w1, w2, w3, w4, w5, w6⟩, wx1, wx2, wx3⟩⟩ := id hS; have hv := hA.1; have hv8 := hv.n8; have hv0 := hv.1.1; have hv3 := hv.2.2.2.1; have hs54 := hSt 54 (by unfold SB; omega); obtain ⟨p0, p1, ⟨d0, d1, d2, d3, d4, d5, d6, d7⟩, ⟨t1, t2, t3, t4, t5, t6⟩, p5, p6, p7⟩ := id hs54; have t7 : msh (M7) (54 + 7) = some (4, 0) := p5.2.1; have t10 : msh (M7) (54 + 10) = some (4, 0) := p6.2.1; obtain ⟨hB, hW, hLw⟩ := id hR.1; obtain ⟨b1, b2, b3, b4, b5, b6, b7, b8, b9, b10, b11, b12, b13, b14, b15⟩ := id hB; obtain ⟨hn, hn2, hat, hAc⟩ := id hCA; obtain ⟨⟨hki, hhi⟩, hIm, ⟨htp, hsz, hsz2⟩, hfa⟩ := id hCR
    obtain ⟨o0, o1, o2, o3, o4, o5, o6, o7⟩ := (p7 op (by omega) (by omega)).2
    have hO := (b14 op q2.1 q2.2).2.2.1
    refine x_aload_n dX1_patch_10 rfl rfl ?_
    refine g_getZ (kI := 5) rfl dX1_patch_11 fX1_253_6 (by first | assumption | first | assumption | (simp (disch := omega) only [shI, shR, shL, shC, shD, shW, sh_V, shN_e, shN_n, crI, crL, crC, crW, crV, crR_e, crR_n, crN_e, crN_n, ciR, ciL, ciD, ciN_e, ciN_n, rdI_e, rdI_n, rdC_i, rdC_o, rdW, rdU_e, rdU_n, rdLW, clI, clR, clC, clD, clW, clV, clN_e, clN_n, clL_e, clL_n]; done) | (simp (disch := omega) only [shI, shR, shL, shC, shD, shW, sh_V, shN_e, shN_n, crI, crL, crC, crW, crV, crR_e, crR_n, crN_e, crN_n, ciR, ciL, ciD, ciN_e, ciN_n, rdI_e, rdI_n, rdC_i, rdC_o, rdW, rdU_e, rdU_n, rdLW, clI, clR, clC, clD, clW, clV, clN_e, clN_n, clL_e, clL_n] <;> first | assumption | rfl | omega)) ?_
    try simp (disch := omega) only [rdI_e, rdI_n, rdC_i, rdC_o, rdW, rdR, rdU_e, rdU_n, rdLW, Int.add_zero, hO]
    refine x_istore (L' := [some _, some _, some _, some _, some _]) dX1_patch_14 (by decide) rfl ?_
    refine x_aload_n dX1_patch_16 rfl rfl ?_
    refine x_iload_n dX1_patch_17 rfl rfl ?_
    refine g_putZ (by first | exact Or.inl rfl | exact Or.inr rfl | exact vB_r _ | omega) (kI := 5) rfl dX1_patch_18 fX1_253_6 (by first | assumption | first | assumption | (simp (disch := omega) only [shI, shR, shL, shC, shD, shW, sh_V, shN_e, shN_n, crI, crL, crC, crW, crV, crR_e, crR_n, crN_e, crN_n, ciR, ciL, ciD, ciN_e, ciN_n, rdI_e, rdI_n, rdC_i, rdC_o, rdW, rdU_e, rdU_n, rdLW, clI, clR, clC, clD, clW, clV, clN_e, clN_n, clL_e, clL_n]; done) | (simp (disch := omega) only [shI, shR, shL, shC, shD, shW, sh_V, shN_e, shN_n, crI, crL, crC, crW, crV, crR_e, crR_n, crN_e, crN_n, ciR, ciL, ciD, ciN_e, ciN_n, rdI_e, rdI_n, rdC_i, rdC_o, rdW, rdU_e, rdU_n, rdLW, clI, clR, clC, clD, clW, clV, clN_e, clN_n, clL_e, clL_n] <;> first | assumption | rfl | omega)) ?_
    refine x_aload_n dX1_patch_21 rfl rfl ?_
    refine g_callN (vs := [_]) (d' := d - 1) rfl (tune_ok (i := 32 + 9 * op) (x := b) (q := op) (by omega) hC (ChO.pat q2) (Or.inr rfl) (hv.uf q2 (Or.inr rfl) hb)) dX1_patch_22 kX1_330 (by omega) (by decide) rfl (Nat.le_of_ble_eq_true rfl) (rcv_o (by first | assumption | first | assumption | (simp (disch := omega) only [shI, shR, shL, shC, shD, shW, sh_V, shN_e, shN_n, crI, crL, crC, crW, crV, crR_e, crR_n, crN_e, crN_n, ciR, ciL, ciD, ciN_e, ciN_n, rdI_e, rdI_n, rdC_i, rdC_o, rdW, rdU_e, rdU_n, rdLW, clI, clR, clC, clD, clW, clV, clN_e, clN_n, clL_e, clL_n]; done) | (simp (disch := omega) only [shI, shR, shL, shC, shD, shW, sh_V, shN_e, shN_n, crI, crL, crC, crW, crV, crR_e, crR_n, crN_e, crN_n, ciR, ciL, ciD, ciN_e, ciN_n, rdI_e, rdI_n, rdC_i, rdC_o, rdW, rdU_e, rdU_n, rdLW, clI, clR, clC, clD, clW, clV, clN_e, clN_n, clL_e, clL_n] <;> first | assumption | rfl | omega)) rfl) (fun M22 h22 => ?_)
    refine x_iload dX1_patch_25 rfl ?_
    refine x_iload_n dX1_patch_27 rfl rfl ?_
    refine x_icmp_eq (tgt := 35) dX1_patch_28 (by decide) (fun h28 => ?_) (fun h28 => ?_)
    · refine x_iconst dX1_patch_35 rfl ?_
      refine x_zreturn (by first | exact Or.inl rfl | exact Or.inr rfl | exact vB_r _ | exact vP_r _ | assumption | omega) rfl dX1_patch_36 ?_
      first
      | exact hQ _ _ (Or.inl ⟨_, rfl, q2, (vP_t h28).symm, CO.tr hCr h22⟩)
      | exact hQ _ _ (Or.inl ⟨_, rfl, q2, (vP_f (fun q => q h28)).symm, CO.tr hCr h22⟩)
    · refine x_iconst dX1_patch_31 rfl ?_
      refine x_goto (tgt := 36) dX1_patch_32 (by decide) ?_
      refine x_zreturn (by first | exact Or.inl rfl | exact Or.inr rfl | exact vB_r _ | exact vP_r _ | assumption | omega) rfl dX1_patch_36 ?_
      first
      | exact hQ _ _ (Or.inl ⟨_, rfl, q2, (vP_t h28).symm, CO.tr hCr h22⟩)
      | exact hQ _ _ (Or.inl ⟨_, rfl, q2, (vP_f (fun q => q h28)).symm, CO.tr hCr h22⟩)
  · obtain ⟨q2, eE2, eM2⟩ := h2
    subst eE2
    subst eM2
    exact th_nil rfl (hQ _ _ (Or.inr ⟨_, _, rfl, CO.xx hC, q2, rfl⟩))
end X1

