/-! GuestView: a bench is read -/
section X1
variable {G : GW} {d : Nat} {M M1 : Mem} {a b c e k n x op w st hi sz fa N i p o T : Int} {v vi u : Vw} {A : Int → Vw} {tp : Int → Int}
/-- a state is as a draft -/
theorem beD_ok (hd : 13 ≤ d) (h : CI1 M) (hp : SB p) (ho : SB o) (hpo : ¬ p = o) (hB : RelB (mci M) o u N) (hu : okB u) (hL : LawR (msh M) (mci M) (mcr M) 761 (mnx M) o v) (hG : RelG (mci M) (o + 7) 0 v 0) (hH : RelG (mci M) (o + 10) (v 5) v 1) : CS G d mX3_be [dR p, dR o] M (postN fun M1 => (∃ g, M1 = wI (mD M (o + 2) 0 (p + 2) 0 12) g) ∧ (∀ b k, ¬ (p ≤ b ∧ b ≤ p + 44) → mci M1 b k = mci M b k) ∧ CI1 M1 ∧ (RelB (mci M1) p u N ∧ LawR (msh M1) (mci M1) (mcr M1) 761 (mnx M1) p v ∧ b01 (mci M1 (p + 7 + 1) 6) ∧ b01 (mci M1 (p + 10 + 1) 6)) ∧ ∀ q u' N', SB q → ¬ q = p → StOk M q u' N' → StOk M1 q u' N') := by
  obtain ⟨hS, hTab, hTx, hLn, hSk, hnx⟩ := id h
  have hdj : p + 44 < o ∨ o + 44 < p := by unfold SB at hp ho; omega
  have hpb : 8 ≤ p ∧ p ≤ 699 := by unfold SB at hp; omega
  have hob : 8 ≤ o ∧ o ≤ 699 := by unfold SB at ho; omega
  refine (s_X3_beD hd (hS.2.2.2.1 p hp) (hS.2.2.2.1 o ho) hB hL hG hH hu hdj (by omega) (hSk.1 p hp) (hLn o (Or.inl ho)).o).mono fun r M1 q => ?_
  obtain ⟨e1, g, e2, hRB, hRL, hRG, hRH, hF⟩ := q
  subst e2
  have ecr : ∀ b k, ¬ b = p + 2 → mcr (wI (mD M (o + 2) 0 (p + 2) 0 12) g) b k = mcr M b k := fun b k q => crD_o (by omega)
  have hkp : Kp (fun b => ¬ (p ≤ b ∧ b ≤ p + 44)) M (wI (mD M (o + 2) 0 (p + 2) 0 12) g) := fun b hb => ⟨rfl, fun k => hF b k hb, fun k => ecr b k (by omega), fun k => rfl⟩
  have hsk : b01 (g (p + 7 + 1) 6) ∧ b01 (g (p + 10 + 1) 6) := ⟨hRG.2.2.1, hRH.2.2.1⟩
  refine ⟨e1, ⟨g, rfl⟩, fun b k q => hF b k q, h.of (hkp.mono fun b hb => by omega) (fun b _ _ => rfl) (fun b k _ _ q => ecr b k fun q2 => q (Or.inr (by rw [q2, show p + 2 - 2 = p by omega]; exact hp))) (fun q hq => ?_) ?_ (Nat.le_refl _), ⟨hRB, hRL, hsk⟩, fun q u' N' hq hqp hSq => hSq.kp hkp (fun b x y => by omega) (fun b x y z => by unfold SB at hp hq; omega) (Nat.le_refl _)⟩
  · by_cases e : q = p
    · subst e
      intro k b k0 k1 hb
      have e3 : mcr (wI (mD M (o + 2) 0 (q + 2) 0 12) g) (q + 2) k = mcr M (o + 2) (0 + (k - 0)) := crD_i ⟨rfl, by omega, by omega⟩
      rw [e3, show (0 : Int) + (k - 0) = k by omega] at hb
      exact hLn o (Or.inl ho) k b k0 k1 hb
    · exact (hLn q hq).of (fun b _ _ => rfl) (fun k _ _ => ecr _ _ (by omega)) (Int.le_refl _)
  · have hc : ∀ b, ¬ (p ≤ b ∧ b ≤ p + 44) → mci (wI (mD M (o + 2) 0 (p + 2) 0 12) g) b 6 = mci M b 6 := fun b q => hF b 6 q
    have hp2 : ¬ (p ≤ 189 ∧ 189 ≤ p + 44) ∧ ¬ (p ≤ 191 ∧ 191 ≤ p + 44) ∧ ¬ (p ≤ 194 ∧ 194 ≤ p + 44) ∧ ¬ (p ≤ 197 ∧ 197 ≤ p + 44) := by unfold SB at hp; omega
    refine ⟨fun q hq => ?_, by rw [hc _ hp2.1]; exact hSk.2.1, by rw [hc _ hp2.2.1]; exact hSk.2.2.1, by rw [hc _ hp2.2.2.1]; exact hSk.2.2.2.1, by rw [hc _ hp2.2.2.2]; exact hSk.2.2.2.2⟩
    by_cases e : q = p
    · subst e
      rw [show q + 8 = q + 7 + 1 by omega, show q + 11 = q + 10 + 1 by omega]
      exact hsk
    · rw [hc _ (by unfold SB at hp hq; omega), hc _ (by unfold SB at hp hq; omega)]
      exact hSk.1 q hq
/-- a new object of which the component knows nothing -/
theorem CO.nw {t sl : Nat} {z : Int} (hC : CI M v n A hi vi tp sz fa N) : CO M v n A hi vi tp sz fa N 1 sl (mN M t z sl) := by
  have hk : ∀ P : Int → Prop, (∀ b, P b → ¬ b = (mnx M : Int)) → Kp P M (mN M t z sl) := fun P hP b hb => ⟨if_neg (hP b hb), fun k => if_neg (hP b hb), fun k => if_neg (hP b hb), fun k => if_neg (hP b hb)⟩
  have hL := hC.1.2.2.2.2.2
  exact ⟨hC.kp (hk _ fun b hb => by omega) (Nat.le_succ _), hk _ fun b hb => by omega, Nat.le_succ _, Nat.le_refl _, Nat.le_refl _⟩
/-- what was wrong is told -/
theorem CO.wr1 {x : Int} (hC : CI M v n A hi vi tp sz fa N) : CO M v n A hi vi tp sz x N 0 0 (mI M 0 13 x) := by
  obtain ⟨-, -, -, ⟨-, -, ⟨htp, hsz, hz⟩, -⟩⟩ := id hC
  exact hC.rd (g := mci (mI M 0 13 x)) (fun b k q1 q2 q3 => rdI_n q3) ((funext fun k => rdI_n (by omega)).trans htp) ((rdI_n (by omega)).trans hsz) hz (rdI_e ⟨rfl, rfl⟩)
theorem s_X1_bench (hd : 40 ≤ d) (hC : CI M v n A hi vi tp sz fa N) (hTpk : TpOk tp) : CS G d mX1_bench [dR 0] M (orT (postI fun y M1 => ∃ r, rBench tp sz v = .inr r ∧ ¬ v 1 = 12 ∧ y = v 1 + 1 ∧ CO M (bootV (us r.2 1 (v 1 + 1))) 0 A hi vi tp 0 (-1) N 42 168 M1) (fun a E M1 => (∃ f, rBench tp sz v = .inl f ∧ E = "java/lang/IllegalArgumentException" ∧ 0 ≤ a ∧ CO M v n A hi vi tp 0 f N 43 174 M1) ∨ (∃ r, rBench tp sz v = .inr r ∧ v 1 = 12 ∧ E = "java/lang/UnsupportedOperationException" ∧ CO M v n A hi vi tp 0 (-1) N 43 174 M1))) := by
  have hsz0 : 0 ≤ sz ∧ sz ≤ 400 := by
    obtain ⟨-, -, -, ⟨-, -, ⟨-, -, hz⟩, -⟩⟩ := id hC
    exact hz
  refine CS.mkQ (by decide) (Nat.le_of_ble_eq_true rfl) fun Q hQ => ?_
  have cov : ∀ (E : String) (pc : Nat), (pc < 10 ∨ 23 ≤ pc) → ∀ z ∈ mX1_bench.2.2.2.2, passH mX1_bench.1.cls E pc z := fun E pc hpc z hz => by
    have e := List.mem_singleton.mp hz
    subst e
    refine Or.inl ?_
    unfold covers
    simp
    omega
  have wrg : ∀ (M19 : Mem) (f : Int), rBench tp sz v = .inl f → mci M19 53 6 = f → CO M v n A hi vi tp 0 (-1) N 42 168 M19 → WP G d mX1_bench 26 [some (dR 0), some (dI sz), none, none] [dR 53] M19 Q := by
    intro M19 f hf h53 hco
    obtain ⟨hC9, hCr9⟩ := hco
    have s0 : msh M19 0 = some (1, 0) := hC9.1.1.1.1
    have s53 : msh M19 53 = some (7, 0) := hC9.1.1.2.2.2.2.2.2.2.2.1.2.2.2.2.2.2
    refine x_astore_n (L' := [some _, some _, none, some _]) dX1_bench_26 rfl (by decide) rfl ?_
    refine x_aload_n dX1_bench_27 rfl rfl ?_
    refine x_aload_n dX1_bench_28 rfl rfl ?_
    refine g_callR (vs := [_, _]) (d' := d - 1) rfl (s_X1_isWrong (by omega) s0 s53 h53) dX1_bench_29 kX1_143 (by omega) (by decide) rfl (Nat.le_of_ble_eq_true rfl) (rcv_o (by first | assumption | first | assumption | (simp (disch := omega) only [shI, shR, shL, shC, shD, shW, sh_V, shN_e, shN_n, crI, crL, crC, crW, crV, crR_e, crR_n, crN_e, crN_n, ciR, ciL, ciD, ciN_e, ciN_n, rdI_e, rdI_n, rdC_i, rdC_o, rdW, rdU_e, rdU_n, rdLW, clI, clR, clC, clD, clW, clV, clN_e, clN_n, clL_e, clL_n]; done) | (simp (disch := omega) only [shI, shR, shL, shC, shD, shW, sh_V, shN_e, shN_n, crI, crL, crC, crW, crV, crR_e, crR_n, crN_e, crN_n, ciR, ciL, ciD, ciN_e, ciN_n, rdI_e, rdI_n, rdC_i, rdC_o, rdW, rdU_e, rdU_n, rdLW, clI, clR, clC, clD, clW, clV, clN_e, clN_n, clL_e, clL_n] <;> first | assumption | rfl | omega)) rfl) (fun x29 M29 h29 => ?_)
    obtain ⟨e29, f29⟩ := h29
    subst e29
    subst f29
    refine x_athrowH (t := 18) (n := 0) (if_pos rfl) rfl dX1_bench_32 (th_out (cov _ _ (by omega)) (hQ _ _ (Or.inr ⟨_, _, rfl, Or.inl ⟨f, hf, rfl, by omega, ?_⟩⟩)))
    have h1 := CO.wr1 (x := f) hC9
    have h2 := CO.nw (t := 18) (z := 0) (sl := 6) h1.1
    exact CO.tr (hCr9.trans h1.2) h2
  have aft : ∀ (M19 : Mem) (r : Int × Vw), rBench tp sz v = .inr r → LnR M19 v r.2 N → CO M v n A hi vi tp 0 (-1) N 42 168 M19 → WP G d mX1_bench 33 [some (dR 0), some (dI sz), some (dR 8), none] [] M19 Q := by
    intro M19 r hr hln hco
    obtain ⟨hC, hCr⟩ := hco
    obtain ⟨hC1, hC54, hCA, hCR⟩ := id hC; obtain ⟨hS, hTab, hTx, hLn, hSk, hnx⟩ := id hC1; obtain ⟨hA, hL, hR⟩ := id hC54; obtain ⟨⟨s0, s199, s200, s201, s202, s203⟩, ⟨c0, c1, c2, c3, c4, c5, c6, c7, c8, c9, c10, c11, c12⟩, c203, hSt, m189, m191, g193, g196, ⟨⟨r2, r3, r4, r5, r6, r7, r53⟩, ⟨w0, w1, w2, w3, w4, w5, w6⟩, wx1, wx2, wx3⟩⟩ := id hS; have hv := hA.1; have hv8 := hv.n8; have hv0 := hv.1.1; have hv3 := hv.2.2.2.1; have hs54 := hSt 54 (by unfold SB; omega); obtain ⟨p0, p1, ⟨d0, d1, d2, d3, d4, d5, d6, d7⟩, ⟨t1, t2, t3, t4, t5, t6⟩, p5, p6, p7⟩ := id hs54; have t7 : msh (M19) (54 + 7) = some (4, 0) := p5.2.1; have t10 : msh (M19) (54 + 10) = some (4, 0) := p6.2.1; obtain ⟨hB, hW, hLw⟩ := id hR.1; obtain ⟨b1, b2, b3, b4, b5, b6, b7, b8, b9, b10, b11, b12, b13, b14, b15⟩ := id hB; obtain ⟨hn, hn2, hat, hAc⟩ := id hCA; obtain ⟨⟨hki, hhi⟩, hIm, ⟨htp, hsz, hsz2⟩, hfa⟩ := id hCR
    have hb := rBench_ok hsz0 hr hv
    have hb1 : r.2 1 = v 1 := hb.2 1 (by omega)
    have hv1 := hv.2.1
    by_cases h12 : v 1 = 12
    · refine x_aload_n dX1_bench_33 rfl rfl ?_
      refine g_getR (kI := 1) rfl dX1_bench_34 fX1_22_1 (by first | assumption | first | assumption | (simp (disch := omega) only [shI, shR, shL, shC, shD, shW, sh_V, shN_e, shN_n, crI, crL, crC, crW, crV, crR_e, crR_n, crN_e, crN_n, ciR, ciL, ciD, ciN_e, ciN_n, rdI_e, rdI_n, rdC_i, rdC_o, rdW, rdU_e, rdU_n, rdLW, clI, clR, clC, clD, clW, clV, clN_e, clN_n, clL_e, clL_n]; done) | (simp (disch := omega) only [shI, shR, shL, shC, shD, shW, sh_V, shN_e, shN_n, crI, crL, crC, crW, crV, crR_e, crR_n, crN_e, crN_n, ciR, ciL, ciD, ciN_e, ciN_n, rdI_e, rdI_n, rdC_i, rdC_o, rdW, rdU_e, rdU_n, rdLW, clI, clR, clC, clD, clW, clV, clN_e, clN_n, clL_e, clL_n] <;> first | assumption | rfl | omega)) (by first | assumption | first | assumption | (simp (disch := omega) only [shI, shR, shL, shC, shD, shW, sh_V, shN_e, shN_n, crI, crL, crC, crW, crV, crR_e, crR_n, crN_e, crN_n, ciR, ciL, ciD, ciN_e, ciN_n, rdI_e, rdI_n, rdC_i, rdC_o, rdW, rdU_e, rdU_n, rdLW, clI, clR, clC, clD, clW, clV, clN_e, clN_n, clL_e, clL_n]; done) | (simp (disch := omega) only [shI, shR, shL, shC, shD, shW, sh_V, shN_e, shN_n, crI, crL, crC, crW, crV, crR_e, crR_n, crN_e, crN_n, ciR, ciL, ciD, ciN_e, ciN_n, rdI_e, rdI_n, rdC_i, rdC_o, rdW, rdU_e, rdU_n, rdLW, clI, clR, clC, clD, clW, clV, clN_e, clN_n, clL_e, clL_n] <;> first | assumption | rfl | omega)) ?_
      refine g_getI (kI := 11) rfl dX1_bench_37 fX1_147_3 (by first | assumption | first | assumption | (simp (disch := omega) only [shI, shR, shL, shC, shD, shW, sh_V, shN_e, shN_n, crI, crL, crC, crW, crV, crR_e, crR_n, crN_e, crN_n, ciR, ciL, ciD, ciN_e, ciN_n, rdI_e, rdI_n, rdC_i, rdC_o, rdW, rdU_e, rdU_n, rdLW, clI, clR, clC, clD, clW, clV, clN_e, clN_n, clL_e, clL_n]; done) | (simp (disch := omega) only [shI, shR, shL, shC, shD, shW, sh_V, shN_e, shN_n, crI, crL, crC, crW, crV, crR_e, crR_n, crN_e, crN_n, ciR, ciL, ciD, ciN_e, ciN_n, rdI_e, rdI_n, rdC_i, rdC_o, rdW, rdU_e, rdU_n, rdLW, clI, clR, clC, clD, clW, clV, clN_e, clN_n, clL_e, clL_n] <;> first | assumption | rfl | omega)) ?_
      try simp (disch := omega) only [rdI_e, rdI_n, rdC_i, rdC_o, rdW, rdR, rdU_e, rdU_n, rdLW, Int.add_zero, b3]
      refine x_bipush dX1_bench_40 rfl ?_
      refine x_icmp_ge (tgt := 49) dX1_bench_42 (by decide) (fun h42 => ?_) (fun h42 => ?_)
      · refine x_iconst dX1_bench_49 rfl ?_
        refine g_callNX (vs := [_]) (d' := d - 1) rfl (s_X1_mayBe (by omega) (Or.inl rfl)) dX1_bench_50 kX1_150 (by omega) (by decide) rfl (Nat.le_of_ble_eq_true rfl) (rcv_n) (fun M50 h50 => ?_) (fun a50 E50 M50 h50 => ?_)
        · obtain ⟨q50, e50⟩ := h50
          exact absurd q50 (by decide)
          skip
        · obtain ⟨q50, eE50, eM50⟩ := h50
          subst eE50
          subst eM50
          exact th_out (cov _ _ (by omega)) (hQ _ _ (Or.inr ⟨_, _, rfl, Or.inr ⟨r, hr, h12, rfl, CO.tr hCr (CO.xx hC)⟩⟩))
      · omega
    · obtain ⟨l1, l2, l3, l4⟩ := hln
      have hBt : okB (us r.2 1 (v 1 + 1)) := hb.1.us (by omega)
      refine x_aload_n dX1_bench_33 rfl rfl ?_
      refine g_getR (kI := 1) rfl dX1_bench_34 fX1_22_1 (by first | assumption | first | assumption | (simp (disch := omega) only [shI, shR, shL, shC, shD, shW, sh_V, shN_e, shN_n, crI, crL, crC, crW, crV, crR_e, crR_n, crN_e, crN_n, ciR, ciL, ciD, ciN_e, ciN_n, rdI_e, rdI_n, rdC_i, rdC_o, rdW, rdU_e, rdU_n, rdLW, clI, clR, clC, clD, clW, clV, clN_e, clN_n, clL_e, clL_n]; done) | (simp (disch := omega) only [shI, shR, shL, shC, shD, shW, sh_V, shN_e, shN_n, crI, crL, crC, crW, crV, crR_e, crR_n, crN_e, crN_n, ciR, ciL, ciD, ciN_e, ciN_n, rdI_e, rdI_n, rdC_i, rdC_o, rdW, rdU_e, rdU_n, rdLW, clI, clR, clC, clD, clW, clV, clN_e, clN_n, clL_e, clL_n] <;> first | assumption | rfl | omega)) (by first | assumption | first | assumption | (simp (disch := omega) only [shI, shR, shL, shC, shD, shW, sh_V, shN_e, shN_n, crI, crL, crC, crW, crV, crR_e, crR_n, crN_e, crN_n, ciR, ciL, ciD, ciN_e, ciN_n, rdI_e, rdI_n, rdC_i, rdC_o, rdW, rdU_e, rdU_n, rdLW, clI, clR, clC, clD, clW, clV, clN_e, clN_n, clL_e, clL_n]; done) | (simp (disch := omega) only [shI, shR, shL, shC, shD, shW, sh_V, shN_e, shN_n, crI, crL, crC, crW, crV, crR_e, crR_n, crN_e, crN_n, ciR, ciL, ciD, ciN_e, ciN_n, rdI_e, rdI_n, rdC_i, rdC_o, rdW, rdU_e, rdU_n, rdLW, clI, clR, clC, clD, clW, clV, clN_e, clN_n, clL_e, clL_n] <;> first | assumption | rfl | omega)) ?_
      refine g_getI (kI := 11) rfl dX1_bench_37 fX1_147_3 (by first | assumption | first | assumption | (simp (disch := omega) only [shI, shR, shL, shC, shD, shW, sh_V, shN_e, shN_n, crI, crL, crC, crW, crV, crR_e, crR_n, crN_e, crN_n, ciR, ciL, ciD, ciN_e, ciN_n, rdI_e, rdI_n, rdC_i, rdC_o, rdW, rdU_e, rdU_n, rdLW, clI, clR, clC, clD, clW, clV, clN_e, clN_n, clL_e, clL_n]; done) | (simp (disch := omega) only [shI, shR, shL, shC, shD, shW, sh_V, shN_e, shN_n, crI, crL, crC, crW, crV, crR_e, crR_n, crN_e, crN_n, ciR, ciL, ciD, ciN_e, ciN_n, rdI_e, rdI_n, rdC_i, rdC_o, rdW, rdU_e, rdU_n, rdLW, clI, clR, clC, clD, clW, clV, clN_e, clN_n, clL_e, clL_n] <;> first | assumption | rfl | omega)) ?_
      try simp (disch := omega) only [rdI_e, rdI_n, rdC_i, rdC_o, rdW, rdR, rdU_e, rdU_n, rdLW, Int.add_zero, e11]
      refine x_bipush dX1_bench_40 rfl ?_
      refine x_icmp_ge (tgt := 49) dX1_bench_42 (by decide) (fun h42 => ?_) (fun h42 => ?_)
      · omega
      · refine x_iconst dX1_bench_45 rfl ?_
        refine x_goto (tgt := 50) dX1_bench_46 (by decide) ?_
        refine g_callNX (vs := [_]) (d' := d - 1) rfl (s_X1_mayBe (by omega) (Or.inr rfl)) dX1_bench_50 kX1_150 (by omega) (by decide) rfl (Nat.le_of_ble_eq_true rfl) (rcv_n) (fun M50 h50 => ?_) (fun a50 E50 M50 h50 => ?_)
        · obtain ⟨q50, e50⟩ := h50
          subst e50
          refine x_aload_n dX1_bench_53 rfl rfl ?_
          refine g_getR (kI := 1) rfl dX1_bench_54 fX1_22_1 (by first | assumption | first | assumption | (simp (disch := omega) only [shI, shR, shL, shC, shD, shW, sh_V, shN_e, shN_n, crI, crL, crC, crW, crV, crR_e, crR_n, crN_e, crN_n, ciR, ciL, ciD, ciN_e, ciN_n, rdI_e, rdI_n, rdC_i, rdC_o, rdW, rdU_e, rdU_n, rdLW, clI, clR, clC, clD, clW, clV, clN_e, clN_n, clL_e, clL_n]; done) | (simp (disch := omega) only [shI, shR, shL, shC, shD, shW, sh_V, shN_e, shN_n, crI, crL, crC, crW, crV, crR_e, crR_n, crN_e, crN_n, ciR, ciL, ciD, ciN_e, ciN_n, rdI_e, rdI_n, rdC_i, rdC_o, rdW, rdU_e, rdU_n, rdLW, clI, clR, clC, clD, clW, clV, clN_e, clN_n, clL_e, clL_n] <;> first | assumption | rfl | omega)) (by first | assumption | first | assumption | (simp (disch := omega) only [shI, shR, shL, shC, shD, shW, sh_V, shN_e, shN_n, crI, crL, crC, crW, crV, crR_e, crR_n, crN_e, crN_n, ciR, ciL, ciD, ciN_e, ciN_n, rdI_e, rdI_n, rdC_i, rdC_o, rdW, rdU_e, rdU_n, rdLW, clI, clR, clC, clD, clW, clV, clN_e, clN_n, clL_e, clL_n]; done) | (simp (disch := omega) only [shI, shR, shL, shC, shD, shW, sh_V, shN_e, shN_n, crI, crL, crC, crW, crV, crR_e, crR_n, crN_e, crN_n, ciR, ciL, ciD, ciN_e, ciN_n, rdI_e, rdI_n, rdC_i, rdC_o, rdW, rdU_e, rdU_n, rdLW, clI, clR, clC, clD, clW, clV, clN_e, clN_n, clL_e, clL_n] <;> first | assumption | rfl | omega)) ?_
          refine x_aload_n dX1_bench_57 rfl rfl ?_
          refine g_callN (vs := [_, _]) (d' := d - 1) rfl (beD_ok (p := 54) (o := 8) (by omega) hC1 (by unfold SB; omega) (by unfold SB; omega) (by omega) l1 hb.1 l2 l3 l4) dX1_bench_58 kX1_153 (by omega) (by decide) rfl (Nat.le_of_ble_eq_true rfl) (rcv_o (by first | assumption | first | assumption | (simp (disch := omega) only [shI, shR, shL, shC, shD, shW, sh_V, shN_e, shN_n, crI, crL, crC, crW, crV, crR_e, crR_n, crN_e, crN_n, ciR, ciL, ciD, ciN_e, ciN_n, rdI_e, rdI_n, rdC_i, rdC_o, rdW, rdU_e, rdU_n, rdLW, clI, clR, clC, clD, clW, clV, clN_e, clN_n, clL_e, clL_n]; done) | (simp (disch := omega) only [shI, shR, shL, shC, shD, shW, sh_V, shN_e, shN_n, crI, crL, crC, crW, crV, crR_e, crR_n, crN_e, crN_n, ciR, ciL, ciD, ciN_e, ciN_n, rdI_e, rdI_n, rdC_i, rdC_o, rdW, rdU_e, rdU_n, rdLW, clI, clR, clC, clD, clW, clV, clN_e, clN_n, clL_e, clL_n] <;> first | assumption | rfl | omega)) rfl) (fun M58 h58 => ?_)
          obtain ⟨⟨g58, hM58⟩, f58, q58, ⟨y1, y2, y3, y4⟩, z58⟩ := h58
          have s0' : msh M58 0 = some (1, 0) := q58.1.1.1
          have c1' : mcr M58 0 1 = some 54 := q58.1.2.1.2.1
          have hs54' := q58.1.2.2.2.1 54 (by unfold SB; omega)
          have p1' : msh M58 54 = some (3, 0) := hs54'.2.1
          have d6' : mcr M58 54 6 = some (54 + 7) := hs54'.2.2.1.2.2.2.2.2.2.1
          have d7' : mcr M58 54 7 = some (54 + 10) := hs54'.2.2.1.2.2.2.2.2.2.2
          have e11 : mci M58 54 11 = v 1 := y1.2.2.1.trans hb1
          refine x_aload_n dX1_bench_61 rfl rfl ?_
          refine g_getR (kI := 1) rfl dX1_bench_62 fX1_22_1 (by first | assumption | first | assumption | (simp (disch := omega) only [shI, shR, shL, shC, shD, shW, sh_V, shN_e, shN_n, crI, crL, crC, crW, crV, crR_e, crR_n, crN_e, crN_n, ciR, ciL, ciD, ciN_e, ciN_n, rdI_e, rdI_n, rdC_i, rdC_o, rdW, rdU_e, rdU_n, rdLW, clI, clR, clC, clD, clW, clV, clN_e, clN_n, clL_e, clL_n]; done) | (simp (disch := omega) only [shI, shR, shL, shC, shD, shW, sh_V, shN_e, shN_n, crI, crL, crC, crW, crV, crR_e, crR_n, crN_e, crN_n, ciR, ciL, ciD, ciN_e, ciN_n, rdI_e, rdI_n, rdC_i, rdC_o, rdW, rdU_e, rdU_n, rdLW, clI, clR, clC, clD, clW, clV, clN_e, clN_n, clL_e, clL_n] <;> first | assumption | rfl | omega)) (by first | assumption | first | assumption | (simp (disch := omega) only [shI, shR, shL, shC, shD, shW, sh_V, shN_e, shN_n, crI, crL, crC, crW, crV, crR_e, crR_n, crN_e, crN_n, ciR, ciL, ciD, ciN_e, ciN_n, rdI_e, rdI_n, rdC_i, rdC_o, rdW, rdU_e, rdU_n, rdLW, clI, clR, clC, clD, clW, clV, clN_e, clN_n, clL_e, clL_n]; done) | (simp (disch := omega) only [shI, shR, shL, shC, shD, shW, sh_V, shN_e, shN_n, crI, crL, crC, crW, crV, crR_e, crR_n, crN_e, crN_n, ciR, ciL, ciD, ciN_e, ciN_n, rdI_e, rdI_n, rdC_i, rdC_o, rdW, rdU_e, rdU_n, rdLW, clI, clR, clC, clD, clW, clV, clN_e, clN_n, clL_e, clL_n] <;> first | assumption | rfl | omega)) ?_
          refine x_dup dX1_bench_65 rfl ?_
          refine g_getI (kI := 11) rfl dX1_bench_66 fX1_147_3 (by first | assumption | first | assumption | (simp (disch := omega) only [shI, shR, shL, shC, shD, shW, sh_V, shN_e, shN_n, crI, crL, crC, crW, crV, crR_e, crR_n, crN_e, crN_n, ciR, ciL, ciD, ciN_e, ciN_n, rdI_e, rdI_n, rdC_i, rdC_o, rdW, rdU_e, rdU_n, rdLW, clI, clR, clC, clD, clW, clV, clN_e, clN_n, clL_e, clL_n]; done) | (simp (disch := omega) only [shI, shR, shL, shC, shD, shW, sh_V, shN_e, shN_n, crI, crL, crC, crW, crV, crR_e, crR_n, crN_e, crN_n, ciR, ciL, ciD, ciN_e, ciN_n, rdI_e, rdI_n, rdC_i, rdC_o, rdW, rdU_e, rdU_n, rdLW, clI, clR, clC, clD, clW, clV, clN_e, clN_n, clL_e, clL_n] <;> first | assumption | rfl | omega)) ?_
          try simp (disch := omega) only [rdI_e, rdI_n, rdC_i, rdC_o, rdW, rdR, rdU_e, rdU_n, rdLW, Int.add_zero, e11]
          refine x_iconst dX1_bench_69 rfl ?_
          first | refine x_iaddN dX1_bench_70 (by unfold i32; omega) ?_ | refine x_iadd dX1_bench_70 ?_
          refine g_putI (kI := 11) rfl dX1_bench_71 fX1_147_3 (by first | assumption | first | assumption | (simp (disch := omega) only [shI, shR, shL, shC, shD, shW, sh_V, shN_e, shN_n, crI, crL, crC, crW, crV, crR_e, crR_n, crN_e, crN_n, ciR, ciL, ciD, ciN_e, ciN_n, rdI_e, rdI_n, rdC_i, rdC_o, rdW, rdU_e, rdU_n, rdLW, clI, clR, clC, clD, clW, clV, clN_e, clN_n, clL_e, clL_n]; done) | (simp (disch := omega) only [shI, shR, shL, shC, shD, shW, sh_V, shN_e, shN_n, crI, crL, crC, crW, crV, crR_e, crR_n, crN_e, crN_n, ciR, ciL, ciD, ciN_e, ciN_n, rdI_e, rdI_n, rdC_i, rdC_o, rdW, rdU_e, rdU_n, rdLW, clI, clR, clC, clD, clW, clV, clN_e, clN_n, clL_e, clL_n] <;> first | assumption | rfl | omega)) ?_
          refine x_aload_n dX1_bench_74 rfl rfl ?_
          refine x_iconst dX1_bench_75 rfl ?_
          refine g_putI (kI := 14) rfl dX1_bench_76 fX1_157_1 (by first | assumption | first | assumption | (simp (disch := omega) only [shI, shR, shL, shC, shD, shW, sh_V, shN_e, shN_n, crI, crL, crC, crW, crV, crR_e, crR_n, crN_e, crN_n, ciR, ciL, ciD, ciN_e, ciN_n, rdI_e, rdI_n, rdC_i, rdC_o, rdW, rdU_e, rdU_n, rdLW, clI, clR, clC, clD, clW, clV, clN_e, clN_n, clL_e, clL_n]; done) | (simp (disch := omega) only [shI, shR, shL, shC, shD, shW, sh_V, shN_e, shN_n, crI, crL, crC, crW, crV, crR_e, crR_n, crN_e, crN_n, ciR, ciL, ciD, ciN_e, ciN_n, rdI_e, rdI_n, rdC_i, rdC_o, rdW, rdU_e, rdU_n, rdLW, clI, clR, clC, clD, clW, clV, clN_e, clN_n, clL_e, clL_n] <;> first | assumption | rfl | omega)) ?_
          refine x_aload_n dX1_bench_79 rfl rfl ?_
          have hBb : RelB (mci (mI (mI M58 54 11 (v 1 + 1)) 0 14 0)) 54 (us r.2 1 (v 1 + 1)) N := RelB.at (f := mci (mI M58 54 11 (v 1 + 1))) (y1.ch (q := 0) hb.1 (Or.inl ⟨rfl, rfl, rfl, rfl⟩)) (fun b k a _ _ => rdI_n (by omega)) hBt.n8
          have ef : ∀ b k, ¬ (b = 54 ∧ k = 11) → ¬ (b = 0 ∧ k = 14) → mci (mI (mI M58 54 11 (v 1 + 1)) 0 14 0) b k = mci M58 b k := fun b k x y => (rdI_n (by omega)).trans (rdI_n (by omega))
          have hSk' : SkI (mci (mI (mI M58 54 11 (v 1 + 1)) 0 14 0)) := q58.2.2.2.2.1.wr fun b => Or.inl (ef b 6 (by omega) (by omega))
          have hTab' : TabS (msh (mI (mI M58 54 11 (v 1 + 1)) 0 14 0)) (mci (mI (mI M58 54 11 (v 1 + 1)) 0 14 0)) := ⟨q58.2.1.1, fun p k a b c e => (ef _ _ (by omega) (by omega)).trans (q58.2.1.2 p k a b c e)⟩
          refine g_callN (vs := [_]) (d' := d - 1) rfl (s_X1_allTried (M := mI (mI M58 54 11 (v 1 + 1)) 0 14 0) (by omega) q58.1 hTab' hSk' hBb hBt) dX1_bench_80 kX1_160 (by omega) (by decide) rfl (Nat.le_of_ble_eq_true rfl) (rcv_o (by first | assumption | first | assumption | (simp (disch := omega) only [shI, shR, shL, shC, shD, shW, sh_V, shN_e, shN_n, crI, crL, crC, crW, crV, crR_e, crR_n, crN_e, crN_n, ciR, ciL, ciD, ciN_e, ciN_n, rdI_e, rdI_n, rdC_i, rdC_o, rdW, rdU_e, rdU_n, rdLW, clI, clR, clC, clD, clW, clV, clN_e, clN_n, clL_e, clL_n]; done) | (simp (disch := omega) only [shI, shR, shL, shC, shD, shW, sh_V, shN_e, shN_n, crI, crL, crC, crW, crV, crR_e, crR_n, crN_e, crN_n, ciR, ciL, ciD, ciN_e, ciN_n, rdI_e, rdI_n, rdC_i, rdC_o, rdW, rdU_e, rdU_n, rdLW, clI, clR, clC, clD, clW, clV, clN_e, clN_n, clL_e, clL_n] <;> first | assumption | rfl | omega)) rfl) (fun M80 h80 => ?_)
          obtain ⟨g80, hM80, a80⟩ := h80
          subst hM80
          have eg : ∀ b i, ¬ (189 ≤ b ∧ b ≤ 192) → ¬ (67 ≤ b ∧ b ≤ 98) → ¬ (b = 54 ∧ i = 11) → ¬ (b = 0 ∧ i = 14) → g80 b i = mci M58 b i := fun b i q1 q2 q3 q4 => (a80.2.1 b i q1 (by omega)).trans (ef b i q3 q4)
          have hB8 : RelB g80 54 (us r.2 1 (v 1 + 1)) N := hBb.wt (fun b k q1 q2 q3 => a80.2.1 b k (by omega) (by omega)) hBt.n8
          have eL : ∀ k, 368 ≤ k → k < 1217 → us r.2 1 (v 1 + 1) k = v k := fun k a b => (us_n (by omega)).trans (hb.2 k (by omega))
          have e2 : us r.2 1 (v 1 + 1) 2 = v 2 := (us_n (by omega)).trans (hb.2 2 (by omega))
          have hL8 : LawR (msh M58) g80 (mcr M58) 761 (mnx M58) 54 (us r.2 1 (v 1 + 1)) := (y2.same (fun a a1 a2 => ⟨rfl, fun k => eg _ _ (by omega) (by omega) (by omega) (by omega), fun k => rfl⟩) (Int.le_refl _) (eg _ _ (by omega) (by omega) (by omega) (by omega)) fun n => rfl).lo hL e2 eL
          refine x_aload_n dX1_bench_83 rfl rfl ?_
          refine g_getR (kI := 1) rfl dX1_bench_84 fX1_22_1 (by first | assumption | first | assumption | (simp (disch := omega) only [shI, shR, shL, shC, shD, shW, sh_V, shN_e, shN_n, crI, crL, crC, crW, crV, crR_e, crR_n, crN_e, crN_n, ciR, ciL, ciD, ciN_e, ciN_n, rdI_e, rdI_n, rdC_i, rdC_o, rdW, rdU_e, rdU_n, rdLW, clI, clR, clC, clD, clW, clV, clN_e, clN_n, clL_e, clL_n]; done) | (simp (disch := omega) only [shI, shR, shL, shC, shD, shW, sh_V, shN_e, shN_n, crI, crL, crC, crW, crV, crR_e, crR_n, crN_e, crN_n, ciR, ciL, ciD, ciN_e, ciN_n, rdI_e, rdI_n, rdC_i, rdC_o, rdW, rdU_e, rdU_n, rdLW, clI, clR, clC, clD, clW, clV, clN_e, clN_n, clL_e, clL_n] <;> first | assumption | rfl | omega)) (by first | assumption | first | assumption | (simp (disch := omega) only [shI, shR, shL, shC, shD, shW, sh_V, shN_e, shN_n, crI, crL, crC, crW, crV, crR_e, crR_n, crN_e, crN_n, ciR, ciL, ciD, ciN_e, ciN_n, rdI_e, rdI_n, rdC_i, rdC_o, rdW, rdU_e, rdU_n, rdLW, clI, clR, clC, clD, clW, clV, clN_e, clN_n, clL_e, clL_n]; done) | (simp (disch := omega) only [shI, shR, shL, shC, shD, shW, sh_V, shN_e, shN_n, crI, crL, crC, crW, crV, crR_e, crR_n, crN_e, crN_n, ciR, ciL, ciD, ciN_e, ciN_n, rdI_e, rdI_n, rdC_i, rdC_o, rdW, rdU_e, rdU_n, rdLW, clI, clR, clC, clD, clW, clV, clN_e, clN_n, clL_e, clL_n] <;> first | assumption | rfl | omega)) ?_
          refine x_aload_n dX1_bench_87 rfl rfl ?_
          refine g_getR (kI := 1) rfl dX1_bench_88 fX1_22_1 (by first | assumption | first | assumption | (simp (disch := omega) only [shI, shR, shL, shC, shD, shW, sh_V, shN_e, shN_n, crI, crL, crC, crW, crV, crR_e, crR_n, crN_e, crN_n, ciR, ciL, ciD, ciN_e, ciN_n, rdI_e, rdI_n, rdC_i, rdC_o, rdW, rdU_e, rdU_n, rdLW, clI, clR, clC, clD, clW, clV, clN_e, clN_n, clL_e, clL_n]; done) | (simp (disch := omega) only [shI, shR, shL, shC, shD, shW, sh_V, shN_e, shN_n, crI, crL, crC, crW, crV, crR_e, crR_n, crN_e, crN_n, ciR, ciL, ciD, ciN_e, ciN_n, rdI_e, rdI_n, rdC_i, rdC_o, rdW, rdU_e, rdU_n, rdLW, clI, clR, clC, clD, clW, clV, clN_e, clN_n, clL_e, clL_n] <;> first | assumption | rfl | omega)) (by first | assumption | first | assumption | (simp (disch := omega) only [shI, shR, shL, shC, shD, shW, sh_V, shN_e, shN_n, crI, crL, crC, crW, crV, crR_e, crR_n, crN_e, crN_n, ciR, ciL, ciD, ciN_e, ciN_n, rdI_e, rdI_n, rdC_i, rdC_o, rdW, rdU_e, rdU_n, rdLW, clI, clR, clC, clD, clW, clV, clN_e, clN_n, clL_e, clL_n]; done) | (simp (disch := omega) only [shI, shR, shL, shC, shD, shW, sh_V, shN_e, shN_n, crI, crL, crC, crW, crV, crR_e, crR_n, crN_e, crN_n, ciR, ciL, ciD, ciN_e, ciN_n, rdI_e, rdI_n, rdC_i, rdC_o, rdW, rdU_e, rdU_n, rdLW, clI, clR, clC, clD, clW, clV, clN_e, clN_n, clL_e, clL_n] <;> first | assumption | rfl | omega)) ?_
          refine g_getR (kI := 6) rfl dX1_bench_91 fX1_76_3 (by first | assumption | first | assumption | (simp (disch := omega) only [shI, shR, shL, shC, shD, shW, sh_V, shN_e, shN_n, crI, crL, crC, crW, crV, crR_e, crR_n, crN_e, crN_n, ciR, ciL, ciD, ciN_e, ciN_n, rdI_e, rdI_n, rdC_i, rdC_o, rdW, rdU_e, rdU_n, rdLW, clI, clR, clC, clD, clW, clV, clN_e, clN_n, clL_e, clL_n]; done) | (simp (disch := omega) only [shI, shR, shL, shC, shD, shW, sh_V, shN_e, shN_n, crI, crL, crC, crW, crV, crR_e, crR_n, crN_e, crN_n, ciR, ciL, ciD, ciN_e, ciN_n, rdI_e, rdI_n, rdC_i, rdC_o, rdW, rdU_e, rdU_n, rdLW, clI, clR, clC, clD, clW, clV, clN_e, clN_n, clL_e, clL_n] <;> first | assumption | rfl | omega)) (by first | assumption | first | assumption | (simp (disch := omega) only [shI, shR, shL, shC, shD, shW, sh_V, shN_e, shN_n, crI, crL, crC, crW, crV, crR_e, crR_n, crN_e, crN_n, ciR, ciL, ciD, ciN_e, ciN_n, rdI_e, rdI_n, rdC_i, rdC_o, rdW, rdU_e, rdU_n, rdLW, clI, clR, clC, clD, clW, clV, clN_e, clN_n, clL_e, clL_n]; done) | (simp (disch := omega) only [shI, shR, shL, shC, shD, shW, sh_V, shN_e, shN_n, crI, crL, crC, crW, crV, crR_e, crR_n, crN_e, crN_n, ciR, ciL, ciD, ciN_e, ciN_n, rdI_e, rdI_n, rdC_i, rdC_o, rdW, rdU_e, rdU_n, rdLW, clI, clR, clC, clD, clW, clV, clN_e, clN_n, clL_e, clL_n] <;> first | assumption | rfl | omega)) ?_
          refine x_aload_n dX1_bench_94 rfl rfl ?_
          refine g_getR (kI := 1) rfl dX1_bench_95 fX1_22_1 (by first | assumption | first | assumption | (simp (disch := omega) only [shI, shR, shL, shC, shD, shW, sh_V, shN_e, shN_n, crI, crL, crC, crW, crV, crR_e, crR_n, crN_e, crN_n, ciR, ciL, ciD, ciN_e, ciN_n, rdI_e, rdI_n, rdC_i, rdC_o, rdW, rdU_e, rdU_n, rdLW, clI, clR, clC, clD, clW, clV, clN_e, clN_n, clL_e, clL_n]; done) | (simp (disch := omega) only [shI, shR, shL, shC, shD, shW, sh_V, shN_e, shN_n, crI, crL, crC, crW, crV, crR_e, crR_n, crN_e, crN_n, ciR, ciL, ciD, ciN_e, ciN_n, rdI_e, rdI_n, rdC_i, rdC_o, rdW, rdU_e, rdU_n, rdLW, clI, clR, clC, clD, clW, clV, clN_e, clN_n, clL_e, clL_n] <;> first | assumption | rfl | omega)) (by first | assumption | first | assumption | (simp (disch := omega) only [shI, shR, shL, shC, shD, shW, sh_V, shN_e, shN_n, crI, crL, crC, crW, crV, crR_e, crR_n, crN_e, crN_n, ciR, ciL, ciD, ciN_e, ciN_n, rdI_e, rdI_n, rdC_i, rdC_o, rdW, rdU_e, rdU_n, rdLW, clI, clR, clC, clD, clW, clV, clN_e, clN_n, clL_e, clL_n]; done) | (simp (disch := omega) only [shI, shR, shL, shC, shD, shW, sh_V, shN_e, shN_n, crI, crL, crC, crW, crV, crR_e, crR_n, crN_e, crN_n, ciR, ciL, ciD, ciN_e, ciN_n, rdI_e, rdI_n, rdC_i, rdC_o, rdW, rdU_e, rdU_n, rdLW, clI, clR, clC, clD, clW, clV, clN_e, clN_n, clL_e, clL_n] <;> first | assumption | rfl | omega)) ?_
          refine g_getR (kI := 7) rfl dX1_bench_98 fX1_79_3 (by first | assumption | first | assumption | (simp (disch := omega) only [shI, shR, shL, shC, shD, shW, sh_V, shN_e, shN_n, crI, crL, crC, crW, crV, crR_e, crR_n, crN_e, crN_n, ciR, ciL, ciD, ciN_e, ciN_n, rdI_e, rdI_n, rdC_i, rdC_o, rdW, rdU_e, rdU_n, rdLW, clI, clR, clC, clD, clW, clV, clN_e, clN_n, clL_e, clL_n]; done) | (simp (disch := omega) only [shI, shR, shL, shC, shD, shW, sh_V, shN_e, shN_n, crI, crL, crC, crW, crV, crR_e, crR_n, crN_e, crN_n, ciR, ciL, ciD, ciN_e, ciN_n, rdI_e, rdI_n, rdC_i, rdC_o, rdW, rdU_e, rdU_n, rdLW, clI, clR, clC, clD, clW, clV, clN_e, clN_n, clL_e, clL_n] <;> first | assumption | rfl | omega)) (by first | assumption | first | assumption | (simp (disch := omega) only [shI, shR, shL, shC, shD, shW, sh_V, shN_e, shN_n, crI, crL, crC, crW, crV, crR_e, crR_n, crN_e, crN_n, ciR, ciL, ciD, ciN_e, ciN_n, rdI_e, rdI_n, rdC_i, rdC_o, rdW, rdU_e, rdU_n, rdLW, clI, clR, clC, clD, clW, clV, clN_e, clN_n, clL_e, clL_n]; done) | (simp (disch := omega) only [shI, shR, shL, shC, shD, shW, sh_V, shN_e, shN_n, crI, crL, crC, crW, crV, crR_e, crR_n, crN_e, crN_n, ciR, ciL, ciD, ciN_e, ciN_n, rdI_e, rdI_n, rdC_i, rdC_o, rdW, rdU_e, rdU_n, rdLW, clI, clR, clC, clD, clW, clV, clN_e, clN_n, clL_e, clL_n] <;> first | assumption | rfl | omega)) ?_
          refine g_callN (vs := [_, _, _]) (d' := d - 1) rfl (s_X3_boots (M := wI (mI (mI M58 54 11 (v 1 + 1)) 0 14 0) g80) (by omega) hs54' hs54'.2.2.2.2.1 hs54'.2.2.2.2.2.1 hB8 hBt (Or.inl rfl) (Or.inr (Or.inl rfl)) (by omega)) dX1_bench_101 kX1_82 (by omega) (by decide) rfl (Nat.le_of_ble_eq_true rfl) (rcv_o (by first | assumption | first | assumption | (simp (disch := omega) only [shI, shR, shL, shC, shD, shW, sh_V, shN_e, shN_n, crI, crL, crC, crW, crV, crR_e, crR_n, crN_e, crN_n, ciR, ciL, ciD, ciN_e, ciN_n, rdI_e, rdI_n, rdC_i, rdC_o, rdW, rdU_e, rdU_n, rdLW, clI, clR, clC, clD, clW, clV, clN_e, clN_n, clL_e, clL_n]; done) | (simp (disch := omega) only [shI, shR, shL, shC, shD, shW, sh_V, shN_e, shN_n, crI, crL, crC, crW, crV, crR_e, crR_n, crN_e, crN_n, ciR, ciL, ciD, ciN_e, ciN_n, rdI_e, rdI_n, rdC_i, rdC_o, rdW, rdU_e, rdU_n, rdLW, clI, clR, clC, clD, clW, clV, clN_e, clN_n, clL_e, clL_n] <;> first | assumption | rfl | omega)) rfl) (fun M101 h101 => ?_)
          obtain ⟨g101, hM101, a101, b101, f101⟩ := h101
          subst hM101
          have hRS : RelS (msh (wI (mI (mI M58 54 11 (v 1 + 1)) 0 14 0) g80)) (mci (wI (mI (mI M58 54 11 (v 1 + 1)) 0 14 0) g80)) (mcr (wI (mI (mI M58 54 11 (v 1 + 1)) 0 14 0) g80)) 761 (mnx M58) 54 (us r.2 1 (v 1 + 1)) N := ⟨hB8, a80.wit, hL8⟩
          have eh : ∀ b i, ¬ (189 ≤ b ∧ b ≤ 192) → ¬ (54 ≤ b ∧ b ≤ 98) → ¬ (b = 0 ∧ i = 14) → g101 b i = mci M58 b i := fun b i q1 q2 q3 => (f101 b i (by omega) (by omega)).trans (eg b i q1 (by omega) (by omega) q3)
          have hRA : RelA (msh M58) g101 (mcr M58) 761 (mnx M58) 54 (bootV (us r.2 1 (v 1 + 1))) N := by
            refine ⟨?_, RelG.boot (f := g80) (Or.inl rfl) a101 (by rw [eg _ _ (by omega) (by omega) (by omega) (by omega)]; exact y3), ?_⟩
            · have h := hRS.fr (g := g101) hBt (fun b k q1 q2 q3 => f101 b k (by omega) (by omega)) (by omega)
              exact h.eqB hBt bootV_eqB
            · rw [bootV_eqB 5 (by omega)]
              exact RelG.boot (f := g80) (Or.inr rfl) b101 (by rw [eg _ _ (by omega) (by omega) (by omega) (by omega)]; exact y4)
          have eB : ∀ k, ¬ (102 ≤ k ∧ k < 128) → bootV (us r.2 1 (v 1 + 1)) k = us r.2 1 (v 1 + 1) k := fun k q => bootV_eqB k q
          have e11' : g101 54 11 = v 1 + 1 := hRA.1.1.2.2.1.trans ((eB 1 (by omega)).trans (us_e rfl))
          have hLn8 : lawOK (bootV (us r.2 1 (v 1 + 1))) := hL.lo ((eB 2 (by omega)).trans e2) fun k a b => (eB k (by omega)).trans (eL k a b)
          refine x_aload_n dX1_bench_104 rfl rfl ?_
          refine g_getR (kI := 1) rfl dX1_bench_105 fX1_22_1 (by first | assumption | first | assumption | (simp (disch := omega) only [shI, shR, shL, shC, shD, shW, sh_V, shN_e, shN_n, crI, crL, crC, crW, crV, crR_e, crR_n, crN_e, crN_n, ciR, ciL, ciD, ciN_e, ciN_n, rdI_e, rdI_n, rdC_i, rdC_o, rdW, rdU_e, rdU_n, rdLW, clI, clR, clC, clD, clW, clV, clN_e, clN_n, clL_e, clL_n]; done) | (simp (disch := omega) only [shI, shR, shL, shC, shD, shW, sh_V, shN_e, shN_n, crI, crL, crC, crW, crV, crR_e, crR_n, crN_e, crN_n, ciR, ciL, ciD, ciN_e, ciN_n, rdI_e, rdI_n, rdC_i, rdC_o, rdW, rdU_e, rdU_n, rdLW, clI, clR, clC, clD, clW, clV, clN_e, clN_n, clL_e, clL_n] <;> first | assumption | rfl | omega)) (by first | assumption | first | assumption | (simp (disch := omega) only [shI, shR, shL, shC, shD, shW, sh_V, shN_e, shN_n, crI, crL, crC, crW, crV, crR_e, crR_n, crN_e, crN_n, ciR, ciL, ciD, ciN_e, ciN_n, rdI_e, rdI_n, rdC_i, rdC_o, rdW, rdU_e, rdU_n, rdLW, clI, clR, clC, clD, clW, clV, clN_e, clN_n, clL_e, clL_n]; done) | (simp (disch := omega) only [shI, shR, shL, shC, shD, shW, sh_V, shN_e, shN_n, crI, crL, crC, crW, crV, crR_e, crR_n, crN_e, crN_n, ciR, ciL, ciD, ciN_e, ciN_n, rdI_e, rdI_n, rdC_i, rdC_o, rdW, rdU_e, rdU_n, rdLW, clI, clR, clC, clD, clW, clV, clN_e, clN_n, clL_e, clL_n] <;> first | assumption | rfl | omega)) ?_
          refine g_getI (kI := 11) rfl dX1_bench_108 fX1_147_3 (by first | assumption | first | assumption | (simp (disch := omega) only [shI, shR, shL, shC, shD, shW, sh_V, shN_e, shN_n, crI, crL, crC, crW, crV, crR_e, crR_n, crN_e, crN_n, ciR, ciL, ciD, ciN_e, ciN_n, rdI_e, rdI_n, rdC_i, rdC_o, rdW, rdU_e, rdU_n, rdLW, clI, clR, clC, clD, clW, clV, clN_e, clN_n, clL_e, clL_n]; done) | (simp (disch := omega) only [shI, shR, shL, shC, shD, shW, sh_V, shN_e, shN_n, crI, crL, crC, crW, crV, crR_e, crR_n, crN_e, crN_n, ciR, ciL, ciD, ciN_e, ciN_n, rdI_e, rdI_n, rdC_i, rdC_o, rdW, rdU_e, rdU_n, rdLW, clI, clR, clC, clD, clW, clV, clN_e, clN_n, clL_e, clL_n] <;> first | assumption | rfl | omega)) ?_
          try simp (disch := omega) only [rdI_e, rdI_n, rdC_i, rdC_o, rdW, rdR, rdU_e, rdU_n, rdLW, Int.add_zero, e11]
          rw [e11']
          refine x_ireturn rfl dX1_bench_111 ?_
          have hSk9 : SkI g101 := by
            have hI := q58.2.2.2.2.1
            have hsk := hRA.sk
            refine ⟨fun p hp => ?_, by rw [f101 _ _ (by omega) (by omega)]; exact a80.1.1, by rw [f101 _ _ (by omega) (by omega)]; exact a80.1.2, by rw [eh _ _ (by omega) (by omega) (by omega)]; exact hI.2.2.2.1, by rw [eh _ _ (by omega) (by omega) (by omega)]; exact hI.2.2.2.2⟩
            by_cases q : p = 54
            · subst q
              exact hsk
            · rw [eh (p + 8) 6 (by unfold SB at hp; omega) (by unfold SB at hp; omega) (by omega), eh (p + 11) 6 (by unfold SB at hp; omega) (by unfold SB at hp; omega) (by omega)]
              exact hI.1 p hp
          have hx : CO M19 (bootV (us r.2 1 (v 1 + 1))) 0 A hi vi tp 0 (-1) N 0 0 (wI M58 g101) := by
            refine ⟨⟨q58.wr (fun b k q => eh b k (by omega) (by omega) (by omega)) hSk9, ⟨bootV_ok hBt, hLn8, hRA⟩, ⟨(f101 _ _ (by omega) (by omega)).trans ((a80.2.1 _ _ (by omega) (by omega)).trans (rdI_e ⟨rfl, rfl⟩)), by omega, ?_, fun j j0 j1 => by omega⟩, ⟨⟨(eh _ _ (by omega) (by omega) (by omega)).trans ((f58 _ _ (by omega)).trans hki), hhi⟩, fun q => (z58 99 vi N (by unfold SB; omega) (by omega) (hIm q)).wr fun b k q => eh b k (by omega) (by omega) (by omega), ⟨(funext fun k => (eh _ _ (by omega) (by omega) (by omega)).trans (f58 _ _ (by omega))).trans htp, (eh _ _ (by omega) (by omega) (by omega)).trans ((f58 _ _ (by omega)).trans hsz), by omega⟩, (eh _ _ (by omega) (by omega) (by omega)).trans ((f58 _ _ (by omega)).trans hfa)⟩⟩, fun b hb => ⟨by rw [hM58]; rfl, fun k => (eh _ _ (by omega) (by omega) (by omega)).trans (f58 _ _ (by omega)), fun k => by rw [hM58]; exact crD_o (by omega), fun k => by rw [hM58]; rfl⟩, by rw [hM58]; exact Nat.le_refl _, by rw [hM58]; exact Nat.le_refl _, by rw [hM58]; exact Nat.le_refl _⟩
            rw [show mci (wI M58 g101) 0 15 = mci M19 0 15 from (eh _ _ (by omega) (by omega) (by omega)).trans (f58 _ _ (by omega))]
            exact hat
          exact hQ _ _ (Or.inl ⟨_, rfl, r, hr, h12, rfl, CO.tr hCr hx⟩)
        · exact absurd h50.1 (by decide)
  obtain ⟨hC1, hC54, hCA, hCR⟩ := id hC; obtain ⟨hS, hTab, hTx, hLn, hSk, hnx⟩ := id hC1; obtain ⟨hA, hL, hR⟩ := id hC54; obtain ⟨⟨s0, s199, s200, s201, s202, s203⟩, ⟨c0, c1, c2, c3, c4, c5, c6, c7, c8, c9, c10, c11, c12⟩, c203, hSt, m189, m191, g193, g196, ⟨⟨r2, r3, r4, r5, r6, r7, r53⟩, ⟨w0, w1, w2, w3, w4, w5, w6⟩, wx1, wx2, wx3⟩⟩ := id hS; have hv := hA.1; have hv8 := hv.n8; have hv0 := hv.1.1; have hv3 := hv.2.2.2.1; have hs54 := hSt 54 (by unfold SB; omega); obtain ⟨p0, p1, ⟨d0, d1, d2, d3, d4, d5, d6, d7⟩, ⟨t1, t2, t3, t4, t5, t6⟩, p5, p6, p7⟩ := id hs54; have t7 : msh M (54 + 7) = some (4, 0) := p5.2.1; have t10 : msh M (54 + 10) = some (4, 0) := p6.2.1; obtain ⟨hB, hW, hLw⟩ := id hR.1; obtain ⟨b1, b2, b3, b4, b5, b6, b7, b8, b9, b10, b11, b12, b13, b14, b15⟩ := id hB; obtain ⟨hn, hn2, hat, hAc⟩ := id hCA; obtain ⟨⟨hki, hhi⟩, hIm, ⟨htp, hsz, hsz2⟩, hfa⟩ := id hCR
  refine x_aload_n dX1_bench_0 rfl rfl ?_
  refine g_callI (vs := [_]) (d' := d - 1) rfl (s_X1_took (by omega) hC) dX1_bench_1 kX1_135 (by omega) (by decide) rfl (Nat.le_of_ble_eq_true rfl) (rcv_o (by first | assumption | first | assumption | (simp (disch := omega) only [shI, shR, shL, shC, shD, shW, sh_V, shN_e, shN_n, crI, crL, crC, crW, crV, crR_e, crR_n, crN_e, crN_n, ciR, ciL, ciD, ciN_e, ciN_n, rdI_e, rdI_n, rdC_i, rdC_o, rdW, rdU_e, rdU_n, rdLW, clI, clR, clC, clD, clW, clV, clN_e, clN_n, clL_e, clL_n]; done) | (simp (disch := omega) only [shI, shR, shL, shC, shD, shW, sh_V, shN_e, shN_n, crI, crL, crC, crW, crV, crR_e, crR_n, crN_e, crN_n, ciR, ciL, ciD, ciN_e, ciN_n, rdI_e, rdI_n, rdC_i, rdC_o, rdW, rdU_e, rdU_n, rdLW, clI, clR, clC, clD, clW, clV, clN_e, clN_n, clL_e, clL_n] <;> first | assumption | rfl | omega)) rfl) (fun x1 M1 h1 => ?_)
  obtain ⟨e1, f1, g1⟩ := h1
  have e1' := e1.symm
  subst e1'
  obtain ⟨hC2, hCr2⟩ := g1
  have s0' : msh M1 0 = some (1, 0) := hC2.1.1.1.1
  clear f1
  refine x_istore_n (L' := [some _, some _, none, none]) dX1_bench_4 rfl (by decide) rfl ?_
  refine x_aload_n dX1_bench_5 rfl rfl ?_
  refine x_iconst dX1_bench_6 rfl ?_
  refine g_putI (kI := 13) rfl dX1_bench_7 fX1_65_1 (by first | assumption | first | assumption | (simp (disch := omega) only [shI, shR, shL, shC, shD, shW, sh_V, shN_e, shN_n, crI, crL, crC, crW, crV, crR_e, crR_n, crN_e, crN_n, ciR, ciL, ciD, ciN_e, ciN_n, rdI_e, rdI_n, rdC_i, rdC_o, rdW, rdU_e, rdU_n, rdLW, clI, clR, clC, clD, clW, clV, clN_e, clN_n, clL_e, clL_n]; done) | (simp (disch := omega) only [shI, shR, shL, shC, shD, shW, sh_V, shN_e, shN_n, crI, crL, crC, crW, crV, crR_e, crR_n, crN_e, crN_n, ciR, ciL, ciD, ciN_e, ciN_n, rdI_e, rdI_n, rdC_i, rdC_o, rdW, rdU_e, rdU_n, rdLW, clI, clR, clC, clD, clW, clV, clN_e, clN_n, clL_e, clL_n] <;> first | assumption | rfl | omega)) ?_
  have h3 := CO.wr1 (x := -1) hC2
  generalize mI M1 0 13 (-1) = MB at h3 ⊢
  obtain ⟨hC3, hCr3⟩ := h3
  have s0'' : msh MB 0 = some (1, 0) := hC3.1.1.1.1
  have c0'' : mcr MB 0 0 = some 2 := hC3.1.1.2.1.1
  have c1'' : mcr MB 0 1 = some 54 := hC3.1.1.2.1.2.1
  have r2'' : msh MB 2 = some (2, 0) := hC3.1.1.2.2.2.2.2.2.2.2.1.1
  refine x_aload_n dX1_bench_10 rfl rfl ?_
  refine g_getR (kI := 0) rfl dX1_bench_11 fX1_15_1 (by first | assumption | first | assumption | (simp (disch := omega) only [shI, shR, shL, shC, shD, shW, sh_V, shN_e, shN_n, crI, crL, crC, crW, crV, crR_e, crR_n, crN_e, crN_n, ciR, ciL, ciD, ciN_e, ciN_n, rdI_e, rdI_n, rdC_i, rdC_o, rdW, rdU_e, rdU_n, rdLW, clI, clR, clC, clD, clW, clV, clN_e, clN_n, clL_e, clL_n]; done) | (simp (disch := omega) only [shI, shR, shL, shC, shD, shW, sh_V, shN_e, shN_n, crI, crL, crC, crW, crV, crR_e, crR_n, crN_e, crN_n, ciR, ciL, ciD, ciN_e, ciN_n, rdI_e, rdI_n, rdC_i, rdC_o, rdW, rdU_e, rdU_n, rdLW, clI, clR, clC, clD, clW, clV, clN_e, clN_n, clL_e, clL_n] <;> first | assumption | rfl | omega)) (by first | assumption | first | assumption | (simp (disch := omega) only [shI, shR, shL, shC, shD, shW, sh_V, shN_e, shN_n, crI, crL, crC, crW, crV, crR_e, crR_n, crN_e, crN_n, ciR, ciL, ciD, ciN_e, ciN_n, rdI_e, rdI_n, rdC_i, rdC_o, rdW, rdU_e, rdU_n, rdLW, clI, clR, clC, clD, clW, clV, clN_e, clN_n, clL_e, clL_n]; done) | (simp (disch := omega) only [shI, shR, shL, shC, shD, shW, sh_V, shN_e, shN_n, crI, crL, crC, crW, crV, crR_e, crR_n, crN_e, crN_n, ciR, ciL, ciD, ciN_e, ciN_n, rdI_e, rdI_n, rdC_i, rdC_o, rdW, rdU_e, rdU_n, rdLW, clI, clR, clC, clD, clW, clV, clN_e, clN_n, clL_e, clL_n] <;> first | assumption | rfl | omega)) ?_
  refine x_iload_n dX1_bench_14 rfl rfl ?_
  refine x_aload_n dX1_bench_15 rfl rfl ?_
  refine g_getR (kI := 1) rfl dX1_bench_16 fX1_22_1 (by first | assumption | first | assumption | (simp (disch := omega) only [shI, shR, shL, shC, shD, shW, sh_V, shN_e, shN_n, crI, crL, crC, crW, crV, crR_e, crR_n, crN_e, crN_n, ciR, ciL, ciD, ciN_e, ciN_n, rdI_e, rdI_n, rdC_i, rdC_o, rdW, rdU_e, rdU_n, rdLW, clI, clR, clC, clD, clW, clV, clN_e, clN_n, clL_e, clL_n]; done) | (simp (disch := omega) only [shI, shR, shL, shC, shD, shW, sh_V, shN_e, shN_n, crI, crL, crC, crW, crV, crR_e, crR_n, crN_e, crN_n, ciR, ciL, ciD, ciN_e, ciN_n, rdI_e, rdI_n, rdC_i, rdC_o, rdW, rdU_e, rdU_n, rdLW, clI, clR, clC, clD, clW, clV, clN_e, clN_n, clL_e, clL_n] <;> first | assumption | rfl | omega)) (by first | assumption | first | assumption | (simp (disch := omega) only [shI, shR, shL, shC, shD, shW, sh_V, shN_e, shN_n, crI, crL, crC, crW, crV, crR_e, crR_n, crN_e, crN_n, ciR, ciL, ciD, ciN_e, ciN_n, rdI_e, rdI_n, rdC_i, rdC_o, rdW, rdU_e, rdU_n, rdLW, clI, clR, clC, clD, clW, clV, clN_e, clN_n, clL_e, clL_n]; done) | (simp (disch := omega) only [shI, shR, shL, shC, shD, shW, sh_V, shN_e, shN_n, crI, crL, crC, crW, crV, crR_e, crR_n, crN_e, crN_n, ciR, ciL, ciD, ciN_e, ciN_n, rdI_e, rdI_n, rdC_i, rdC_o, rdW, rdU_e, rdU_n, rdLW, clI, clR, clC, clD, clW, clV, clN_e, clN_n, clL_e, clL_n] <;> first | assumption | rfl | omega)) ?_
  refine g_callRX (vs := [_, _, _]) (d' := d - 1) rfl (s_X2_lines (by omega) hC3 hTpk hsz0) dX1_bench_19 kX1_139 (by omega) (by decide) rfl (Nat.le_of_ble_eq_true rfl) (rcv_o (by first | assumption | first | assumption | (simp (disch := omega) only [shI, shR, shL, shC, shD, shW, sh_V, shN_e, shN_n, crI, crL, crC, crW, crV, crR_e, crR_n, crN_e, crN_n, ciR, ciL, ciD, ciN_e, ciN_n, rdI_e, rdI_n, rdC_i, rdC_o, rdW, rdU_e, rdU_n, rdLW, clI, clR, clC, clD, clW, clV, clN_e, clN_n, clL_e, clL_n]; done) | (simp (disch := omega) only [shI, shR, shL, shC, shD, shW, sh_V, shN_e, shN_n, crI, crL, crC, crW, crV, crR_e, crR_n, crN_e, crN_n, ciR, ciL, ciD, ciN_e, ciN_n, rdI_e, rdI_n, rdC_i, rdC_o, rdW, rdU_e, rdU_n, rdLW, clI, clR, clC, clD, clW, clV, clN_e, clN_n, clL_e, clL_n] <;> first | assumption | rfl | omega)) rfl) (fun x19 M19 h19 => ?_) (fun a19 E19 M19 h19 => ?_)
  · obtain ⟨e19, r, hr, hln, hco⟩ := h19
    subst e19
    refine x_astore_n (L' := [some _, some _, some _, none]) dX1_bench_22 rfl (by decide) rfl ?_
    refine x_goto (tgt := 33) dX1_bench_23 (by decide) ?_
    exact aft _ r hr hln (CO.tr (hCr2.trans hCr3) hco)
  · obtain ⟨f, hf, ea, eE, e53, hco⟩ := h19
    subst ea
    subst eE
    exact th_catch (pre := []) (x := (10, 23, 26, 131)) (suf := []) (by omega) rfl (fun z hz => nomatch hz) rfl (by decide) q911 q430 (wrg _ f hf e53 (CO.tr (hCr2.trans hCr3) hco))
end X1

