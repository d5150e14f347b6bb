/-! Reader: an operation -/
theorem mP_n {M : Mem} {p X n : Int} {t sl : Nat} (h : ¬ X = 2) : mNx (mP M p) X t n sl = mP (mNx M X t n sl) p := by
  have e : (fun b k => if b = X then 0 else mci (mP M p) b k) = fun b k => if b = 2 ∧ k = 9 then p else (if b = X then 0 else mci M b k) := funext fun b => funext fun k => by
    show (if b = X then 0 else (if b = 2 ∧ k = 9 then p else mci M b k)) = _
    by_cases h1 : b = X
    · rw [if_pos h1, if_neg (by omega), if_pos h1]
    · rw [if_neg h1, if_neg h1]
  show ((mNx M X t n sl).1, (fun b k => if b = X then 0 else mci (mP M p) b k), (mNx M X t n sl).2.2) = ((mNx M X t n sl).1, (fun b k => if b = 2 ∧ k = 9 then p else (if b = X then 0 else mci M b k)), (mNx M X t n sl).2.2)
  rw [e]
theorem Dr.nx {M M1 : Mem} {c s t sl : Nat} {n X : Int} (h : Dr M M1 c s) (hX : ((mnx M1 : Nat) : Int) = X) : Dr M (mNx M1 X t n sl) (c + 1) (s + sl) := by
  rw [← mNx_e hX]
  exact h.N
theorem Dr.I2 {M M1 : Mem} {c s : Nat} {a i v : Int} (h : Dr M M1 c s) (ha : (mnx M : Int) ≤ a) : Dr M (mI M1 a i v) c s := by
  refine ⟨fun b hb => ⟨(h.1 b hb).1, fun k q1 q2 q3 => ?_, (h.1 b hb).2.2⟩, h.2⟩
  exact (rdI_n (by omega)).trans ((h.1 b hb).2.1 k q1 q2 q3)
theorem any4 {M : Mem} {a x : Int} (h0 : mci M a 0 = 0) (h1 : mci M a 1 = 1) (h2 : mci M a 2 = 2) (h3 : mci M a 3 = 9) (hx : 0 ≤ x) : (∃ k, 0 ≤ k ∧ k < 4 ∧ mci M a k = x) ↔ hasN x := by
  constructor
  · rintro ⟨k, k0, k1, k2⟩
    show x ≤ 2 ∨ x = 9
    rcases (show k = 0 ∨ k = 1 ∨ k = 2 ∨ k = 3 by omega) with e | e | e | e <;> subst e <;> omega
  · intro h
    have h' : x ≤ 2 ∨ x = 9 := h
    rcases (show x = 0 ∨ x = 1 ∨ x = 2 ∨ x = 9 by omega) with e | e | e | e <;> subst e
    · exact ⟨0, by omega, by omega, h0⟩
    · exact ⟨1, by omega, by omega, h1⟩
    · exact ⟨2, by omega, by omega, h2⟩
    · exact ⟨3, by omega, by omega, h3⟩
theorem RelO.mic {f : Ci} {a o k x j : Int} {w : Vw} (h : RelO f a w o) (hj : opN w o = j) (h0 : 0 ≤ j) : RelO (up (up (up f (a + 1) j k) (a + 2) j x) a 3 (j + 1)) a (micU w o k x) o := by
  obtain ⟨h1, h2, h3, h4⟩ := h
  subst hj
  have eN : opN (micU w o k x) o = opN w o + 1 := us_e rfl
  refine ⟨(rdU_e ⟨rfl, rfl⟩).trans eN.symm, ?_, ?_, fun i a0 a1 => ?_⟩
  · rw [rdU_n (by omega), rdU_n (by omega), rdU_n (by omega), show opG (micU w o k x) o = opG w o from (us_n (by omega)).trans ((us_n (by omega)).trans (us_n (by omega)))]; exact h2
  · rw [rdU_n (by omega), rdU_n (by omega), rdU_n (by omega), show opP (micU w o k x) o = opP w o from (us_n (by omega)).trans ((us_n (by omega)).trans (us_n (by omega)))]; exact h3
  · rw [eN] at a1
    by_cases q : i = opN w o
    · rw [show opK (micU w o k x) o i = k from (us_n (by omega)).trans ((us_n (by omega)).trans (us_e (by omega))), show opX (micU w o k x) o i = x from (us_n (by omega)).trans (us_e (by omega))]
      exact ⟨(rdU_n (by omega)).trans ((rdU_n (by omega)).trans (rdU_e ⟨rfl, q⟩)), (rdU_n (by omega)).trans (rdU_e ⟨rfl, q⟩)⟩
    · rw [show opK (micU w o k x) o i = opK w o i from (us_n (by omega)).trans ((us_n (by omega)).trans (us_n (by omega))), show opX (micU w o k x) o i = opX w o i from (us_n (by omega)).trans ((us_n (by omega)).trans (us_n (by omega)))]
      have h5 := h4 i a0 (by omega)
      exact ⟨(rdU_n (by omega)).trans ((rdU_n (by omega)).trans ((rdU_n (by omega)).trans h5.1)), (rdU_n (by omega)).trans ((rdU_n (by omega)).trans ((rdU_n (by omega)).trans h5.2))⟩
section X2
variable {G : GW} {d : Nat} {M : Mem} {p e lo hi k n x a b N o j : Int} {tp : Int → Int} {u : Vw}
theorem begins_ok {t : Int} (hd : 10 ≤ d) (ht : t = 0 ∨ t = 1) (h : OpS (msh M) (mcr M) o) (ho : 8 ≤ o) : CS G d mX6_begins [dR o, dI t] (mP M p) (postN fun M1 => M1 = mP (mI (mI (mI M o 3 0) o 4 t) o 5 0) p) :=
  (s_X6_begins (M := mP M p) hd ht h).mono fun r M1 q => ⟨q.1, q.2.trans (by
    show mI (mI (mI (mP M p) o 3 0) o 4 t) o 5 0 = _
    rw [mP_c (by omega), mP_c (by omega), mP_c (by omega)])⟩
theorem adds_ok (hd : 10 ≤ d) (h : OpS (msh M) (mcr M) o) (ho : 8 ≤ o) (hj : mci M o 3 = j) (hm : 0 ≤ j ∧ j < 3) : CS G d mX6_adds [dR o, dI k, dI x] (mP M p) (postN fun M1 => M1 = mP (mI (mI (mI M (o + 1) j k) (o + 2) j x) o 3 (j + 1)) p) := by
  have e : mci (mP M p) o 3 = j := (mP_o (by omega)).trans hj
  refine (s_X6_adds (M := mP M p) hd h (by rw [e]; exact hm)).mono fun r M1 q => ⟨q.1, q.2.trans ?_⟩
  rw [e]
  show mI (mI (mI (mP M p) (o + 1) j k) (o + 2) j x) o 3 (j + 1) = _
  rw [mP_c (by omega), mP_c (by omega), mP_c (by omega)]
theorem s_X2_addOp (hd : 24 ≤ d) (hX : BxH M tp e) (hp : 0 ≤ p ∧ p ≤ e) (hB : RelB (mci M) 8 u N) (hu : okB u) : CS G d mX2_addOp [dR 2, dI b] (mP M p) (BX M tp e N 3 12 (rOp tp e b p u)) := by
  obtain ⟨⟨⟨⟨r0, r3, r4, r5, r6, r7, r53⟩, ⟨c0, c1, c2, c3, c4, c5, c6⟩, x1, x2, x3⟩, -, -, he2, -, hBt⟩, hs8, -⟩ := id hX
  obtain ⟨p0, p1, ⟨d0, d1, d2, d3, d4, d5, d6, d7⟩, ⟨t1, t2, t3, t4, t5, t6⟩, p5, p6, p7⟩ := id hs8
  have hu8 := hu.n8
  have hu0 := hu.1.1
  have e8 : mci M 8 8 = u 0 := hB.1
  have hs0 := skB_r (tp := tp) hp.2
  have hs02 := wdB_r (tp := tp) hs0.2
  refine CS.mkQ (by decide) (Nat.le_of_ble_eq_true rfl) fun Q hQ => ?_
  by_cases h8 : u 0 = 8
  · have er : rOp tp e b p u = .inl b := if_pos h8
    refine x_aload_n dX2_addOp_0 rfl rfl ?_
    refine g_getR (kI := 5) rfl dX2_addOp_1 fX2_77_2 (by first | assumption | first | assumption | (simp (disch := omega) only [shI, shR, shL, shC, shD, shW, sh_V, shN_e, shN_n, crI, crL, crC, crW, crV, crR_e, crR_n, crN_e, crN_n, ciR, ciL, ciD, ciN_e, ciN_n, rdI_e, rdI_n, rdC_i, rdC_o, rdW, rdU_e, rdU_n, rdLW, clI, clR, clC, clD, clW, clV, clN_e, clN_n, clL_e, clL_n]; done) | (simp (disch := omega) only [shI, shR, shL, shC, shD, shW, sh_V, shN_e, shN_n, crI, crL, crC, crW, crV, crR_e, crR_n, crN_e, crN_n, ciR, ciL, ciD, ciN_e, ciN_n, rdI_e, rdI_n, rdC_i, rdC_o, rdW, rdU_e, rdU_n, rdLW, clI, clR, clC, clD, clW, clV, clN_e, clN_n, clL_e, clL_n] <;> first | assumption | rfl | omega)) (by first | assumption | first | assumption | (simp (disch := omega) only [shI, shR, shL, shC, shD, shW, sh_V, shN_e, shN_n, crI, crL, crC, crW, crV, crR_e, crR_n, crN_e, crN_n, ciR, ciL, ciD, ciN_e, ciN_n, rdI_e, rdI_n, rdC_i, rdC_o, rdW, rdU_e, rdU_n, rdLW, clI, clR, clC, clD, clW, clV, clN_e, clN_n, clL_e, clL_n]; done) | (simp (disch := omega) only [shI, shR, shL, shC, shD, shW, sh_V, shN_e, shN_n, crI, crL, crC, crW, crV, crR_e, crR_n, crN_e, crN_n, ciR, ciL, ciD, ciN_e, ciN_n, rdI_e, rdI_n, rdC_i, rdC_o, rdW, rdU_e, rdU_n, rdLW, clI, clR, clC, clD, clW, clV, clN_e, clN_n, clL_e, clL_n] <;> first | assumption | rfl | omega)) ?_
    refine g_getI (kI := 8) rfl dX2_addOp_4 fX2_178_3 (by first | assumption | first | assumption | (simp (disch := omega) only [shI, shR, shL, shC, shD, shW, sh_V, shN_e, shN_n, crI, crL, crC, crW, crV, crR_e, crR_n, crN_e, crN_n, ciR, ciL, ciD, ciN_e, ciN_n, rdI_e, rdI_n, rdC_i, rdC_o, rdW, rdU_e, rdU_n, rdLW, clI, clR, clC, clD, clW, clV, clN_e, clN_n, clL_e, clL_n]; done) | (simp (disch := omega) only [shI, shR, shL, shC, shD, shW, sh_V, shN_e, shN_n, crI, crL, crC, crW, crV, crR_e, crR_n, crN_e, crN_n, ciR, ciL, ciD, ciN_e, ciN_n, rdI_e, rdI_n, rdC_i, rdC_o, rdW, rdU_e, rdU_n, rdLW, clI, clR, clC, clD, clW, clV, clN_e, clN_n, clL_e, clL_n] <;> first | assumption | rfl | omega)) ?_
    try simp (disch := omega) only [rdI_e, rdI_n, rdC_i, rdC_o, rdW, rdR, rdU_e, rdU_n, rdLW, Int.add_zero, mP_p, mP_o, e8]
    refine x_bipush dX2_addOp_7 rfl ?_
    refine x_icmp_ne (tgt := 17) dX2_addOp_9 (by decide) (fun h9 => ?_) (fun h9 => ?_)
    · omega
    · refine x_aload_n dX2_addOp_12 rfl rfl ?_
      refine x_iload_n dX2_addOp_13 rfl rfl ?_
      refine g_callNX (vs := [_, _]) (d' := d - 1) rfl (s_X2_fail (by omega) hX.1) dX2_addOp_14 kX2_113 (by omega) (by decide) rfl (Nat.le_of_ble_eq_true rfl) (rcv_o (by first | assumption | first | assumption | (simp (disch := omega) only [shI, shR, shL, shC, shD, shW, sh_V, shN_e, shN_n, crI, crL, crC, crW, crV, crR_e, crR_n, crN_e, crN_n, ciR, ciL, ciD, ciN_e, ciN_n, rdI_e, rdI_n, rdC_i, rdC_o, rdW, rdU_e, rdU_n, rdLW, clI, clR, clC, clD, clW, clV, clN_e, clN_n, clL_e, clL_n]; done) | (simp (disch := omega) only [shI, shR, shL, shC, shD, shW, sh_V, shN_e, shN_n, crI, crL, crC, crW, crV, crR_e, crR_n, crN_e, crN_n, ciR, ciL, ciD, ciN_e, ciN_n, rdI_e, rdI_n, rdC_i, rdC_o, rdW, rdU_e, rdU_n, rdLW, clI, clR, clC, clD, clW, clV, clN_e, clN_n, clL_e, clL_n] <;> first | assumption | rfl | omega)) rfl) (fun M14 h14 => ?_) (fun a14 E14 M14 h14 => ?_)
      · exact False.elim (by assumption)
      · exact th_nil rfl (hQ _ _ (BX.f er (h14.d Dr.rfl (Nat.zero_le _) (Nat.zero_le _) rfl)))
  · have ho := p7 (u 0) (by omega) (by omega)
    have o1 : msh M (8 + 13 + 4 * u 0) = some (6, 0) := ho.2.2.1
    have aft : ∀ (P : Int) (W : Vw) (M' : Mem), opW tp e (u 0) p u = (P, W) → opN W (u 0) = 0 → W 0 = u 0 → okB W → 0 ≤ P ∧ P ≤ e → Dr M M' 0 0 → RelB (mci M') 8 W N → RelO (mci M') (8 + 13 + 4 * u 0) W (u 0) → WP G d mX2_addOp 43 [some (dR 2), some (dI b), some (dR (8 + 13 + 4 * u 0)), none, none] [] (mP M' P) Q := by
      intro P W M' hoW hN hW0 hWok hP hD hBW hOW
      have hs := skB_r (tp := tp) hP.2
      have hss : skB tp e (skB tp e P) = skB tp e P := skB_i _ rfl
      have hX' := hX.dr hD
      have r0' : msh M' 2 = some (2, 0) := hX'.1.1.1.1
      have o1' : msh M' (8 + 13 + 4 * u 0) = some (6, 0) := (hX'.2.1.2.2.2.2.2.2 (u 0) (by omega) (by omega)).2.2.1
      have er0 : rOp tp e b p u = if kndW tp (skB tp e P) (wdB tp e (skB tp e P)) < 0 then .inl (skB tp e P) else (match rMic tp e (u 0) 5 P W with
          | .inl x => .inl x
          | .inr y => .inr (y.1, us y.2 0 (y.2 0 + 1))) := by
        unfold rOp
        rw [if_neg h8, hoW]
        rfl
      have kr := kndW_r (tp := tp) (b := skB tp e P) (q := wdB tp e (skB tp e P))
      by_cases hk : kndW tp (skB tp e P) (wdB tp e (skB tp e P)) < 0
      · rw [if_pos hk] at er0
        have e3 : mci M' (8 + 13 + 4 * u 0) 3 = 0 := hOW.1.trans hN
        refine x_aload_n dX2_addOp_43 rfl rfl ?_
        refine g_callI (vs := [_]) (d' := d - 1) rfl (s_X2_here (by omega) hX'.1 (by omega)) dX2_addOp_44 kX2_117 (by omega) (by decide) rfl (Nat.le_of_ble_eq_true rfl) (rcv_o (by first | assumption | first | assumption | (simp (disch := omega) only [shI, shR, shL, shC, shD, shW, sh_V, shN_e, shN_n, crI, crL, crC, crW, crV, crR_e, crR_n, crN_e, crN_n, ciR, ciL, ciD, ciN_e, ciN_n, rdI_e, rdI_n, rdC_i, rdC_o, rdW, rdU_e, rdU_n, rdLW, clI, clR, clC, clD, clW, clV, clN_e, clN_n, clL_e, clL_n]; done) | (simp (disch := omega) only [shI, shR, shL, shC, shD, shW, sh_V, shN_e, shN_n, crI, crL, crC, crW, crV, crR_e, crR_n, crN_e, crN_n, ciR, ciL, ciD, ciN_e, ciN_n, rdI_e, rdI_n, rdC_i, rdC_o, rdW, rdU_e, rdU_n, rdLW, clI, clR, clC, clD, clW, clV, clN_e, clN_n, clL_e, clL_n] <;> first | assumption | rfl | omega)) rfl) (fun x44 M44 h44 => ?_)
        obtain ⟨e44, f44⟩ := h44
        have f44' := f44.symm
        subst f44'
        subst e44
        refine x_istore_n (L' := [some _, some _, some _, some _, none]) dX2_addOp_47 rfl (by decide) rfl ?_
        refine x_aload_n dX2_addOp_48 rfl rfl ?_
        refine g_callI (vs := [_]) (d' := d - 1) rfl (s_X2_aKind (by omega) hX'.1 (by omega)) dX2_addOp_49 kX2_190 (by omega) (by decide) rfl (Nat.le_of_ble_eq_true rfl) (rcv_o (by first | assumption | first | assumption | (simp (disch := omega) only [shI, shR, shL, shC, shD, shW, sh_V, shN_e, shN_n, crI, crL, crC, crW, crV, crR_e, crR_n, crN_e, crN_n, ciR, ciL, ciD, ciN_e, ciN_n, rdI_e, rdI_n, rdC_i, rdC_o, rdW, rdU_e, rdU_n, rdLW, clI, clR, clC, clD, clW, clV, clN_e, clN_n, clL_e, clL_n]; done) | (simp (disch := omega) only [shI, shR, shL, shC, shD, shW, sh_V, shN_e, shN_n, crI, crL, crC, crW, crV, crR_e, crR_n, crN_e, crN_n, ciR, ciL, ciD, ciN_e, ciN_n, rdI_e, rdI_n, rdC_i, rdC_o, rdW, rdU_e, rdU_n, rdLW, clI, clR, clC, clD, clW, clV, clN_e, clN_n, clL_e, clL_n] <;> first | assumption | rfl | omega)) rfl) (fun x49 M49 h49 => ?_)
        obtain ⟨e49, f49⟩ := h49
        rw [hss] at e49 f49
        rw [if_pos hk] at f49
        have f49' := f49.symm
        subst f49'
        subst e49
        refine x_istore (L' := [some _, some _, some _, some _, some _]) dX2_addOp_52 (by decide) rfl ?_
        refine x_iload dX2_addOp_54 rfl ?_
        refine x_iconst dX2_addOp_56 rfl ?_
        refine x_icmp_eq (tgt := 132) dX2_addOp_57 (by decide) (fun h57 => ?_) (fun h57 => ?_)
        · refine x_aload_n dX2_addOp_132 rfl rfl ?_
          refine g_getI (kI := 3) rfl dX2_addOp_133 fX2_193_6 (by first | assumption | first | assumption | (simp (disch := omega) only [shI, shR, shL, shC, shD, shW, sh_V, shN_e, shN_n, crI, crL, crC, crW, crV, crR_e, crR_n, crN_e, crN_n, ciR, ciL, ciD, ciN_e, ciN_n, rdI_e, rdI_n, rdC_i, rdC_o, rdW, rdU_e, rdU_n, rdLW, clI, clR, clC, clD, clW, clV, clN_e, clN_n, clL_e, clL_n]; done) | (simp (disch := omega) only [shI, shR, shL, shC, shD, shW, sh_V, shN_e, shN_n, crI, crL, crC, crW, crV, crR_e, crR_n, crN_e, crN_n, ciR, ciL, ciD, ciN_e, ciN_n, rdI_e, rdI_n, rdC_i, rdC_o, rdW, rdU_e, rdU_n, rdLW, clI, clR, clC, clD, clW, clV, clN_e, clN_n, clL_e, clL_n] <;> first | assumption | rfl | omega)) ?_
          try simp (disch := omega) only [rdI_e, rdI_n, rdC_i, rdC_o, rdW, rdR, rdU_e, rdU_n, rdLW, Int.add_zero, mP_p, mP_o, e3]
          refine x_if_ne (tgt := 144) dX2_addOp_136 (by decide) (fun h136 => ?_) (fun h136 => ?_)
          · simp at h136
          · refine x_aload_n dX2_addOp_139 rfl rfl ?_
            refine x_iload_n dX2_addOp_140 rfl rfl ?_
            refine g_callNX (vs := [_, _]) (d' := d - 1) rfl (s_X2_fail (by omega) hX'.1) dX2_addOp_141 kX2_113 (by omega) (by decide) rfl (Nat.le_of_ble_eq_true rfl) (rcv_o (by first | assumption | first | assumption | (simp (disch := omega) only [shI, shR, shL, shC, shD, shW, sh_V, shN_e, shN_n, crI, crL, crC, crW, crV, crR_e, crR_n, crN_e, crN_n, ciR, ciL, ciD, ciN_e, ciN_n, rdI_e, rdI_n, rdC_i, rdC_o, rdW, rdU_e, rdU_n, rdLW, clI, clR, clC, clD, clW, clV, clN_e, clN_n, clL_e, clL_n]; done) | (simp (disch := omega) only [shI, shR, shL, shC, shD, shW, sh_V, shN_e, shN_n, crI, crL, crC, crW, crV, crR_e, crR_n, crN_e, crN_n, ciR, ciL, ciD, ciN_e, ciN_n, rdI_e, rdI_n, rdC_i, rdC_o, rdW, rdU_e, rdU_n, rdLW, clI, clR, clC, clD, clW, clV, clN_e, clN_n, clL_e, clL_n] <;> first | assumption | rfl | omega)) rfl) (fun M141 h141 => ?_) (fun a141 E141 M141 h141 => ?_)
            · exact False.elim (by assumption)
            · exact th_nil rfl (hQ _ _ (BX.f er0 (h141.d hD (Nat.zero_le _) (Nat.zero_le _) rfl)))
        · omega
      · rw [if_neg hk] at er0
        generalize hRm : rMic tp e (u 0) 5 P W = Rm at er0
        have lp : ∀ (t : Nat) (q : Int) (MM : Mem) (w : Vw) (fu m : Nat), ((fu : Int)).toNat = t → (0 ≤ q ∧ q ≤ e) → ((fu : Int) + opN w (u 0) = 5 ∧ 0 ≤ opN w (u 0) ∧ opN w (u 0) ≤ 3) → ((m : Int) = opN w (u 0)) → (opN w (u 0) = 0 → ¬ kndW tp (skB tp e q) (wdB tp e (skB tp e q)) < 0) → (Rm = rMic tp e (u 0) fu q w) → (okB w) → (w 0 = u 0) → (Dr M MM m (4 * m)) → (RelB (mci MM) 8 w N) → (RelO (mci MM) (8 + 13 + 4 * u 0) w (u 0)) → WP G d mX2_addOp 54 [some (dR 2), some (dI b), some (dR (8 + 13 + 4 * u 0)), some (dI (skB tp e q)), some (dI (kndW tp (skB tp e q) (wdB tp e (skB tp e q))))] [] (mP MM (if kndW tp (skB tp e q) (wdB tp e (skB tp e q)) < 0 then skB tp e q else wdB tp e (skB tp e q))) Q := by
          intro t
          induction t using Nat.strongRecOn with
          | _ t ih =>
            intro q MM w fu m ht h0 hf hm hne hr hw hw0 hD1 hB1 hO1
            obtain ⟨fu, rfl⟩ : ∃ f2, fu = f2 + 1 := ⟨fu - 1, by omega⟩
            have hX1 := hX.dr hD1
            have r0' : msh MM 2 = some (2, 0) := hX1.1.1.1.1
            have c5' : mcr MM 2 5 = some 8 := hX1.1.1.2.1.2.2.2.2.2.1
            have p1' : msh MM 8 = some (3, 0) := hX1.2.1.2.1
            have o1' : msh MM (8 + 13 + 4 * u 0) = some (6, 0) := (hX1.2.1.2.2.2.2.2.2 (u 0) (by omega) (by omega)).2.2.1
            have hs := skB_r (tp := tp) h0.2
            have hs2 := wdB_r (tp := tp) hs.2
            have kr := kndW_r (tp := tp) (b := skB tp e q) (q := wdB tp e (skB tp e q))
            have e3 : mci MM (8 + 13 + 4 * u 0) 3 = opN w (u 0) := hO1.1
            have e8' : mci MM 8 8 = u 0 := hB1.1.trans hw0
            rw [rMic_s] at hr
            by_cases hk0 : kndW tp (skB tp e q) (wdB tp e (skB tp e q)) < 0
            · rw [if_pos hk0] at hr
              have er1 : rOp tp e b p u = .inr (skB tp e q, us w 0 (w 0 + 1)) := by rw [er0, hr]
              have hBf : RelB (mci (mI MM 8 8 (u 0 + 1))) 8 (us w 0 (w 0 + 1)) N := hB1.add (by rw [hw0]; exact hO1) (by omega) hw.l60.2 (by omega) rfl
              rw [if_pos hk0]
              refine x_iload dX2_addOp_54 rfl ?_
              refine x_iconst dX2_addOp_56 rfl ?_
              refine x_icmp_eq (tgt := 132) dX2_addOp_57 (by decide) (fun h57 => ?_) (fun h57 => ?_)
              · refine x_aload_n dX2_addOp_132 rfl rfl ?_
                refine g_getI (kI := 3) rfl dX2_addOp_133 fX2_193_6 (by first | assumption | first | assumption | (simp (disch := omega) only [shI, shR, shL, shC, shD, shW, sh_V, shN_e, shN_n, crI, crL, crC, crW, crV, crR_e, crR_n, crN_e, crN_n, ciR, ciL, ciD, ciN_e, ciN_n, rdI_e, rdI_n, rdC_i, rdC_o, rdW, rdU_e, rdU_n, rdLW, clI, clR, clC, clD, clW, clV, clN_e, clN_n, clL_e, clL_n]; done) | (simp (disch := omega) only [shI, shR, shL, shC, shD, shW, sh_V, shN_e, shN_n, crI, crL, crC, crW, crV, crR_e, crR_n, crN_e, crN_n, ciR, ciL, ciD, ciN_e, ciN_n, rdI_e, rdI_n, rdC_i, rdC_o, rdW, rdU_e, rdU_n, rdLW, clI, clR, clC, clD, clW, clV, clN_e, clN_n, clL_e, clL_n] <;> first | assumption | rfl | omega)) ?_
                try simp (disch := omega) only [rdI_e, rdI_n, rdC_i, rdC_o, rdW, rdR, rdU_e, rdU_n, rdLW, Int.add_zero, mP_p, mP_o, e3, e8']
                refine x_if_ne (tgt := 144) dX2_addOp_136 (by decide) (fun h136 => ?_) (fun h136 => ?_)
                · refine x_aload_n dX2_addOp_144 rfl rfl ?_
                  refine g_getR (kI := 5) rfl dX2_addOp_145 fX2_77_2 (by first | assumption | first | assumption | (simp (disch := omega) only [shI, shR, shL, shC, shD, shW, sh_V, shN_e, shN_n, crI, crL, crC, crW, crV, crR_e, crR_n, crN_e, crN_n, ciR, ciL, ciD, ciN_e, ciN_n, rdI_e, rdI_n, rdC_i, rdC_o, rdW, rdU_e, rdU_n, rdLW, clI, clR, clC, clD, clW, clV, clN_e, clN_n, clL_e, clL_n]; done) | (simp (disch := omega) only [shI, shR, shL, shC, shD, shW, sh_V, shN_e, shN_n, crI, crL, crC, crW, crV, crR_e, crR_n, crN_e, crN_n, ciR, ciL, ciD, ciN_e, ciN_n, rdI_e, rdI_n, rdC_i, rdC_o, rdW, rdU_e, rdU_n, rdLW, clI, clR, clC, clD, clW, clV, clN_e, clN_n, clL_e, clL_n] <;> first | assumption | rfl | omega)) (by first | assumption | first | assumption | (simp (disch := omega) only [shI, shR, shL, shC, shD, shW, sh_V, shN_e, shN_n, crI, crL, crC, crW, crV, crR_e, crR_n, crN_e, crN_n, ciR, ciL, ciD, ciN_e, ciN_n, rdI_e, rdI_n, rdC_i, rdC_o, rdW, rdU_e, rdU_n, rdLW, clI, clR, clC, clD, clW, clV, clN_e, clN_n, clL_e, clL_n]; done) | (simp (disch := omega) only [shI, shR, shL, shC, shD, shW, sh_V, shN_e, shN_n, crI, crL, crC, crW, crV, crR_e, crR_n, crN_e, crN_n, ciR, ciL, ciD, ciN_e, ciN_n, rdI_e, rdI_n, rdC_i, rdC_o, rdW, rdU_e, rdU_n, rdLW, clI, clR, clC, clD, clW, clV, clN_e, clN_n, clL_e, clL_n] <;> first | assumption | rfl | omega)) ?_
                  refine x_dup dX2_addOp_148 rfl ?_
                  refine g_getI (kI := 8) rfl dX2_addOp_149 fX2_178_3 (by first | assumption | first | assumption | (simp (disch := omega) only [shI, shR, shL, shC, shD, shW, sh_V, shN_e, shN_n, crI, crL, crC, crW, crV, crR_e, crR_n, crN_e, crN_n, ciR, ciL, ciD, ciN_e, ciN_n, rdI_e, rdI_n, rdC_i, rdC_o, rdW, rdU_e, rdU_n, rdLW, clI, clR, clC, clD, clW, clV, clN_e, clN_n, clL_e, clL_n]; done) | (simp (disch := omega) only [shI, shR, shL, shC, shD, shW, sh_V, shN_e, shN_n, crI, crL, crC, crW, crV, crR_e, crR_n, crN_e, crN_n, ciR, ciL, ciD, ciN_e, ciN_n, rdI_e, rdI_n, rdC_i, rdC_o, rdW, rdU_e, rdU_n, rdLW, clI, clR, clC, clD, clW, clV, clN_e, clN_n, clL_e, clL_n] <;> first | assumption | rfl | omega)) ?_
                  try simp (disch := omega) only [rdI_e, rdI_n, rdC_i, rdC_o, rdW, rdR, rdU_e, rdU_n, rdLW, Int.add_zero, mP_p, mP_o, e3, e8']
                  refine x_iconst dX2_addOp_152 rfl ?_
                  first | refine x_iaddN dX2_addOp_153 (by unfold i32; omega) ?_ | refine x_iadd dX2_addOp_153 ?_
                  refine g_putI (kI := 8) rfl dX2_addOp_154 fX2_178_3 (by first | assumption | first | assumption | (simp (disch := omega) only [shI, shR, shL, shC, shD, shW, sh_V, shN_e, shN_n, crI, crL, crC, crW, crV, crR_e, crR_n, crN_e, crN_n, ciR, ciL, ciD, ciN_e, ciN_n, rdI_e, rdI_n, rdC_i, rdC_o, rdW, rdU_e, rdU_n, rdLW, clI, clR, clC, clD, clW, clV, clN_e, clN_n, clL_e, clL_n]; done) | (simp (disch := omega) only [shI, shR, shL, shC, shD, shW, sh_V, shN_e, shN_n, crI, crL, crC, crW, crV, crR_e, crR_n, crN_e, crN_n, ciR, ciL, ciD, ciN_e, ciN_n, rdI_e, rdI_n, rdC_i, rdC_o, rdW, rdU_e, rdU_n, rdLW, clI, clR, clC, clD, clW, clV, clN_e, clN_n, clL_e, clL_n] <;> first | assumption | rfl | omega)) ?_
                  try simp only [mP_w]
                  refine WP.mem (mP_c (by omega)) ?_
                  refine x_vreturn rfl dX2_addOp_157 ?_
                  exact hQ _ _ (BX.s er1 (by omega) rfl ((hD1.I (a := 8) (i := 8) (v := u 0 + 1) (by omega)).le (by omega) (by omega)) hBf)
                · exact absurd hk0 (hne h136)
              · omega
            · rw [if_neg hk0] at hr
              rw [if_neg hk0]
              by_cases h3 : opN w (u 0) = 3
              · rw [if_pos h3] at hr
                have er1 : rOp tp e b p u = .inl (skB tp e q) := by rw [er0, hr]
                refine x_iload dX2_addOp_54 rfl ?_
                refine x_iconst dX2_addOp_56 rfl ?_
                refine x_icmp_eq (tgt := 132) dX2_addOp_57 (by decide) (fun h57 => ?_) (fun h57 => ?_)
                · omega
                · refine x_aload_n dX2_addOp_60 rfl rfl ?_
                  refine g_getI (kI := 3) rfl dX2_addOp_61 fX2_193_6 (by first | assumption | first | assumption | (simp (disch := omega) only [shI, shR, shL, shC, shD, shW, sh_V, shN_e, shN_n, crI, crL, crC, crW, crV, crR_e, crR_n, crN_e, crN_n, ciR, ciL, ciD, ciN_e, ciN_n, rdI_e, rdI_n, rdC_i, rdC_o, rdW, rdU_e, rdU_n, rdLW, clI, clR, clC, clD, clW, clV, clN_e, clN_n, clL_e, clL_n]; done) | (simp (disch := omega) only [shI, shR, shL, shC, shD, shW, sh_V, shN_e, shN_n, crI, crL, crC, crW, crV, crR_e, crR_n, crN_e, crN_n, ciR, ciL, ciD, ciN_e, ciN_n, rdI_e, rdI_n, rdC_i, rdC_o, rdW, rdU_e, rdU_n, rdLW, clI, clR, clC, clD, clW, clV, clN_e, clN_n, clL_e, clL_n] <;> first | assumption | rfl | omega)) ?_
                  try simp (disch := omega) only [rdI_e, rdI_n, rdC_i, rdC_o, rdW, rdR, rdU_e, rdU_n, rdLW, Int.add_zero, mP_p, mP_o, e3]
                  refine x_iconst dX2_addOp_64 rfl ?_
                  refine x_icmp_ne (tgt := 73) dX2_addOp_65 (by decide) (fun h65 => ?_) (fun h65 => ?_)
                  · omega
                  · refine x_aload_n dX2_addOp_68 rfl rfl ?_
                    refine x_iload_n dX2_addOp_69 rfl rfl ?_
                    refine g_callNX (vs := [_, _]) (d' := d - 1) rfl (s_X2_fail (by omega) hX1.1) dX2_addOp_70 kX2_113 (by omega) (by decide) rfl (Nat.le_of_ble_eq_true rfl) (rcv_o (by first | assumption | first | assumption | (simp (disch := omega) only [shI, shR, shL, shC, shD, shW, sh_V, shN_e, shN_n, crI, crL, crC, crW, crV, crR_e, crR_n, crN_e, crN_n, ciR, ciL, ciD, ciN_e, ciN_n, rdI_e, rdI_n, rdC_i, rdC_o, rdW, rdU_e, rdU_n, rdLW, clI, clR, clC, clD, clW, clV, clN_e, clN_n, clL_e, clL_n]; done) | (simp (disch := omega) only [shI, shR, shL, shC, shD, shW, sh_V, shN_e, shN_n, crI, crL, crC, crW, crV, crR_e, crR_n, crN_e, crN_n, ciR, ciL, ciD, ciN_e, ciN_n, rdI_e, rdI_n, rdC_i, rdC_o, rdW, rdU_e, rdU_n, rdLW, clI, clR, clC, clD, clW, clV, clN_e, clN_n, clL_e, clL_n] <;> first | assumption | rfl | omega)) rfl) (fun M70 h70 => ?_) (fun a70 E70 M70 h70 => ?_)
                    · exact False.elim (by assumption)
                    · exact th_nil rfl (hQ _ _ (BX.f er1 (h70.d hD1 (by omega) (by omega) rfl)))
              · rw [if_neg h3] at hr
                have hL := hX1.2.2
                have hLM := hD1.2.1
                generalize hXX : ((mnx MM : Nat) : Int) = X
                have hX7 : 761 ≤ X ∧ (mnx M : Int) ≤ X := by omega
                have fM2 : ∃ M2, (∀ z, mI (mI (mI (mI (mNx (mP MM z) X 100 4 4) X 0 0) X 1 1) X 2 2) X 3 9 = mP M2 z) ∧ Dr M M2 (m + 1) (4 * m + 4) ∧ ∀ b k, b < X → mci M2 b k = mci MM b k :=
                  ⟨mI (mI (mI (mI (mNx MM X 100 4 4) X 0 0) X 1 1) X 2 2) X 3 9, fun z => by rw [mP_n (by omega), mP_c (by omega), mP_c (by omega), mP_c (by omega), mP_c (by omega)], ((((hD1.nx hXX).I2 hX7.2).I2 hX7.2).I2 hX7.2).I2 hX7.2, fun b k hb => (rdI_n (by omega)).trans ((rdI_n (by omega)).trans ((rdI_n (by omega)).trans ((rdI_n (by omega)).trans (ciN_n (by omega)))))⟩
                obtain ⟨M2, hM2, hD2, f2⟩ := fM2
                have hX2 := hX.dr hD2
                have hO2 : OpS (msh M2) (mcr M2) (8 + 13 + 4 * u 0) := (hX2.2.1.2.2.2.2.2.2 (u 0) (by omega) (by omega)).2
                have r02 : msh M2 2 = some (2, 0) := hX2.1.1.1.1
                have o12 : msh M2 (8 + 13 + 4 * u 0) = some (6, 0) := hO2.2.1
                have hnxP : ((mnx (mP MM (wdB tp e (skB tp e q))) : Nat) : Int) = X := hXX
                generalize hK : kndW tp (skB tp e q) (wdB tp e (skB tp e q)) = K at hr kr hk0
                have go : ∀ (z x : Int), 0 ≤ z ∧ z ≤ e → Rm = rMic tp e (u 0) fu z (micU w (u 0) K x) → WP G d mX2_addOp 115 [some (dR 2), some (dI b), some (dR (8 + 13 + 4 * u 0)), some (dI (skB tp e q)), some (dI K)] [dI x, dI K, dR (8 + 13 + 4 * u 0)] (mP M2 z) Q := by
                  intro z x hz hr2
                  have hzs := skB_r (tp := tp) hz.2
                  have hzz : skB tp e (skB tp e z) = skB tp e z := skB_i _ rfl
                  have mo : ∀ k, k < 30 + 9 * u 0 → micU w (u 0) K x k = w k := fun k q => (us_n (by omega)).trans ((us_n (by omega)).trans (us_n (by omega)))
                  have mh : ∀ k, 128 ≤ k → micU w (u 0) K x k = w k := fun k q => (us_n (by omega)).trans ((us_n (by omega)).trans (us_n (by omega)))
                  have hD3 : Dr M (mI (mI (mI M2 (8 + 13 + 4 * u 0 + 1) (opN w (u 0)) K) (8 + 13 + 4 * u 0 + 2) (opN w (u 0)) x) (8 + 13 + 4 * u 0) 3 (opN w (u 0) + 1)) (m + 1) (4 * (m + 1)) := (((hD2.I (by omega)).I (by omega)).I (by omega)).le (Nat.le_refl _) (by omega)
                  have hB3 : RelB (mci (mI (mI (mI M2 (8 + 13 + 4 * u 0 + 1) (opN w (u 0)) K) (8 + 13 + 4 * u 0 + 2) (opN w (u 0)) x) (8 + 13 + 4 * u 0) 3 (opN w (u 0) + 1))) 8 (micU w (u 0) K x) N :=
                    hB1.hi hw (fun b k b0 b1 b2 b3 b4 => (rdI_n (by omega)).trans ((rdI_n (by omega)).trans ((rdI_n (by omega)).trans (f2 b k (by omega))))) (fun k k0 k1 => mo k (by omega)) (fun k k0 k1 => mh k k0)
                  have hO3 : RelO (mci (mI (mI (mI M2 (8 + 13 + 4 * u 0 + 1) (opN w (u 0)) K) (8 + 13 + 4 * u 0 + 2) (opN w (u 0)) x) (8 + 13 + 4 * u 0) 3 (opN w (u 0) + 1))) (8 + 13 + 4 * u 0) (micU w (u 0) K x) (u 0) := by
                    refine RelO.mic (f := mci M2) ?_ rfl (by omega)
                    obtain ⟨q1, q2, q3, q4⟩ := hO1
                    exact ⟨(f2 _ _ (by omega)).trans q1, (f2 _ _ (by omega)).trans q2, (f2 _ _ (by omega)).trans q3, fun i a b => ⟨(f2 _ _ (by omega)).trans (q4 i a b).1, (f2 _ _ (by omega)).trans (q4 i a b).2⟩⟩
                  have hX3 := hX.dr hD3
                  have r03 := hX3.1.1.1.1
                  have nN : opN (micU w (u 0) K x) (u 0) = opN w (u 0) + 1 := micN
                  refine g_callN (vs := [_, _, _]) (d' := d - 1) rfl (adds_ok (by omega) hO2 (by omega) ((f2 _ _ (by omega)).trans e3) (by omega)) dX2_addOp_115 kX2_198 (by omega) (by decide) rfl (Nat.le_of_ble_eq_true rfl) (rcv_o (by first | assumption | first | assumption | (simp (disch := omega) only [shI, shR, shL, shC, shD, shW, sh_V, shN_e, shN_n, crI, crL, crC, crW, crV, crR_e, crR_n, crN_e, crN_n, ciR, ciL, ciD, ciN_e, ciN_n, rdI_e, rdI_n, rdC_i, rdC_o, rdW, rdU_e, rdU_n, rdLW, clI, clR, clC, clD, clW, clV, clN_e, clN_n, clL_e, clL_n]; done) | (simp (disch := omega) only [shI, shR, shL, shC, shD, shW, sh_V, shN_e, shN_n, crI, crL, crC, crW, crV, crR_e, crR_n, crN_e, crN_n, ciR, ciL, ciD, ciN_e, ciN_n, rdI_e, rdI_n, rdC_i, rdC_o, rdW, rdU_e, rdU_n, rdLW, clI, clR, clC, clD, clW, clV, clN_e, clN_n, clL_e, clL_n] <;> first | assumption | rfl | omega)) rfl) (fun M115 h115 => ?_)
                  subst h115
                  refine x_aload_n dX2_addOp_118 rfl rfl ?_
                  refine g_callI (vs := [_]) (d' := d - 1) rfl (s_X2_here (by omega) hX3.1 hz) dX2_addOp_119 kX2_117 (by omega) (by decide) rfl (Nat.le_of_ble_eq_true rfl) (rcv_o (by first | assumption | first | assumption | (simp (disch := omega) only [shI, shR, shL, shC, shD, shW, sh_V, shN_e, shN_n, crI, crL, crC, crW, crV, crR_e, crR_n, crN_e, crN_n, ciR, ciL, ciD, ciN_e, ciN_n, rdI_e, rdI_n, rdC_i, rdC_o, rdW, rdU_e, rdU_n, rdLW, clI, clR, clC, clD, clW, clV, clN_e, clN_n, clL_e, clL_n]; done) | (simp (disch := omega) only [shI, shR, shL, shC, shD, shW, sh_V, shN_e, shN_n, crI, crL, crC, crW, crV, crR_e, crR_n, crN_e, crN_n, ciR, ciL, ciD, ciN_e, ciN_n, rdI_e, rdI_n, rdC_i, rdC_o, rdW, rdU_e, rdU_n, rdLW, clI, clR, clC, clD, clW, clV, clN_e, clN_n, clL_e, clL_n] <;> first | assumption | rfl | omega)) rfl) (fun x119 M119 h119 => ?_)
                  obtain ⟨e119, f119⟩ := h119
                  have f119' := f119.symm
                  subst f119'
                  subst e119
                  refine x_istore_n (L' := [some _, some _, some _, some _, some _]) dX2_addOp_122 rfl (by decide) rfl ?_
                  refine x_aload_n dX2_addOp_123 rfl rfl ?_
                  refine g_callI (vs := [_]) (d' := d - 1) rfl (s_X2_aKind (by omega) hX3.1 (by omega)) dX2_addOp_124 kX2_190 (by omega) (by decide) rfl (Nat.le_of_ble_eq_true rfl) (rcv_o (by first | assumption | first | assumption | (simp (disch := omega) only [shI, shR, shL, shC, shD, shW, sh_V, shN_e, shN_n, crI, crL, crC, crW, crV, crR_e, crR_n, crN_e, crN_n, ciR, ciL, ciD, ciN_e, ciN_n, rdI_e, rdI_n, rdC_i, rdC_o, rdW, rdU_e, rdU_n, rdLW, clI, clR, clC, clD, clW, clV, clN_e, clN_n, clL_e, clL_n]; done) | (simp (disch := omega) only [shI, shR, shL, shC, shD, shW, sh_V, shN_e, shN_n, crI, crL, crC, crW, crV, crR_e, crR_n, crN_e, crN_n, ciR, ciL, ciD, ciN_e, ciN_n, rdI_e, rdI_n, rdC_i, rdC_o, rdW, rdU_e, rdU_n, rdLW, clI, clR, clC, clD, clW, clV, clN_e, clN_n, clL_e, clL_n] <;> first | assumption | rfl | omega)) rfl) (fun x124 M124 h124 => ?_)
                  obtain ⟨e124, f124⟩ := h124
                  rw [hzz] at e124 f124
                  have f124' := f124.symm
                  subst f124'
                  subst e124
                  refine x_istore (L' := [some _, some _, some _, some _, some _]) dX2_addOp_127 (by decide) rfl ?_
                  refine x_goto (tgt := 54) dX2_addOp_129 (by decide) ?_
                  exact ih _ (by omega) z _ _ fu (m + 1) rfl hz (by omega) (by omega) (fun q => absurd q (by omega)) hr2 (hw.hi fun k k0 k1 => mo k (by omega)) ((mo 0 (by omega)).trans hw0) hD3 hB3 hO3
                by_cases hnm : hasN K
                · rw [if_pos hnm] at hr
                  rcases hnu : numP tp e (wdB tp e (skB tp e q)) 0 7 with _ | ⟨z, x⟩
                  · rw [hnu] at hr
                    dsimp only at hr
                    have er1 : rOp tp e b p u = .inl (skB tp e (wdB tp e (skB tp e q))) := by rw [er0, hr]
                    refine x_iload dX2_addOp_54 rfl ?_
                    refine x_iconst dX2_addOp_56 rfl ?_
                    refine x_icmp_eq (tgt := 132) dX2_addOp_57 (by decide) (fun h57 => ?_) (fun h57 => ?_)
                    · omega
                    · refine x_aload_n dX2_addOp_60 rfl rfl ?_
                      refine g_getI (kI := 3) rfl dX2_addOp_61 fX2_193_6 (by first | assumption | first | assumption | (simp (disch := omega) only [shI, shR, shL, shC, shD, shW, sh_V, shN_e, shN_n, crI, crL, crC, crW, crV, crR_e, crR_n, crN_e, crN_n, ciR, ciL, ciD, ciN_e, ciN_n, rdI_e, rdI_n, rdC_i, rdC_o, rdW, rdU_e, rdU_n, rdLW, clI, clR, clC, clD, clW, clV, clN_e, clN_n, clL_e, clL_n]; done) | (simp (disch := omega) only [shI, shR, shL, shC, shD, shW, sh_V, shN_e, shN_n, crI, crL, crC, crW, crV, crR_e, crR_n, crN_e, crN_n, ciR, ciL, ciD, ciN_e, ciN_n, rdI_e, rdI_n, rdC_i, rdC_o, rdW, rdU_e, rdU_n, rdLW, clI, clR, clC, clD, clW, clV, clN_e, clN_n, clL_e, clL_n] <;> first | assumption | rfl | omega)) ?_
                      try simp (disch := omega) only [rdI_e, rdI_n, rdC_i, rdC_o, rdW, rdR, rdU_e, rdU_n, rdLW, Int.add_zero, mP_p, mP_o, e3]
                      refine x_iconst dX2_addOp_64 rfl ?_
                      refine x_icmp_ne (tgt := 73) dX2_addOp_65 (by decide) (fun h65 => ?_) (fun h65 => ?_)
                      · refine x_aload_n dX2_addOp_73 rfl rfl ?_
                        refine x_iload dX2_addOp_74 rfl ?_
                        refine x_iload dX2_addOp_76 rfl ?_
                        refine x_iconst dX2_addOp_78 rfl ?_
                        refine x_newaX (x := X) (by first | (simp only [nxI, nxR, nxL, nxC, nxD, nxW, nxV, nxN]; done) | (simp only [nxI, nxR, nxL, nxC, nxD, nxW, nxV, nxN]; omega) | omega) (t := 100) (by decide) rfl q284 (by omega) (by omega) dX2_addOp_79 ?_
                        refine x_dup dX2_addOp_81 rfl ?_
                        refine x_iconst dX2_addOp_82 rfl ?_
                        refine x_iconst dX2_addOp_83 rfl ?_
                        refine x_iast (by omega) dX2_addOp_84 (by first | assumption | first | assumption | (simp (disch := omega) only [shI, shR, shL, shC, shD, shW, sh_V, shN_e, shN_n, crI, crL, crC, crW, crV, crR_e, crR_n, crN_e, crN_n, ciR, ciL, ciD, ciN_e, ciN_n, rdI_e, rdI_n, rdC_i, rdC_o, rdW, rdU_e, rdU_n, rdLW, clI, clR, clC, clD, clW, clV, clN_e, clN_n, clL_e, clL_n]; done) | (simp (disch := omega) only [shI, shR, shL, shC, shD, shW, sh_V, shN_e, shN_n, crI, crL, crC, crW, crV, crR_e, crR_n, crN_e, crN_n, ciR, ciL, ciD, ciN_e, ciN_n, rdI_e, rdI_n, rdC_i, rdC_o, rdW, rdU_e, rdU_n, rdLW, clI, clR, clC, clD, clW, clV, clN_e, clN_n, clL_e, clL_n] <;> first | assumption | rfl | omega)) (by omega) (by omega) ?_
                        try simp only [mP_w]
                        refine x_dup dX2_addOp_85 rfl ?_
                        refine x_iconst dX2_addOp_86 rfl ?_
                        refine x_iconst dX2_addOp_87 rfl ?_
                        refine x_iast (by omega) dX2_addOp_88 (by first | assumption | first | assumption | (simp (disch := omega) only [shI, shR, shL, shC, shD, shW, sh_V, shN_e, shN_n, crI, crL, crC, crW, crV, crR_e, crR_n, crN_e, crN_n, ciR, ciL, ciD, ciN_e, ciN_n, rdI_e, rdI_n, rdC_i, rdC_o, rdW, rdU_e, rdU_n, rdLW, clI, clR, clC, clD, clW, clV, clN_e, clN_n, clL_e, clL_n]; done) | (simp (disch := omega) only [shI, shR, shL, shC, shD, shW, sh_V, shN_e, shN_n, crI, crL, crC, crW, crV, crR_e, crR_n, crN_e, crN_n, ciR, ciL, ciD, ciN_e, ciN_n, rdI_e, rdI_n, rdC_i, rdC_o, rdW, rdU_e, rdU_n, rdLW, clI, clR, clC, clD, clW, clV, clN_e, clN_n, clL_e, clL_n] <;> first | assumption | rfl | omega)) (by omega) (by omega) ?_
                        try simp only [mP_w]
                        refine x_dup dX2_addOp_89 rfl ?_
                        refine x_iconst dX2_addOp_90 rfl ?_
                        refine x_iconst dX2_addOp_91 rfl ?_
                        refine x_iast (by omega) dX2_addOp_92 (by first | assumption | first | assumption | (simp (disch := omega) only [shI, shR, shL, shC, shD, shW, sh_V, shN_e, shN_n, crI, crL, crC, crW, crV, crR_e, crR_n, crN_e, crN_n, ciR, ciL, ciD, ciN_e, ciN_n, rdI_e, rdI_n, rdC_i, rdC_o, rdW, rdU_e, rdU_n, rdLW, clI, clR, clC, clD, clW, clV, clN_e, clN_n, clL_e, clL_n]; done) | (simp (disch := omega) only [shI, shR, shL, shC, shD, shW, sh_V, shN_e, shN_n, crI, crL, crC, crW, crV, crR_e, crR_n, crN_e, crN_n, ciR, ciL, ciD, ciN_e, ciN_n, rdI_e, rdI_n, rdC_i, rdC_o, rdW, rdU_e, rdU_n, rdLW, clI, clR, clC, clD, clW, clV, clN_e, clN_n, clL_e, clL_n] <;> first | assumption | rfl | omega)) (by omega) (by omega) ?_
                        try simp only [mP_w]
                        refine x_dup dX2_addOp_93 rfl ?_
                        refine x_iconst dX2_addOp_94 rfl ?_
                        refine x_bipush dX2_addOp_95 rfl ?_
                        refine x_iast (by omega) dX2_addOp_97 (by first | assumption | first | assumption | (simp (disch := omega) only [shI, shR, shL, shC, shD, shW, sh_V, shN_e, shN_n, crI, crL, crC, crW, crV, crR_e, crR_n, crN_e, crN_n, ciR, ciL, ciD, ciN_e, ciN_n, rdI_e, rdI_n, rdC_i, rdC_o, rdW, rdU_e, rdU_n, rdLW, clI, clR, clC, clD, clW, clV, clN_e, clN_n, clL_e, clL_n]; done) | (simp (disch := omega) only [shI, shR, shL, shC, shD, shW, sh_V, shN_e, shN_n, crI, crL, crC, crW, crV, crR_e, crR_n, crN_e, crN_n, ciR, ciL, ciD, ciN_e, ciN_n, rdI_e, rdI_n, rdC_i, rdC_o, rdW, rdU_e, rdU_n, rdLW, clI, clR, clC, clD, clW, clV, clN_e, clN_n, clL_e, clL_n] <;> first | assumption | rfl | omega)) (by omega) (by omega) ?_
                        try simp only [mP_w]
                        refine g_callI (vs := [_, _]) (d' := d - 1) rfl (s_X1_isAny (n := 4) (by omega) (by first | assumption | (simp (disch := omega) only [shI, shR, shL, shC, shD, shW, sh_V, shN_e, shN_n, crI, crL, crC, crW, crV, crR_e, crR_n, crN_e, crN_n, ciR, ciL, ciD, ciN_e, ciN_n, rdI_e, rdI_n, rdC_i, rdC_o, rdW, rdU_e, rdU_n, rdLW, clI, clR, clC, clD, clW, clV, clN_e, clN_n, clL_e, clL_n]; done) | (simp (disch := omega) only [shI, shR, shL, shC, shD, shW, sh_V, shN_e, shN_n, crI, crL, crC, crW, crV, crR_e, crR_n, crN_e, crN_n, ciR, ciL, ciD, ciN_e, ciN_n, rdI_e, rdI_n, rdC_i, rdC_o, rdW, rdU_e, rdU_n, rdLW, clI, clR, clC, clD, clW, clV, clN_e, clN_n, clL_e, clL_n] <;> first | assumption | rfl | omega)) (by omega) (by omega)) dX2_addOp_98 kX2_194 (by omega) (by decide) rfl (Nat.le_of_ble_eq_true rfl) (rcv_n) (fun x98 M98 h98 => ?_)
                        obtain ⟨e98, f98⟩ := h98
                        rw [vP_c (any4 (by first | assumption | (simp (disch := omega) only [shI, shR, shL, shC, shD, shW, sh_V, shN_e, shN_n, crI, crL, crC, crW, crV, crR_e, crR_n, crN_e, crN_n, ciR, ciL, ciD, ciN_e, ciN_n, rdI_e, rdI_n, rdC_i, rdC_o, rdW, rdU_e, rdU_n, rdLW, clI, clR, clC, clD, clW, clV, clN_e, clN_n, clL_e, clL_n]; done) | (simp (disch := omega) only [shI, shR, shL, shC, shD, shW, sh_V, shN_e, shN_n, crI, crL, crC, crW, crV, crR_e, crR_n, crN_e, crN_n, ciR, ciL, ciD, ciN_e, ciN_n, rdI_e, rdI_n, rdC_i, rdC_o, rdW, rdU_e, rdU_n, rdLW, clI, clR, clC, clD, clW, clV, clN_e, clN_n, clL_e, clL_n] <;> first | assumption | rfl | omega)) (by first | assumption | (simp (disch := omega) only [shI, shR, shL, shC, shD, shW, sh_V, shN_e, shN_n, crI, crL, crC, crW, crV, crR_e, crR_n, crN_e, crN_n, ciR, ciL, ciD, ciN_e, ciN_n, rdI_e, rdI_n, rdC_i, rdC_o, rdW, rdU_e, rdU_n, rdLW, clI, clR, clC, clD, clW, clV, clN_e, clN_n, clL_e, clL_n]; done) | (simp (disch := omega) only [shI, shR, shL, shC, shD, shW, sh_V, shN_e, shN_n, crI, crL, crC, crW, crV, crR_e, crR_n, crN_e, crN_n, ciR, ciL, ciD, ciN_e, ciN_n, rdI_e, rdI_n, rdC_i, rdC_o, rdW, rdU_e, rdU_n, rdLW, clI, clR, clC, clD, clW, clV, clN_e, clN_n, clL_e, clL_n] <;> first | assumption | rfl | omega)) (by first | assumption | (simp (disch := omega) only [shI, shR, shL, shC, shD, shW, sh_V, shN_e, shN_n, crI, crL, crC, crW, crV, crR_e, crR_n, crN_e, crN_n, ciR, ciL, ciD, ciN_e, ciN_n, rdI_e, rdI_n, rdC_i, rdC_o, rdW, rdU_e, rdU_n, rdLW, clI, clR, clC, clD, clW, clV, clN_e, clN_n, clL_e, clL_n]; done) | (simp (disch := omega) only [shI, shR, shL, shC, shD, shW, sh_V, shN_e, shN_n, crI, crL, crC, crW, crV, crR_e, crR_n, crN_e, crN_n, ciR, ciL, ciD, ciN_e, ciN_n, rdI_e, rdI_n, rdC_i, rdC_o, rdW, rdU_e, rdU_n, rdLW, clI, clR, clC, clD, clW, clV, clN_e, clN_n, clL_e, clL_n] <;> first | assumption | rfl | omega)) (by first | assumption | (simp (disch := omega) only [shI, shR, shL, shC, shD, shW, sh_V, shN_e, shN_n, crI, crL, crC, crW, crV, crR_e, crR_n, crN_e, crN_n, ciR, ciL, ciD, ciN_e, ciN_n, rdI_e, rdI_n, rdC_i, rdC_o, rdW, rdU_e, rdU_n, rdLW, clI, clR, clC, clD, clW, clV, clN_e, clN_n, clL_e, clL_n]; done) | (simp (disch := omega) only [shI, shR, shL, shC, shD, shW, sh_V, shN_e, shN_n, crI, crL, crC, crW, crV, crR_e, crR_n, crN_e, crN_n, ciR, ciL, ciD, ciN_e, ciN_n, rdI_e, rdI_n, rdC_i, rdC_o, rdW, rdU_e, rdU_n, rdLW, clI, clR, clC, clD, clW, clV, clN_e, clN_n, clL_e, clL_n] <;> first | assumption | rfl | omega)) (by omega))] at e98
                        subst e98
                        subst f98
                        refine WP.mem (hM2 _) ?_
                        refine x_if_eq (tgt := 114) dX2_addOp_101 (by decide) (fun h101 => ?_) (fun h101 => ?_)
                        · try simp only [vP_0, vP_1, vP_n0, vP_n1, Classical.not_not] at h101
                          exact absurd hnm h101
                        · try simp only [vP_0, vP_1, vP_n0, vP_n1, Classical.not_not] at h101
                          refine x_aload_n dX2_addOp_104 rfl rfl ?_
                          refine x_iconst dX2_addOp_105 rfl ?_
                          refine x_bipush dX2_addOp_106 rfl ?_
                          refine g_callIX (vs := [_, _, _]) (d' := d - 1) rfl (s_X2_number (by omega) hX2.1 (by omega)) dX2_addOp_108 kX2_124 (by omega) (by decide) rfl (Nat.le_of_ble_eq_true rfl) (rcv_o (by first | assumption | first | assumption | (simp (disch := omega) only [shI, shR, shL, shC, shD, shW, sh_V, shN_e, shN_n, crI, crL, crC, crW, crV, crR_e, crR_n, crN_e, crN_n, ciR, ciL, ciD, ciN_e, ciN_n, rdI_e, rdI_n, rdC_i, rdC_o, rdW, rdU_e, rdU_n, rdLW, clI, clR, clC, clD, clW, clV, clN_e, clN_n, clL_e, clL_n]; done) | (simp (disch := omega) only [shI, shR, shL, shC, shD, shW, sh_V, shN_e, shN_n, crI, crL, crC, crW, crV, crR_e, crR_n, crN_e, crN_n, ciR, ciL, ciD, ciN_e, ciN_n, rdI_e, rdI_n, rdC_i, rdC_o, rdW, rdU_e, rdU_n, rdLW, clI, clR, clC, clD, clW, clV, clN_e, clN_n, clL_e, clL_n] <;> first | assumption | rfl | omega)) rfl) (fun x108 M108 h108 => ?_) (fun a108 E108 M108 h108 => ?_)
                          · obtain ⟨z, hz, -⟩ := h108
                            rw [hnu] at hz
                            cases hz
                            skip
                          · exact th_nil rfl (hQ _ _ (BX.f er1 (h108.2.d hD2 (by omega) (by omega) rfl)))
                      · omega
                  · rw [hnu] at hr
                    dsimp only at hr
                    have hnr := numP_r hs2.2 hnu
                    refine x_iload dX2_addOp_54 rfl ?_
                    refine x_iconst dX2_addOp_56 rfl ?_
                    refine x_icmp_eq (tgt := 132) dX2_addOp_57 (by decide) (fun h57 => ?_) (fun h57 => ?_)
                    · omega
                    · refine x_aload_n dX2_addOp_60 rfl rfl ?_
                      refine g_getI (kI := 3) rfl dX2_addOp_61 fX2_193_6 (by first | assumption | first | assumption | (simp (disch := omega) only [shI, shR, shL, shC, shD, shW, sh_V, shN_e, shN_n, crI, crL, crC, crW, crV, crR_e, crR_n, crN_e, crN_n, ciR, ciL, ciD, ciN_e, ciN_n, rdI_e, rdI_n, rdC_i, rdC_o, rdW, rdU_e, rdU_n, rdLW, clI, clR, clC, clD, clW, clV, clN_e, clN_n, clL_e, clL_n]; done) | (simp (disch := omega) only [shI, shR, shL, shC, shD, shW, sh_V, shN_e, shN_n, crI, crL, crC, crW, crV, crR_e, crR_n, crN_e, crN_n, ciR, ciL, ciD, ciN_e, ciN_n, rdI_e, rdI_n, rdC_i, rdC_o, rdW, rdU_e, rdU_n, rdLW, clI, clR, clC, clD, clW, clV, clN_e, clN_n, clL_e, clL_n] <;> first | assumption | rfl | omega)) ?_
                      try simp (disch := omega) only [rdI_e, rdI_n, rdC_i, rdC_o, rdW, rdR, rdU_e, rdU_n, rdLW, Int.add_zero, mP_p, mP_o, e3]
                      refine x_iconst dX2_addOp_64 rfl ?_
                      refine x_icmp_ne (tgt := 73) dX2_addOp_65 (by decide) (fun h65 => ?_) (fun h65 => ?_)
                      · refine x_aload_n dX2_addOp_73 rfl rfl ?_
                        refine x_iload dX2_addOp_74 rfl ?_
                        refine x_iload dX2_addOp_76 rfl ?_
                        refine x_iconst dX2_addOp_78 rfl ?_
                        refine x_newaX (x := X) (by first | (simp only [nxI, nxR, nxL, nxC, nxD, nxW, nxV, nxN]; done) | (simp only [nxI, nxR, nxL, nxC, nxD, nxW, nxV, nxN]; omega) | omega) (t := 100) (by decide) rfl q284 (by omega) (by omega) dX2_addOp_79 ?_
                        refine x_dup dX2_addOp_81 rfl ?_
                        refine x_iconst dX2_addOp_82 rfl ?_
                        refine x_iconst dX2_addOp_83 rfl ?_
                        refine x_iast (by omega) dX2_addOp_84 (by first | assumption | first | assumption | (simp (disch := omega) only [shI, shR, shL, shC, shD, shW, sh_V, shN_e, shN_n, crI, crL, crC, crW, crV, crR_e, crR_n, crN_e, crN_n, ciR, ciL, ciD, ciN_e, ciN_n, rdI_e, rdI_n, rdC_i, rdC_o, rdW, rdU_e, rdU_n, rdLW, clI, clR, clC, clD, clW, clV, clN_e, clN_n, clL_e, clL_n]; done) | (simp (disch := omega) only [shI, shR, shL, shC, shD, shW, sh_V, shN_e, shN_n, crI, crL, crC, crW, crV, crR_e, crR_n, crN_e, crN_n, ciR, ciL, ciD, ciN_e, ciN_n, rdI_e, rdI_n, rdC_i, rdC_o, rdW, rdU_e, rdU_n, rdLW, clI, clR, clC, clD, clW, clV, clN_e, clN_n, clL_e, clL_n] <;> first | assumption | rfl | omega)) (by omega) (by omega) ?_
                        try simp only [mP_w]
                        refine x_dup dX2_addOp_85 rfl ?_
                        refine x_iconst dX2_addOp_86 rfl ?_
                        refine x_iconst dX2_addOp_87 rfl ?_
                        refine x_iast (by omega) dX2_addOp_88 (by first | assumption | first | assumption | (simp (disch := omega) only [shI, shR, shL, shC, shD, shW, sh_V, shN_e, shN_n, crI, crL, crC, crW, crV, crR_e, crR_n, crN_e, crN_n, ciR, ciL, ciD, ciN_e, ciN_n, rdI_e, rdI_n, rdC_i, rdC_o, rdW, rdU_e, rdU_n, rdLW, clI, clR, clC, clD, clW, clV, clN_e, clN_n, clL_e, clL_n]; done) | (simp (disch := omega) only [shI, shR, shL, shC, shD, shW, sh_V, shN_e, shN_n, crI, crL, crC, crW, crV, crR_e, crR_n, crN_e, crN_n, ciR, ciL, ciD, ciN_e, ciN_n, rdI_e, rdI_n, rdC_i, rdC_o, rdW, rdU_e, rdU_n, rdLW, clI, clR, clC, clD, clW, clV, clN_e, clN_n, clL_e, clL_n] <;> first | assumption | rfl | omega)) (by omega) (by omega) ?_
                        try simp only [mP_w]
                        refine x_dup dX2_addOp_89 rfl ?_
                        refine x_iconst dX2_addOp_90 rfl ?_
                        refine x_iconst dX2_addOp_91 rfl ?_
                        refine x_iast (by omega) dX2_addOp_92 (by first | assumption | first | assumption | (simp (disch := omega) only [shI, shR, shL, shC, shD, shW, sh_V, shN_e, shN_n, crI, crL, crC, crW, crV, crR_e, crR_n, crN_e, crN_n, ciR, ciL, ciD, ciN_e, ciN_n, rdI_e, rdI_n, rdC_i, rdC_o, rdW, rdU_e, rdU_n, rdLW, clI, clR, clC, clD, clW, clV, clN_e, clN_n, clL_e, clL_n]; done) | (simp (disch := omega) only [shI, shR, shL, shC, shD, shW, sh_V, shN_e, shN_n, crI, crL, crC, crW, crV, crR_e, crR_n, crN_e, crN_n, ciR, ciL, ciD, ciN_e, ciN_n, rdI_e, rdI_n, rdC_i, rdC_o, rdW, rdU_e, rdU_n, rdLW, clI, clR, clC, clD, clW, clV, clN_e, clN_n, clL_e, clL_n] <;> first | assumption | rfl | omega)) (by omega) (by omega) ?_
                        try simp only [mP_w]
                        refine x_dup dX2_addOp_93 rfl ?_
                        refine x_iconst dX2_addOp_94 rfl ?_
                        refine x_bipush dX2_addOp_95 rfl ?_
                        refine x_iast (by omega) dX2_addOp_97 (by first | assumption | first | assumption | (simp (disch := omega) only [shI, shR, shL, shC, shD, shW, sh_V, shN_e, shN_n, crI, crL, crC, crW, crV, crR_e, crR_n, crN_e, crN_n, ciR, ciL, ciD, ciN_e, ciN_n, rdI_e, rdI_n, rdC_i, rdC_o, rdW, rdU_e, rdU_n, rdLW, clI, clR, clC, clD, clW, clV, clN_e, clN_n, clL_e, clL_n]; done) | (simp (disch := omega) only [shI, shR, shL, shC, shD, shW, sh_V, shN_e, shN_n, crI, crL, crC, crW, crV, crR_e, crR_n, crN_e, crN_n, ciR, ciL, ciD, ciN_e, ciN_n, rdI_e, rdI_n, rdC_i, rdC_o, rdW, rdU_e, rdU_n, rdLW, clI, clR, clC, clD, clW, clV, clN_e, clN_n, clL_e, clL_n] <;> first | assumption | rfl | omega)) (by omega) (by omega) ?_
                        try simp only [mP_w]
                        refine g_callI (vs := [_, _]) (d' := d - 1) rfl (s_X1_isAny (n := 4) (by omega) (by first | assumption | (simp (disch := omega) only [shI, shR, shL, shC, shD, shW, sh_V, shN_e, shN_n, crI, crL, crC, crW, crV, crR_e, crR_n, crN_e, crN_n, ciR, ciL, ciD, ciN_e, ciN_n, rdI_e, rdI_n, rdC_i, rdC_o, rdW, rdU_e, rdU_n, rdLW, clI, clR, clC, clD, clW, clV, clN_e, clN_n, clL_e, clL_n]; done) | (simp (disch := omega) only [shI, shR, shL, shC, shD, shW, sh_V, shN_e, shN_n, crI, crL, crC, crW, crV, crR_e, crR_n, crN_e, crN_n, ciR, ciL, ciD, ciN_e, ciN_n, rdI_e, rdI_n, rdC_i, rdC_o, rdW, rdU_e, rdU_n, rdLW, clI, clR, clC, clD, clW, clV, clN_e, clN_n, clL_e, clL_n] <;> first | assumption | rfl | omega)) (by omega) (by omega)) dX2_addOp_98 kX2_194 (by omega) (by decide) rfl (Nat.le_of_ble_eq_true rfl) (rcv_n) (fun x98 M98 h98 => ?_)
                        obtain ⟨e98, f98⟩ := h98
                        rw [vP_c (any4 (by first | assumption | (simp (disch := omega) only [shI, shR, shL, shC, shD, shW, sh_V, shN_e, shN_n, crI, crL, crC, crW, crV, crR_e, crR_n, crN_e, crN_n, ciR, ciL, ciD, ciN_e, ciN_n, rdI_e, rdI_n, rdC_i, rdC_o, rdW, rdU_e, rdU_n, rdLW, clI, clR, clC, clD, clW, clV, clN_e, clN_n, clL_e, clL_n]; done) | (simp (disch := omega) only [shI, shR, shL, shC, shD, shW, sh_V, shN_e, shN_n, crI, crL, crC, crW, crV, crR_e, crR_n, crN_e, crN_n, ciR, ciL, ciD, ciN_e, ciN_n, rdI_e, rdI_n, rdC_i, rdC_o, rdW, rdU_e, rdU_n, rdLW, clI, clR, clC, clD, clW, clV, clN_e, clN_n, clL_e, clL_n] <;> first | assumption | rfl | omega)) (by first | assumption | (simp (disch := omega) only [shI, shR, shL, shC, shD, shW, sh_V, shN_e, shN_n, crI, crL, crC, crW, crV, crR_e, crR_n, crN_e, crN_n, ciR, ciL, ciD, ciN_e, ciN_n, rdI_e, rdI_n, rdC_i, rdC_o, rdW, rdU_e, rdU_n, rdLW, clI, clR, clC, clD, clW, clV, clN_e, clN_n, clL_e, clL_n]; done) | (simp (disch := omega) only [shI, shR, shL, shC, shD, shW, sh_V, shN_e, shN_n, crI, crL, crC, crW, crV, crR_e, crR_n, crN_e, crN_n, ciR, ciL, ciD, ciN_e, ciN_n, rdI_e, rdI_n, rdC_i, rdC_o, rdW, rdU_e, rdU_n, rdLW, clI, clR, clC, clD, clW, clV, clN_e, clN_n, clL_e, clL_n] <;> first | assumption | rfl | omega)) (by first | assumption | (simp (disch := omega) only [shI, shR, shL, shC, shD, shW, sh_V, shN_e, shN_n, crI, crL, crC, crW, crV, crR_e, crR_n, crN_e, crN_n, ciR, ciL, ciD, ciN_e, ciN_n, rdI_e, rdI_n, rdC_i, rdC_o, rdW, rdU_e, rdU_n, rdLW, clI, clR, clC, clD, clW, clV, clN_e, clN_n, clL_e, clL_n]; done) | (simp (disch := omega) only [shI, shR, shL, shC, shD, shW, sh_V, shN_e, shN_n, crI, crL, crC, crW, crV, crR_e, crR_n, crN_e, crN_n, ciR, ciL, ciD, ciN_e, ciN_n, rdI_e, rdI_n, rdC_i, rdC_o, rdW, rdU_e, rdU_n, rdLW, clI, clR, clC, clD, clW, clV, clN_e, clN_n, clL_e, clL_n] <;> first | assumption | rfl | omega)) (by first | assumption | (simp (disch := omega) only [shI, shR, shL, shC, shD, shW, sh_V, shN_e, shN_n, crI, crL, crC, crW, crV, crR_e, crR_n, crN_e, crN_n, ciR, ciL, ciD, ciN_e, ciN_n, rdI_e, rdI_n, rdC_i, rdC_o, rdW, rdU_e, rdU_n, rdLW, clI, clR, clC, clD, clW, clV, clN_e, clN_n, clL_e, clL_n]; done) | (simp (disch := omega) only [shI, shR, shL, shC, shD, shW, sh_V, shN_e, shN_n, crI, crL, crC, crW, crV, crR_e, crR_n, crN_e, crN_n, ciR, ciL, ciD, ciN_e, ciN_n, rdI_e, rdI_n, rdC_i, rdC_o, rdW, rdU_e, rdU_n, rdLW, clI, clR, clC, clD, clW, clV, clN_e, clN_n, clL_e, clL_n] <;> first | assumption | rfl | omega)) (by omega))] at e98
                        subst e98
                        subst f98
                        refine WP.mem (hM2 _) ?_
                        refine x_if_eq (tgt := 114) dX2_addOp_101 (by decide) (fun h101 => ?_) (fun h101 => ?_)
                        · try simp only [vP_0, vP_1, vP_n0, vP_n1, Classical.not_not] at h101
                          exact absurd hnm h101
                        · try simp only [vP_0, vP_1, vP_n0, vP_n1, Classical.not_not] at h101
                          refine x_aload_n dX2_addOp_104 rfl rfl ?_
                          refine x_iconst dX2_addOp_105 rfl ?_
                          refine x_bipush dX2_addOp_106 rfl ?_
                          refine g_callIX (vs := [_, _, _]) (d' := d - 1) rfl (s_X2_number (by omega) hX2.1 (by omega)) dX2_addOp_108 kX2_124 (by omega) (by decide) rfl (Nat.le_of_ble_eq_true rfl) (rcv_o (by first | assumption | first | assumption | (simp (disch := omega) only [shI, shR, shL, shC, shD, shW, sh_V, shN_e, shN_n, crI, crL, crC, crW, crV, crR_e, crR_n, crN_e, crN_n, ciR, ciL, ciD, ciN_e, ciN_n, rdI_e, rdI_n, rdC_i, rdC_o, rdW, rdU_e, rdU_n, rdLW, clI, clR, clC, clD, clW, clV, clN_e, clN_n, clL_e, clL_n]; done) | (simp (disch := omega) only [shI, shR, shL, shC, shD, shW, sh_V, shN_e, shN_n, crI, crL, crC, crW, crV, crR_e, crR_n, crN_e, crN_n, ciR, ciL, ciD, ciN_e, ciN_n, rdI_e, rdI_n, rdC_i, rdC_o, rdW, rdU_e, rdU_n, rdLW, clI, clR, clC, clD, clW, clV, clN_e, clN_n, clL_e, clL_n] <;> first | assumption | rfl | omega)) rfl) (fun x108 M108 h108 => ?_) (fun a108 E108 M108 h108 => ?_)
                          · obtain ⟨z', hz, hM⟩ := h108
                            rw [hnu] at hz
                            cases hz
                            subst hM
                            refine x_goto (tgt := 115) dX2_addOp_111 (by decide) ?_
                            exact go _ _ (by omega) hr
                          · exact absurd h108.1 (by rw [hnu]; exact fun h => nomatch h)
                      · omega
                · rw [if_neg hnm] at hr
                  refine x_iload dX2_addOp_54 rfl ?_
                  refine x_iconst dX2_addOp_56 rfl ?_
                  refine x_icmp_eq (tgt := 132) dX2_addOp_57 (by decide) (fun h57 => ?_) (fun h57 => ?_)
                  · omega
                  · refine x_aload_n dX2_addOp_60 rfl rfl ?_
                    refine g_getI (kI := 3) rfl dX2_addOp_61 fX2_193_6 (by first | assumption | first | assumption | (simp (disch := omega) only [shI, shR, shL, shC, shD, shW, sh_V, shN_e, shN_n, crI, crL, crC, crW, crV, crR_e, crR_n, crN_e, crN_n, ciR, ciL, ciD, ciN_e, ciN_n, rdI_e, rdI_n, rdC_i, rdC_o, rdW, rdU_e, rdU_n, rdLW, clI, clR, clC, clD, clW, clV, clN_e, clN_n, clL_e, clL_n]; done) | (simp (disch := omega) only [shI, shR, shL, shC, shD, shW, sh_V, shN_e, shN_n, crI, crL, crC, crW, crV, crR_e, crR_n, crN_e, crN_n, ciR, ciL, ciD, ciN_e, ciN_n, rdI_e, rdI_n, rdC_i, rdC_o, rdW, rdU_e, rdU_n, rdLW, clI, clR, clC, clD, clW, clV, clN_e, clN_n, clL_e, clL_n] <;> first | assumption | rfl | omega)) ?_
                    try simp (disch := omega) only [rdI_e, rdI_n, rdC_i, rdC_o, rdW, rdR, rdU_e, rdU_n, rdLW, Int.add_zero, mP_p, mP_o, e3]
                    refine x_iconst dX2_addOp_64 rfl ?_
                    refine x_icmp_ne (tgt := 73) dX2_addOp_65 (by decide) (fun h65 => ?_) (fun h65 => ?_)
                    · refine x_aload_n dX2_addOp_73 rfl rfl ?_
                      refine x_iload dX2_addOp_74 rfl ?_
                      refine x_iload dX2_addOp_76 rfl ?_
                      refine x_iconst dX2_addOp_78 rfl ?_
                      refine x_newaX (x := X) (by first | (simp only [nxI, nxR, nxL, nxC, nxD, nxW, nxV, nxN]; done) | (simp only [nxI, nxR, nxL, nxC, nxD, nxW, nxV, nxN]; omega) | omega) (t := 100) (by decide) rfl q284 (by omega) (by omega) dX2_addOp_79 ?_
                      refine x_dup dX2_addOp_81 rfl ?_
                      refine x_iconst dX2_addOp_82 rfl ?_
                      refine x_iconst dX2_addOp_83 rfl ?_
                      refine x_iast (by omega) dX2_addOp_84 (by first | assumption | first | assumption | (simp (disch := omega) only [shI, shR, shL, shC, shD, shW, sh_V, shN_e, shN_n, crI, crL, crC, crW, crV, crR_e, crR_n, crN_e, crN_n, ciR, ciL, ciD, ciN_e, ciN_n, rdI_e, rdI_n, rdC_i, rdC_o, rdW, rdU_e, rdU_n, rdLW, clI, clR, clC, clD, clW, clV, clN_e, clN_n, clL_e, clL_n]; done) | (simp (disch := omega) only [shI, shR, shL, shC, shD, shW, sh_V, shN_e, shN_n, crI, crL, crC, crW, crV, crR_e, crR_n, crN_e, crN_n, ciR, ciL, ciD, ciN_e, ciN_n, rdI_e, rdI_n, rdC_i, rdC_o, rdW, rdU_e, rdU_n, rdLW, clI, clR, clC, clD, clW, clV, clN_e, clN_n, clL_e, clL_n] <;> first | assumption | rfl | omega)) (by omega) (by omega) ?_
                      try simp only [mP_w]
                      refine x_dup dX2_addOp_85 rfl ?_
                      refine x_iconst dX2_addOp_86 rfl ?_
                      refine x_iconst dX2_addOp_87 rfl ?_
                      refine x_iast (by omega) dX2_addOp_88 (by first | assumption | first | assumption | (simp (disch := omega) only [shI, shR, shL, shC, shD, shW, sh_V, shN_e, shN_n, crI, crL, crC, crW, crV, crR_e, crR_n, crN_e, crN_n, ciR, ciL, ciD, ciN_e, ciN_n, rdI_e, rdI_n, rdC_i, rdC_o, rdW, rdU_e, rdU_n, rdLW, clI, clR, clC, clD, clW, clV, clN_e, clN_n, clL_e, clL_n]; done) | (simp (disch := omega) only [shI, shR, shL, shC, shD, shW, sh_V, shN_e, shN_n, crI, crL, crC, crW, crV, crR_e, crR_n, crN_e, crN_n, ciR, ciL, ciD, ciN_e, ciN_n, rdI_e, rdI_n, rdC_i, rdC_o, rdW, rdU_e, rdU_n, rdLW, clI, clR, clC, clD, clW, clV, clN_e, clN_n, clL_e, clL_n] <;> first | assumption | rfl | omega)) (by omega) (by omega) ?_
                      try simp only [mP_w]
                      refine x_dup dX2_addOp_89 rfl ?_
                      refine x_iconst dX2_addOp_90 rfl ?_
                      refine x_iconst dX2_addOp_91 rfl ?_
                      refine x_iast (by omega) dX2_addOp_92 (by first | assumption | first | assumption | (simp (disch := omega) only [shI, shR, shL, shC, shD, shW, sh_V, shN_e, shN_n, crI, crL, crC, crW, crV, crR_e, crR_n, crN_e, crN_n, ciR, ciL, ciD, ciN_e, ciN_n, rdI_e, rdI_n, rdC_i, rdC_o, rdW, rdU_e, rdU_n, rdLW, clI, clR, clC, clD, clW, clV, clN_e, clN_n, clL_e, clL_n]; done) | (simp (disch := omega) only [shI, shR, shL, shC, shD, shW, sh_V, shN_e, shN_n, crI, crL, crC, crW, crV, crR_e, crR_n, crN_e, crN_n, ciR, ciL, ciD, ciN_e, ciN_n, rdI_e, rdI_n, rdC_i, rdC_o, rdW, rdU_e, rdU_n, rdLW, clI, clR, clC, clD, clW, clV, clN_e, clN_n, clL_e, clL_n] <;> first | assumption | rfl | omega)) (by omega) (by omega) ?_
                      try simp only [mP_w]
                      refine x_dup dX2_addOp_93 rfl ?_
                      refine x_iconst dX2_addOp_94 rfl ?_
                      refine x_bipush dX2_addOp_95 rfl ?_
                      refine x_iast (by omega) dX2_addOp_97 (by first | assumption | first | assumption | (simp (disch := omega) only [shI, shR, shL, shC, shD, shW, sh_V, shN_e, shN_n, crI, crL, crC, crW, crV, crR_e, crR_n, crN_e, crN_n, ciR, ciL, ciD, ciN_e, ciN_n, rdI_e, rdI_n, rdC_i, rdC_o, rdW, rdU_e, rdU_n, rdLW, clI, clR, clC, clD, clW, clV, clN_e, clN_n, clL_e, clL_n]; done) | (simp (disch := omega) only [shI, shR, shL, shC, shD, shW, sh_V, shN_e, shN_n, crI, crL, crC, crW, crV, crR_e, crR_n, crN_e, crN_n, ciR, ciL, ciD, ciN_e, ciN_n, rdI_e, rdI_n, rdC_i, rdC_o, rdW, rdU_e, rdU_n, rdLW, clI, clR, clC, clD, clW, clV, clN_e, clN_n, clL_e, clL_n] <;> first | assumption | rfl | omega)) (by omega) (by omega) ?_
                      try simp only [mP_w]
                      refine g_callI (vs := [_, _]) (d' := d - 1) rfl (s_X1_isAny (n := 4) (by omega) (by first | assumption | (simp (disch := omega) only [shI, shR, shL, shC, shD, shW, sh_V, shN_e, shN_n, crI, crL, crC, crW, crV, crR_e, crR_n, crN_e, crN_n, ciR, ciL, ciD, ciN_e, ciN_n, rdI_e, rdI_n, rdC_i, rdC_o, rdW, rdU_e, rdU_n, rdLW, clI, clR, clC, clD, clW, clV, clN_e, clN_n, clL_e, clL_n]; done) | (simp (disch := omega) only [shI, shR, shL, shC, shD, shW, sh_V, shN_e, shN_n, crI, crL, crC, crW, crV, crR_e, crR_n, crN_e, crN_n, ciR, ciL, ciD, ciN_e, ciN_n, rdI_e, rdI_n, rdC_i, rdC_o, rdW, rdU_e, rdU_n, rdLW, clI, clR, clC, clD, clW, clV, clN_e, clN_n, clL_e, clL_n] <;> first | assumption | rfl | omega)) (by omega) (by omega)) dX2_addOp_98 kX2_194 (by omega) (by decide) rfl (Nat.le_of_ble_eq_true rfl) (rcv_n) (fun x98 M98 h98 => ?_)
                      obtain ⟨e98, f98⟩ := h98
                      rw [vP_c (any4 (by first | assumption | (simp (disch := omega) only [shI, shR, shL, shC, shD, shW, sh_V, shN_e, shN_n, crI, crL, crC, crW, crV, crR_e, crR_n, crN_e, crN_n, ciR, ciL, ciD, ciN_e, ciN_n, rdI_e, rdI_n, rdC_i, rdC_o, rdW, rdU_e, rdU_n, rdLW, clI, clR, clC, clD, clW, clV, clN_e, clN_n, clL_e, clL_n]; done) | (simp (disch := omega) only [shI, shR, shL, shC, shD, shW, sh_V, shN_e, shN_n, crI, crL, crC, crW, crV, crR_e, crR_n, crN_e, crN_n, ciR, ciL, ciD, ciN_e, ciN_n, rdI_e, rdI_n, rdC_i, rdC_o, rdW, rdU_e, rdU_n, rdLW, clI, clR, clC, clD, clW, clV, clN_e, clN_n, clL_e, clL_n] <;> first | assumption | rfl | omega)) (by first | assumption | (simp (disch := omega) only [shI, shR, shL, shC, shD, shW, sh_V, shN_e, shN_n, crI, crL, crC, crW, crV, crR_e, crR_n, crN_e, crN_n, ciR, ciL, ciD, ciN_e, ciN_n, rdI_e, rdI_n, rdC_i, rdC_o, rdW, rdU_e, rdU_n, rdLW, clI, clR, clC, clD, clW, clV, clN_e, clN_n, clL_e, clL_n]; done) | (simp (disch := omega) only [shI, shR, shL, shC, shD, shW, sh_V, shN_e, shN_n, crI, crL, crC, crW, crV, crR_e, crR_n, crN_e, crN_n, ciR, ciL, ciD, ciN_e, ciN_n, rdI_e, rdI_n, rdC_i, rdC_o, rdW, rdU_e, rdU_n, rdLW, clI, clR, clC, clD, clW, clV, clN_e, clN_n, clL_e, clL_n] <;> first | assumption | rfl | omega)) (by first | assumption | (simp (disch := omega) only [shI, shR, shL, shC, shD, shW, sh_V, shN_e, shN_n, crI, crL, crC, crW, crV, crR_e, crR_n, crN_e, crN_n, ciR, ciL, ciD, ciN_e, ciN_n, rdI_e, rdI_n, rdC_i, rdC_o, rdW, rdU_e, rdU_n, rdLW, clI, clR, clC, clD, clW, clV, clN_e, clN_n, clL_e, clL_n]; done) | (simp (disch := omega) only [shI, shR, shL, shC, shD, shW, sh_V, shN_e, shN_n, crI, crL, crC, crW, crV, crR_e, crR_n, crN_e, crN_n, ciR, ciL, ciD, ciN_e, ciN_n, rdI_e, rdI_n, rdC_i, rdC_o, rdW, rdU_e, rdU_n, rdLW, clI, clR, clC, clD, clW, clV, clN_e, clN_n, clL_e, clL_n] <;> first | assumption | rfl | omega)) (by first | assumption | (simp (disch := omega) only [shI, shR, shL, shC, shD, shW, sh_V, shN_e, shN_n, crI, crL, crC, crW, crV, crR_e, crR_n, crN_e, crN_n, ciR, ciL, ciD, ciN_e, ciN_n, rdI_e, rdI_n, rdC_i, rdC_o, rdW, rdU_e, rdU_n, rdLW, clI, clR, clC, clD, clW, clV, clN_e, clN_n, clL_e, clL_n]; done) | (simp (disch := omega) only [shI, shR, shL, shC, shD, shW, sh_V, shN_e, shN_n, crI, crL, crC, crW, crV, crR_e, crR_n, crN_e, crN_n, ciR, ciL, ciD, ciN_e, ciN_n, rdI_e, rdI_n, rdC_i, rdC_o, rdW, rdU_e, rdU_n, rdLW, clI, clR, clC, clD, clW, clV, clN_e, clN_n, clL_e, clL_n] <;> first | assumption | rfl | omega)) (by omega))] at e98
                      subst e98
                      subst f98
                      refine WP.mem (hM2 _) ?_
                      refine x_if_eq (tgt := 114) dX2_addOp_101 (by decide) (fun h101 => ?_) (fun h101 => ?_)
                      · try simp only [vP_0, vP_1, vP_n0, vP_n1, Classical.not_not] at h101
                        refine x_iconst dX2_addOp_114 rfl ?_
                        exact go _ _ (by omega) hr
                      · try simp only [vP_0, vP_1, vP_n0, vP_n1, Classical.not_not] at h101
                        exact absurd h101 hnm
                    · omega
        have hP1 := kr
        refine x_aload_n dX2_addOp_43 rfl rfl ?_
        refine g_callI (vs := [_]) (d' := d - 1) rfl (s_X2_here (by omega) hX'.1 (by omega)) dX2_addOp_44 kX2_117 (by omega) (by decide) rfl (Nat.le_of_ble_eq_true rfl) (rcv_o (by first | assumption | first | assumption | (simp (disch := omega) only [shI, shR, shL, shC, shD, shW, sh_V, shN_e, shN_n, crI, crL, crC, crW, crV, crR_e, crR_n, crN_e, crN_n, ciR, ciL, ciD, ciN_e, ciN_n, rdI_e, rdI_n, rdC_i, rdC_o, rdW, rdU_e, rdU_n, rdLW, clI, clR, clC, clD, clW, clV, clN_e, clN_n, clL_e, clL_n]; done) | (simp (disch := omega) only [shI, shR, shL, shC, shD, shW, sh_V, shN_e, shN_n, crI, crL, crC, crW, crV, crR_e, crR_n, crN_e, crN_n, ciR, ciL, ciD, ciN_e, ciN_n, rdI_e, rdI_n, rdC_i, rdC_o, rdW, rdU_e, rdU_n, rdLW, clI, clR, clC, clD, clW, clV, clN_e, clN_n, clL_e, clL_n] <;> first | assumption | rfl | omega)) rfl) (fun x44 M44 h44 => ?_)
        obtain ⟨e44, f44⟩ := h44
        have f44' := f44.symm
        subst f44'
        subst e44
        refine x_istore_n (L' := [some _, some _, some _, some _, none]) dX2_addOp_47 rfl (by decide) rfl ?_
        refine x_aload_n dX2_addOp_48 rfl rfl ?_
        refine g_callI (vs := [_]) (d' := d - 1) rfl (s_X2_aKind (by omega) hX'.1 (by omega)) dX2_addOp_49 kX2_190 (by omega) (by decide) rfl (Nat.le_of_ble_eq_true rfl) (rcv_o (by first | assumption | first | assumption | (simp (disch := omega) only [shI, shR, shL, shC, shD, shW, sh_V, shN_e, shN_n, crI, crL, crC, crW, crV, crR_e, crR_n, crN_e, crN_n, ciR, ciL, ciD, ciN_e, ciN_n, rdI_e, rdI_n, rdC_i, rdC_o, rdW, rdU_e, rdU_n, rdLW, clI, clR, clC, clD, clW, clV, clN_e, clN_n, clL_e, clL_n]; done) | (simp (disch := omega) only [shI, shR, shL, shC, shD, shW, sh_V, shN_e, shN_n, crI, crL, crC, crW, crV, crR_e, crR_n, crN_e, crN_n, ciR, ciL, ciD, ciN_e, ciN_n, rdI_e, rdI_n, rdC_i, rdC_o, rdW, rdU_e, rdU_n, rdLW, clI, clR, clC, clD, clW, clV, clN_e, clN_n, clL_e, clL_n] <;> first | assumption | rfl | omega)) rfl) (fun x49 M49 h49 => ?_)
        obtain ⟨e49, f49⟩ := h49
        rw [hss] at e49 f49
        have f49' := f49.symm
        subst f49'
        subst e49
        refine x_istore (L' := [some _, some _, some _, some _, some _]) dX2_addOp_52 (by decide) rfl ?_
        exact lp _ P M' W 5 0 rfl hP (by omega) (by omega) (fun _ => hk) hRm.symm hWok hW0 hD hBW hOW
    have z0 : ∀ t k, ¬ (30 + 9 * u 0 ≤ k ∧ k < 39 + 9 * u 0) → us (zopV u (u 0)) (31 + 9 * u 0) t k = u k := fun t k q => (us_n (by omega)).trans (if_neg q)
    have zN : ∀ t, opN (us (zopV u (u 0)) (31 + 9 * u 0) t) (u 0) = 0 := fun t => (us_n (by omega)).trans (if_pos (by omega))
    have zP : ∀ t, opP (us (zopV u (u 0)) (31 + 9 * u 0) t) (u 0) = 0 := fun t => (us_n (by omega)).trans (if_pos (by omega))
    have zB : ∀ t, RelB (mci (mI (mI (mI M (8 + 13 + 4 * u 0) 3 0) (8 + 13 + 4 * u 0) 4 t) (8 + 13 + 4 * u 0) 5 0)) 8 (us (zopV u (u 0)) (31 + 9 * u 0) t) N := fun t =>
      hB.hi hu (fun b k b0 b1 b2 b3 b4 => (rdI_n (by omega)).trans ((rdI_n (by omega)).trans (rdI_n (by omega)))) (fun k k0 k1 => z0 t k (by omega)) (fun k k0 k1 => z0 t k (by omega))
    have zO : ∀ t, RelO (mci (mI (mI (mI M (8 + 13 + 4 * u 0) 3 0) (8 + 13 + 4 * u 0) 4 t) (8 + 13 + 4 * u 0) 5 0)) (8 + 13 + 4 * u 0) (us (zopV u (u 0)) (31 + 9 * u 0) t) (u 0) := fun t =>
      ⟨((rdI_n (by omega)).trans ((rdI_n (by omega)).trans (rdI_e ⟨rfl, rfl⟩))).trans (zN t).symm, ((rdI_n (by omega)).trans (rdI_e ⟨rfl, rfl⟩)).trans (us_e rfl).symm, (rdI_e ⟨rfl, rfl⟩).trans (zP t).symm, fun i i0 i1 => by rw [zN] at i1; omega⟩
    have zD : ∀ t, Dr M (mI (mI (mI M (8 + 13 + 4 * u 0) 3 0) (8 + 13 + 4 * u 0) 4 t) (8 + 13 + 4 * u 0) 5 0) 0 0 := fun t => ((Dr.rfl.I (by omega)).I (by omega)).I (by omega)
    by_cases hg : isW tp (skB tp e p) (wdB tp e (skB tp e p)) (txB 7)
    · refine x_aload_n dX2_addOp_0 rfl rfl ?_
      refine g_getR (kI := 5) rfl dX2_addOp_1 fX2_77_2 (by first | assumption | first | assumption | (simp (disch := omega) only [shI, shR, shL, shC, shD, shW, sh_V, shN_e, shN_n, crI, crL, crC, crW, crV, crR_e, crR_n, crN_e, crN_n, ciR, ciL, ciD, ciN_e, ciN_n, rdI_e, rdI_n, rdC_i, rdC_o, rdW, rdU_e, rdU_n, rdLW, clI, clR, clC, clD, clW, clV, clN_e, clN_n, clL_e, clL_n]; done) | (simp (disch := omega) only [shI, shR, shL, shC, shD, shW, sh_V, shN_e, shN_n, crI, crL, crC, crW, crV, crR_e, crR_n, crN_e, crN_n, ciR, ciL, ciD, ciN_e, ciN_n, rdI_e, rdI_n, rdC_i, rdC_o, rdW, rdU_e, rdU_n, rdLW, clI, clR, clC, clD, clW, clV, clN_e, clN_n, clL_e, clL_n] <;> first | assumption | rfl | omega)) (by first | assumption | first | assumption | (simp (disch := omega) only [shI, shR, shL, shC, shD, shW, sh_V, shN_e, shN_n, crI, crL, crC, crW, crV, crR_e, crR_n, crN_e, crN_n, ciR, ciL, ciD, ciN_e, ciN_n, rdI_e, rdI_n, rdC_i, rdC_o, rdW, rdU_e, rdU_n, rdLW, clI, clR, clC, clD, clW, clV, clN_e, clN_n, clL_e, clL_n]; done) | (simp (disch := omega) only [shI, shR, shL, shC, shD, shW, sh_V, shN_e, shN_n, crI, crL, crC, crW, crV, crR_e, crR_n, crN_e, crN_n, ciR, ciL, ciD, ciN_e, ciN_n, rdI_e, rdI_n, rdC_i, rdC_o, rdW, rdU_e, rdU_n, rdLW, clI, clR, clC, clD, clW, clV, clN_e, clN_n, clL_e, clL_n] <;> first | assumption | rfl | omega)) ?_
      refine g_getI (kI := 8) rfl dX2_addOp_4 fX2_178_3 (by first | assumption | first | assumption | (simp (disch := omega) only [shI, shR, shL, shC, shD, shW, sh_V, shN_e, shN_n, crI, crL, crC, crW, crV, crR_e, crR_n, crN_e, crN_n, ciR, ciL, ciD, ciN_e, ciN_n, rdI_e, rdI_n, rdC_i, rdC_o, rdW, rdU_e, rdU_n, rdLW, clI, clR, clC, clD, clW, clV, clN_e, clN_n, clL_e, clL_n]; done) | (simp (disch := omega) only [shI, shR, shL, shC, shD, shW, sh_V, shN_e, shN_n, crI, crL, crC, crW, crV, crR_e, crR_n, crN_e, crN_n, ciR, ciL, ciD, ciN_e, ciN_n, rdI_e, rdI_n, rdC_i, rdC_o, rdW, rdU_e, rdU_n, rdLW, clI, clR, clC, clD, clW, clV, clN_e, clN_n, clL_e, clL_n] <;> first | assumption | rfl | omega)) ?_
      try simp (disch := omega) only [rdI_e, rdI_n, rdC_i, rdC_o, rdW, rdR, rdU_e, rdU_n, rdLW, Int.add_zero, mP_p, mP_o, e8]
      refine x_bipush dX2_addOp_7 rfl ?_
      refine x_icmp_ne (tgt := 17) dX2_addOp_9 (by decide) (fun h9 => ?_) (fun h9 => ?_)
      · refine x_aload_n dX2_addOp_17 rfl rfl ?_
        refine g_getR (kI := 5) rfl dX2_addOp_18 fX2_77_2 (by first | assumption | first | assumption | (simp (disch := omega) only [shI, shR, shL, shC, shD, shW, sh_V, shN_e, shN_n, crI, crL, crC, crW, crV, crR_e, crR_n, crN_e, crN_n, ciR, ciL, ciD, ciN_e, ciN_n, rdI_e, rdI_n, rdC_i, rdC_o, rdW, rdU_e, rdU_n, rdLW, clI, clR, clC, clD, clW, clV, clN_e, clN_n, clL_e, clL_n]; done) | (simp (disch := omega) only [shI, shR, shL, shC, shD, shW, sh_V, shN_e, shN_n, crI, crL, crC, crW, crV, crR_e, crR_n, crN_e, crN_n, ciR, ciL, ciD, ciN_e, ciN_n, rdI_e, rdI_n, rdC_i, rdC_o, rdW, rdU_e, rdU_n, rdLW, clI, clR, clC, clD, clW, clV, clN_e, clN_n, clL_e, clL_n] <;> first | assumption | rfl | omega)) (by first | assumption | first | assumption | (simp (disch := omega) only [shI, shR, shL, shC, shD, shW, sh_V, shN_e, shN_n, crI, crL, crC, crW, crV, crR_e, crR_n, crN_e, crN_n, ciR, ciL, ciD, ciN_e, ciN_n, rdI_e, rdI_n, rdC_i, rdC_o, rdW, rdU_e, rdU_n, rdLW, clI, clR, clC, clD, clW, clV, clN_e, clN_n, clL_e, clL_n]; done) | (simp (disch := omega) only [shI, shR, shL, shC, shD, shW, sh_V, shN_e, shN_n, crI, crL, crC, crW, crV, crR_e, crR_n, crN_e, crN_n, ciR, ciL, ciD, ciN_e, ciN_n, rdI_e, rdI_n, rdC_i, rdC_o, rdW, rdU_e, rdU_n, rdLW, clI, clR, clC, clD, clW, clV, clN_e, clN_n, clL_e, clL_n] <;> first | assumption | rfl | omega)) ?_
        refine g_getR (kI := 0) rfl dX2_addOp_21 fX2_181_3 (by first | assumption | first | assumption | (simp (disch := omega) only [shI, shR, shL, shC, shD, shW, sh_V, shN_e, shN_n, crI, crL, crC, crW, crV, crR_e, crR_n, crN_e, crN_n, ciR, ciL, ciD, ciN_e, ciN_n, rdI_e, rdI_n, rdC_i, rdC_o, rdW, rdU_e, rdU_n, rdLW, clI, clR, clC, clD, clW, clV, clN_e, clN_n, clL_e, clL_n]; done) | (simp (disch := omega) only [shI, shR, shL, shC, shD, shW, sh_V, shN_e, shN_n, crI, crL, crC, crW, crV, crR_e, crR_n, crN_e, crN_n, ciR, ciL, ciD, ciN_e, ciN_n, rdI_e, rdI_n, rdC_i, rdC_o, rdW, rdU_e, rdU_n, rdLW, clI, clR, clC, clD, clW, clV, clN_e, clN_n, clL_e, clL_n] <;> first | assumption | rfl | omega)) (by first | assumption | first | assumption | (simp (disch := omega) only [shI, shR, shL, shC, shD, shW, sh_V, shN_e, shN_n, crI, crL, crC, crW, crV, crR_e, crR_n, crN_e, crN_n, ciR, ciL, ciD, ciN_e, ciN_n, rdI_e, rdI_n, rdC_i, rdC_o, rdW, rdU_e, rdU_n, rdLW, clI, clR, clC, clD, clW, clV, clN_e, clN_n, clL_e, clL_n]; done) | (simp (disch := omega) only [shI, shR, shL, shC, shD, shW, sh_V, shN_e, shN_n, crI, crL, crC, crW, crV, crR_e, crR_n, crN_e, crN_n, ciR, ciL, ciD, ciN_e, ciN_n, rdI_e, rdI_n, rdC_i, rdC_o, rdW, rdU_e, rdU_n, rdLW, clI, clR, clC, clD, clW, clV, clN_e, clN_n, clL_e, clL_n] <;> first | assumption | rfl | omega)) ?_
        refine x_aload_n dX2_addOp_24 rfl rfl ?_
        refine g_getR (kI := 5) rfl dX2_addOp_25 fX2_77_2 (by first | assumption | first | assumption | (simp (disch := omega) only [shI, shR, shL, shC, shD, shW, sh_V, shN_e, shN_n, crI, crL, crC, crW, crV, crR_e, crR_n, crN_e, crN_n, ciR, ciL, ciD, ciN_e, ciN_n, rdI_e, rdI_n, rdC_i, rdC_o, rdW, rdU_e, rdU_n, rdLW, clI, clR, clC, clD, clW, clV, clN_e, clN_n, clL_e, clL_n]; done) | (simp (disch := omega) only [shI, shR, shL, shC, shD, shW, sh_V, shN_e, shN_n, crI, crL, crC, crW, crV, crR_e, crR_n, crN_e, crN_n, ciR, ciL, ciD, ciN_e, ciN_n, rdI_e, rdI_n, rdC_i, rdC_o, rdW, rdU_e, rdU_n, rdLW, clI, clR, clC, clD, clW, clV, clN_e, clN_n, clL_e, clL_n] <;> first | assumption | rfl | omega)) (by first | assumption | first | assumption | (simp (disch := omega) only [shI, shR, shL, shC, shD, shW, sh_V, shN_e, shN_n, crI, crL, crC, crW, crV, crR_e, crR_n, crN_e, crN_n, ciR, ciL, ciD, ciN_e, ciN_n, rdI_e, rdI_n, rdC_i, rdC_o, rdW, rdU_e, rdU_n, rdLW, clI, clR, clC, clD, clW, clV, clN_e, clN_n, clL_e, clL_n]; done) | (simp (disch := omega) only [shI, shR, shL, shC, shD, shW, sh_V, shN_e, shN_n, crI, crL, crC, crW, crV, crR_e, crR_n, crN_e, crN_n, ciR, ciL, ciD, ciN_e, ciN_n, rdI_e, rdI_n, rdC_i, rdC_o, rdW, rdU_e, rdU_n, rdLW, clI, clR, clC, clD, clW, clV, clN_e, clN_n, clL_e, clL_n] <;> first | assumption | rfl | omega)) ?_
        refine g_getI (kI := 8) rfl dX2_addOp_28 fX2_178_3 (by first | assumption | first | assumption | (simp (disch := omega) only [shI, shR, shL, shC, shD, shW, sh_V, shN_e, shN_n, crI, crL, crC, crW, crV, crR_e, crR_n, crN_e, crN_n, ciR, ciL, ciD, ciN_e, ciN_n, rdI_e, rdI_n, rdC_i, rdC_o, rdW, rdU_e, rdU_n, rdLW, clI, clR, clC, clD, clW, clV, clN_e, clN_n, clL_e, clL_n]; done) | (simp (disch := omega) only [shI, shR, shL, shC, shD, shW, sh_V, shN_e, shN_n, crI, crL, crC, crW, crV, crR_e, crR_n, crN_e, crN_n, ciR, ciL, ciD, ciN_e, ciN_n, rdI_e, rdI_n, rdC_i, rdC_o, rdW, rdU_e, rdU_n, rdLW, clI, clR, clC, clD, clW, clV, clN_e, clN_n, clL_e, clL_n] <;> first | assumption | rfl | omega)) ?_
        try simp (disch := omega) only [rdI_e, rdI_n, rdC_i, rdC_o, rdW, rdR, rdU_e, rdU_n, rdLW, Int.add_zero, mP_p, mP_o, e8]
        refine x_aald (t := 126) rfl (by decide) dX2_addOp_31 (by first | assumption | first | assumption | (simp (disch := omega) only [shI, shR, shL, shC, shD, shW, sh_V, shN_e, shN_n, crI, crL, crC, crW, crV, crR_e, crR_n, crN_e, crN_n, ciR, ciL, ciD, ciN_e, ciN_n, rdI_e, rdI_n, rdC_i, rdC_o, rdW, rdU_e, rdU_n, rdLW, clI, clR, clC, clD, clW, clV, clN_e, clN_n, clL_e, clL_n]; done) | (simp (disch := omega) only [shI, shR, shL, shC, shD, shW, sh_V, shN_e, shN_n, crI, crL, crC, crW, crV, crR_e, crR_n, crN_e, crN_n, ciR, ciL, ciD, ciN_e, ciN_n, rdI_e, rdI_n, rdC_i, rdC_o, rdW, rdU_e, rdU_n, rdLW, clI, clR, clC, clD, clW, clV, clN_e, clN_n, clL_e, clL_n] <;> first | assumption | rfl | omega)) (by omega) (by omega) (by exact ho.1) ?_
        refine x_astore_n (L' := [some _, some _, some _, none, none]) dX2_addOp_32 rfl (by decide) rfl ?_
        refine x_aload_n dX2_addOp_33 rfl rfl ?_
        refine x_aload_n dX2_addOp_34 rfl rfl ?_
        refine x_ldcs dX2_addOp_35 (List.mem_of_getElem? (i := 7) rfl) ?_
        refine g_callI (vs := [_, _]) (d' := d - 1) rfl (s_X2_takes (i := 7) (by omega) hX.1 hp (by omega) rfl) dX2_addOp_37 kX2_109 (by omega) (by decide) rfl (Nat.le_of_ble_eq_true rfl) (rcv_o (by first | assumption | first | assumption | (simp (disch := omega) only [shI, shR, shL, shC, shD, shW, sh_V, shN_e, shN_n, crI, crL, crC, crW, crV, crR_e, crR_n, crN_e, crN_n, ciR, ciL, ciD, ciN_e, ciN_n, rdI_e, rdI_n, rdC_i, rdC_o, rdW, rdU_e, rdU_n, rdLW, clI, clR, clC, clD, clW, clV, clN_e, clN_n, clL_e, clL_n]; done) | (simp (disch := omega) only [shI, shR, shL, shC, shD, shW, sh_V, shN_e, shN_n, crI, crL, crC, crW, crV, crR_e, crR_n, crN_e, crN_n, ciR, ciL, ciD, ciN_e, ciN_n, rdI_e, rdI_n, rdC_i, rdC_o, rdW, rdU_e, rdU_n, rdLW, clI, clR, clC, clD, clW, clV, clN_e, clN_n, clL_e, clL_n] <;> first | assumption | rfl | omega)) rfl) (fun x37 M37 h37 => ?_)
        obtain ⟨e37, f37⟩ := h37
        rw [if_pos hg] at f37
        rw [vP_t hg] at e37
        subst e37
        have f37' := f37.symm
        subst f37'
        refine g_callN (vs := [_, _]) (d' := d - 1) rfl (begins_ok (by omega) (Or.inr rfl) ho.2 (by omega)) dX2_addOp_40 kX2_185 (by omega) (by decide) rfl (Nat.le_of_ble_eq_true rfl) (rcv_o (by first | assumption | first | assumption | (simp (disch := omega) only [shI, shR, shL, shC, shD, shW, sh_V, shN_e, shN_n, crI, crL, crC, crW, crV, crR_e, crR_n, crN_e, crN_n, ciR, ciL, ciD, ciN_e, ciN_n, rdI_e, rdI_n, rdC_i, rdC_o, rdW, rdU_e, rdU_n, rdLW, clI, clR, clC, clD, clW, clV, clN_e, clN_n, clL_e, clL_n]; done) | (simp (disch := omega) only [shI, shR, shL, shC, shD, shW, sh_V, shN_e, shN_n, crI, crL, crC, crW, crV, crR_e, crR_n, crN_e, crN_n, ciR, ciL, ciD, ciN_e, ciN_n, rdI_e, rdI_n, rdC_i, rdC_o, rdW, rdU_e, rdU_n, rdLW, clI, clR, clC, clD, clW, clV, clN_e, clN_n, clL_e, clL_n] <;> first | assumption | rfl | omega)) rfl) (fun M40 h40 => ?_)
        subst h40
        exact aft _ _ _ (if_pos hg) (zN 1) (z0 1 0 (by omega)) (hu.hi fun k k0 k1 => z0 1 k (by omega)) (by omega) (zD 1) (zB 1) (zO 1)
      · omega
    · refine x_aload_n dX2_addOp_0 rfl rfl ?_
      refine g_getR (kI := 5) rfl dX2_addOp_1 fX2_77_2 (by first | assumption | first | assumption | (simp (disch := omega) only [shI, shR, shL, shC, shD, shW, sh_V, shN_e, shN_n, crI, crL, crC, crW, crV, crR_e, crR_n, crN_e, crN_n, ciR, ciL, ciD, ciN_e, ciN_n, rdI_e, rdI_n, rdC_i, rdC_o, rdW, rdU_e, rdU_n, rdLW, clI, clR, clC, clD, clW, clV, clN_e, clN_n, clL_e, clL_n]; done) | (simp (disch := omega) only [shI, shR, shL, shC, shD, shW, sh_V, shN_e, shN_n, crI, crL, crC, crW, crV, crR_e, crR_n, crN_e, crN_n, ciR, ciL, ciD, ciN_e, ciN_n, rdI_e, rdI_n, rdC_i, rdC_o, rdW, rdU_e, rdU_n, rdLW, clI, clR, clC, clD, clW, clV, clN_e, clN_n, clL_e, clL_n] <;> first | assumption | rfl | omega)) (by first | assumption | first | assumption | (simp (disch := omega) only [shI, shR, shL, shC, shD, shW, sh_V, shN_e, shN_n, crI, crL, crC, crW, crV, crR_e, crR_n, crN_e, crN_n, ciR, ciL, ciD, ciN_e, ciN_n, rdI_e, rdI_n, rdC_i, rdC_o, rdW, rdU_e, rdU_n, rdLW, clI, clR, clC, clD, clW, clV, clN_e, clN_n, clL_e, clL_n]; done) | (simp (disch := omega) only [shI, shR, shL, shC, shD, shW, sh_V, shN_e, shN_n, crI, crL, crC, crW, crV, crR_e, crR_n, crN_e, crN_n, ciR, ciL, ciD, ciN_e, ciN_n, rdI_e, rdI_n, rdC_i, rdC_o, rdW, rdU_e, rdU_n, rdLW, clI, clR, clC, clD, clW, clV, clN_e, clN_n, clL_e, clL_n] <;> first | assumption | rfl | omega)) ?_
      refine g_getI (kI := 8) rfl dX2_addOp_4 fX2_178_3 (by first | assumption | first | assumption | (simp (disch := omega) only [shI, shR, shL, shC, shD, shW, sh_V, shN_e, shN_n, crI, crL, crC, crW, crV, crR_e, crR_n, crN_e, crN_n, ciR, ciL, ciD, ciN_e, ciN_n, rdI_e, rdI_n, rdC_i, rdC_o, rdW, rdU_e, rdU_n, rdLW, clI, clR, clC, clD, clW, clV, clN_e, clN_n, clL_e, clL_n]; done) | (simp (disch := omega) only [shI, shR, shL, shC, shD, shW, sh_V, shN_e, shN_n, crI, crL, crC, crW, crV, crR_e, crR_n, crN_e, crN_n, ciR, ciL, ciD, ciN_e, ciN_n, rdI_e, rdI_n, rdC_i, rdC_o, rdW, rdU_e, rdU_n, rdLW, clI, clR, clC, clD, clW, clV, clN_e, clN_n, clL_e, clL_n] <;> first | assumption | rfl | omega)) ?_
      try simp (disch := omega) only [rdI_e, rdI_n, rdC_i, rdC_o, rdW, rdR, rdU_e, rdU_n, rdLW, Int.add_zero, mP_p, mP_o, e8]
      refine x_bipush dX2_addOp_7 rfl ?_
      refine x_icmp_ne (tgt := 17) dX2_addOp_9 (by decide) (fun h9 => ?_) (fun h9 => ?_)
      · refine x_aload_n dX2_addOp_17 rfl rfl ?_
        refine g_getR (kI := 5) rfl dX2_addOp_18 fX2_77_2 (by first | assumption | first | assumption | (simp (disch := omega) only [shI, shR, shL, shC, shD, shW, sh_V, shN_e, shN_n, crI, crL, crC, crW, crV, crR_e, crR_n, crN_e, crN_n, ciR, ciL, ciD, ciN_e, ciN_n, rdI_e, rdI_n, rdC_i, rdC_o, rdW, rdU_e, rdU_n, rdLW, clI, clR, clC, clD, clW, clV, clN_e, clN_n, clL_e, clL_n]; done) | (simp (disch := omega) only [shI, shR, shL, shC, shD, shW, sh_V, shN_e, shN_n, crI, crL, crC, crW, crV, crR_e, crR_n, crN_e, crN_n, ciR, ciL, ciD, ciN_e, ciN_n, rdI_e, rdI_n, rdC_i, rdC_o, rdW, rdU_e, rdU_n, rdLW, clI, clR, clC, clD, clW, clV, clN_e, clN_n, clL_e, clL_n] <;> first | assumption | rfl | omega)) (by first | assumption | first | assumption | (simp (disch := omega) only [shI, shR, shL, shC, shD, shW, sh_V, shN_e, shN_n, crI, crL, crC, crW, crV, crR_e, crR_n, crN_e, crN_n, ciR, ciL, ciD, ciN_e, ciN_n, rdI_e, rdI_n, rdC_i, rdC_o, rdW, rdU_e, rdU_n, rdLW, clI, clR, clC, clD, clW, clV, clN_e, clN_n, clL_e, clL_n]; done) | (simp (disch := omega) only [shI, shR, shL, shC, shD, shW, sh_V, shN_e, shN_n, crI, crL, crC, crW, crV, crR_e, crR_n, crN_e, crN_n, ciR, ciL, ciD, ciN_e, ciN_n, rdI_e, rdI_n, rdC_i, rdC_o, rdW, rdU_e, rdU_n, rdLW, clI, clR, clC, clD, clW, clV, clN_e, clN_n, clL_e, clL_n] <;> first | assumption | rfl | omega)) ?_
        refine g_getR (kI := 0) rfl dX2_addOp_21 fX2_181_3 (by first | assumption | first | assumption | (simp (disch := omega) only [shI, shR, shL, shC, shD, shW, sh_V, shN_e, shN_n, crI, crL, crC, crW, crV, crR_e, crR_n, crN_e, crN_n, ciR, ciL, ciD, ciN_e, ciN_n, rdI_e, rdI_n, rdC_i, rdC_o, rdW, rdU_e, rdU_n, rdLW, clI, clR, clC, clD, clW, clV, clN_e, clN_n, clL_e, clL_n]; done) | (simp (disch := omega) only [shI, shR, shL, shC, shD, shW, sh_V, shN_e, shN_n, crI, crL, crC, crW, crV, crR_e, crR_n, crN_e, crN_n, ciR, ciL, ciD, ciN_e, ciN_n, rdI_e, rdI_n, rdC_i, rdC_o, rdW, rdU_e, rdU_n, rdLW, clI, clR, clC, clD, clW, clV, clN_e, clN_n, clL_e, clL_n] <;> first | assumption | rfl | omega)) (by first | assumption | first | assumption | (simp (disch := omega) only [shI, shR, shL, shC, shD, shW, sh_V, shN_e, shN_n, crI, crL, crC, crW, crV, crR_e, crR_n, crN_e, crN_n, ciR, ciL, ciD, ciN_e, ciN_n, rdI_e, rdI_n, rdC_i, rdC_o, rdW, rdU_e, rdU_n, rdLW, clI, clR, clC, clD, clW, clV, clN_e, clN_n, clL_e, clL_n]; done) | (simp (disch := omega) only [shI, shR, shL, shC, shD, shW, sh_V, shN_e, shN_n, crI, crL, crC, crW, crV, crR_e, crR_n, crN_e, crN_n, ciR, ciL, ciD, ciN_e, ciN_n, rdI_e, rdI_n, rdC_i, rdC_o, rdW, rdU_e, rdU_n, rdLW, clI, clR, clC, clD, clW, clV, clN_e, clN_n, clL_e, clL_n] <;> first | assumption | rfl | omega)) ?_
        refine x_aload_n dX2_addOp_24 rfl rfl ?_
        refine g_getR (kI := 5) rfl dX2_addOp_25 fX2_77_2 (by first | assumption | first | assumption | (simp (disch := omega) only [shI, shR, shL, shC, shD, shW, sh_V, shN_e, shN_n, crI, crL, crC, crW, crV, crR_e, crR_n, crN_e, crN_n, ciR, ciL, ciD, ciN_e, ciN_n, rdI_e, rdI_n, rdC_i, rdC_o, rdW, rdU_e, rdU_n, rdLW, clI, clR, clC, clD, clW, clV, clN_e, clN_n, clL_e, clL_n]; done) | (simp (disch := omega) only [shI, shR, shL, shC, shD, shW, sh_V, shN_e, shN_n, crI, crL, crC, crW, crV, crR_e, crR_n, crN_e, crN_n, ciR, ciL, ciD, ciN_e, ciN_n, rdI_e, rdI_n, rdC_i, rdC_o, rdW, rdU_e, rdU_n, rdLW, clI, clR, clC, clD, clW, clV, clN_e, clN_n, clL_e, clL_n] <;> first | assumption | rfl | omega)) (by first | assumption | first | assumption | (simp (disch := omega) only [shI, shR, shL, shC, shD, shW, sh_V, shN_e, shN_n, crI, crL, crC, crW, crV, crR_e, crR_n, crN_e, crN_n, ciR, ciL, ciD, ciN_e, ciN_n, rdI_e, rdI_n, rdC_i, rdC_o, rdW, rdU_e, rdU_n, rdLW, clI, clR, clC, clD, clW, clV, clN_e, clN_n, clL_e, clL_n]; done) | (simp (disch := omega) only [shI, shR, shL, shC, shD, shW, sh_V, shN_e, shN_n, crI, crL, crC, crW, crV, crR_e, crR_n, crN_e, crN_n, ciR, ciL, ciD, ciN_e, ciN_n, rdI_e, rdI_n, rdC_i, rdC_o, rdW, rdU_e, rdU_n, rdLW, clI, clR, clC, clD, clW, clV, clN_e, clN_n, clL_e, clL_n] <;> first | assumption | rfl | omega)) ?_
        refine g_getI (kI := 8) rfl dX2_addOp_28 fX2_178_3 (by first | assumption | first | assumption | (simp (disch := omega) only [shI, shR, shL, shC, shD, shW, sh_V, shN_e, shN_n, crI, crL, crC, crW, crV, crR_e, crR_n, crN_e, crN_n, ciR, ciL, ciD, ciN_e, ciN_n, rdI_e, rdI_n, rdC_i, rdC_o, rdW, rdU_e, rdU_n, rdLW, clI, clR, clC, clD, clW, clV, clN_e, clN_n, clL_e, clL_n]; done) | (simp (disch := omega) only [shI, shR, shL, shC, shD, shW, sh_V, shN_e, shN_n, crI, crL, crC, crW, crV, crR_e, crR_n, crN_e, crN_n, ciR, ciL, ciD, ciN_e, ciN_n, rdI_e, rdI_n, rdC_i, rdC_o, rdW, rdU_e, rdU_n, rdLW, clI, clR, clC, clD, clW, clV, clN_e, clN_n, clL_e, clL_n] <;> first | assumption | rfl | omega)) ?_
        try simp (disch := omega) only [rdI_e, rdI_n, rdC_i, rdC_o, rdW, rdR, rdU_e, rdU_n, rdLW, Int.add_zero, mP_p, mP_o, e8]
        refine x_aald (t := 126) rfl (by decide) dX2_addOp_31 (by first | assumption | first | assumption | (simp (disch := omega) only [shI, shR, shL, shC, shD, shW, sh_V, shN_e, shN_n, crI, crL, crC, crW, crV, crR_e, crR_n, crN_e, crN_n, ciR, ciL, ciD, ciN_e, ciN_n, rdI_e, rdI_n, rdC_i, rdC_o, rdW, rdU_e, rdU_n, rdLW, clI, clR, clC, clD, clW, clV, clN_e, clN_n, clL_e, clL_n]; done) | (simp (disch := omega) only [shI, shR, shL, shC, shD, shW, sh_V, shN_e, shN_n, crI, crL, crC, crW, crV, crR_e, crR_n, crN_e, crN_n, ciR, ciL, ciD, ciN_e, ciN_n, rdI_e, rdI_n, rdC_i, rdC_o, rdW, rdU_e, rdU_n, rdLW, clI, clR, clC, clD, clW, clV, clN_e, clN_n, clL_e, clL_n] <;> first | assumption | rfl | omega)) (by omega) (by omega) (by exact ho.1) ?_
        refine x_astore_n (L' := [some _, some _, some _, none, none]) dX2_addOp_32 rfl (by decide) rfl ?_
        refine x_aload_n dX2_addOp_33 rfl rfl ?_
        refine x_aload_n dX2_addOp_34 rfl rfl ?_
        refine x_ldcs dX2_addOp_35 (List.mem_of_getElem? (i := 7) rfl) ?_
        refine g_callI (vs := [_, _]) (d' := d - 1) rfl (s_X2_takes (i := 7) (by omega) hX.1 hp (by omega) rfl) dX2_addOp_37 kX2_109 (by omega) (by decide) rfl (Nat.le_of_ble_eq_true rfl) (rcv_o (by first | assumption | first | assumption | (simp (disch := omega) only [shI, shR, shL, shC, shD, shW, sh_V, shN_e, shN_n, crI, crL, crC, crW, crV, crR_e, crR_n, crN_e, crN_n, ciR, ciL, ciD, ciN_e, ciN_n, rdI_e, rdI_n, rdC_i, rdC_o, rdW, rdU_e, rdU_n, rdLW, clI, clR, clC, clD, clW, clV, clN_e, clN_n, clL_e, clL_n]; done) | (simp (disch := omega) only [shI, shR, shL, shC, shD, shW, sh_V, shN_e, shN_n, crI, crL, crC, crW, crV, crR_e, crR_n, crN_e, crN_n, ciR, ciL, ciD, ciN_e, ciN_n, rdI_e, rdI_n, rdC_i, rdC_o, rdW, rdU_e, rdU_n, rdLW, clI, clR, clC, clD, clW, clV, clN_e, clN_n, clL_e, clL_n] <;> first | assumption | rfl | omega)) rfl) (fun x37 M37 h37 => ?_)
        obtain ⟨e37, f37⟩ := h37
        rw [if_neg hg] at f37
        rw [vP_f hg] at e37
        subst e37
        have f37' := f37.symm
        subst f37'
        refine g_callN (vs := [_, _]) (d' := d - 1) rfl (begins_ok (by omega) (Or.inl rfl) ho.2 (by omega)) dX2_addOp_40 kX2_185 (by omega) (by decide) rfl (Nat.le_of_ble_eq_true rfl) (rcv_o (by first | assumption | first | assumption | (simp (disch := omega) only [shI, shR, shL, shC, shD, shW, sh_V, shN_e, shN_n, crI, crL, crC, crW, crV, crR_e, crR_n, crN_e, crN_n, ciR, ciL, ciD, ciN_e, ciN_n, rdI_e, rdI_n, rdC_i, rdC_o, rdW, rdU_e, rdU_n, rdLW, clI, clR, clC, clD, clW, clV, clN_e, clN_n, clL_e, clL_n]; done) | (simp (disch := omega) only [shI, shR, shL, shC, shD, shW, sh_V, shN_e, shN_n, crI, crL, crC, crW, crV, crR_e, crR_n, crN_e, crN_n, ciR, ciL, ciD, ciN_e, ciN_n, rdI_e, rdI_n, rdC_i, rdC_o, rdW, rdU_e, rdU_n, rdLW, clI, clR, clC, clD, clW, clV, clN_e, clN_n, clL_e, clL_n] <;> first | assumption | rfl | omega)) rfl) (fun M40 h40 => ?_)
        subst h40
        exact aft _ _ _ (if_neg hg) (zN 0) (z0 0 0 (by omega)) (hu.hi fun k k0 k1 => z0 0 k (by omega)) (by omega) (zD 0) (zB 0) (zO 0)
      · omega
end X2

