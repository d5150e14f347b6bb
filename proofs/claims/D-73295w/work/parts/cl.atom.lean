/-! Reader of laws: atoms, at all depths -/
section X2
variable {G : GW} {d : Nat} {M : Mem} {p e lo hi k n x a b c : Int} {tp : Int → Int} {u : Vw}
theorem row1_at {t : Nat} (hd : 32 + 5 * t ≤ d) (hat : ∀ (d : Nat) (M : Mem) (p c : Int) (u : Vw), 31 + 5 * t ≤ d → RdX M tp e → 761 ≤ mnx M → 0 ≤ p ∧ p ≤ e → mci M 2 10 = 6 - (t : Int) → CS G d mX2_atom [dR 2] (mP M p) (CX M tp e (2 * t) 2 6 (4 + 2 * t) (18 + 6 * t) (rAtm tp e t (p, c, u)) (p, c, u))) (hR : RdX M tp e) (hM : 761 ≤ mnx M) (hp : 0 ≤ p ∧ p ≤ e) (hdp : mci M 2 10 = 6 - (t : Int)) : CS G d mX2_row [dR 2, dI 1] (mP M p) (CX M tp e (2 * t + 1) 1 3 (4 + 2 * t + 1) (18 + 6 * t + 3) (rAll tp e (rAtm tp e t) (p, c, u)) (p, c, u)) :=
  row1_ok (kx := 1) (ky := 3) (by omega) (by omega) (rAtm_g t) (fun M p c u a1 a2 a3 a4 => hat (d - 1) M p c u (by omega) a1 a2 a3 a4) hR hM hp hdp
theorem row0_at {t : Nat} (hd : 33 + 5 * t ≤ d) (hat : ∀ (d : Nat) (M : Mem) (p c : Int) (u : Vw), 31 + 5 * t ≤ d → RdX M tp e → 761 ≤ mnx M → 0 ≤ p ∧ p ≤ e → mci M 2 10 = 6 - (t : Int) → CS G d mX2_atom [dR 2] (mP M p) (CX M tp e (2 * t) 2 6 (4 + 2 * t) (18 + 6 * t) (rAtm tp e t (p, c, u)) (p, c, u))) (hR : RdX M tp e) (hM : 761 ≤ mnx M) (hp : 0 ≤ p ∧ p ≤ e) (hdp : mci M 2 10 = 6 - (t : Int)) : CS G d mX2_row [dR 2, dI 0] (mP M p) (CX M tp e (2 * t + 1 + 1) 0 0 (4 + 2 * t + 1 + 1) (18 + 6 * t + 3 + 3) (rCnd tp e (rAtm tp e t) (p, c, u)) (p, c, u)) :=
  row0_ok (kx := 0) (ky := 0) (by omega) (by omega) (rAll_g (rAtm_g t)) (fun M p c u a1 a2 a3 a4 => row1_at (by omega) hat a1 a2 a3 a4) hR hM hp hdp
theorem CX.up {M M1 : Mem} {kx ky fx fy kx' ky' fx' fy' : Int} {lv lv' : Nat} {r : LgR} {s : LgS} {R : Res} (h : CX M tp e lv kx ky fx fy r s R M1) (hl : lv ≤ lv') (h1 : kx' ≤ kx) (h2 : ky' ≤ ky) (h3 : fx ≤ fx') (h4 : fy ≤ fy') : CX M tp e lv' kx' ky' fx' fy' r s R M1 := by
  rcases h with ⟨o, e1, y, P, M', q, a, a1, a2, a3, a4, a5, a6, a7, a8, a9⟩ | ⟨a, E, e1, f, a1, a2, a3, a4, a5⟩
  · exact Or.inl ⟨o, e1, y, P, M', q, a, a1, a2, a3, a4, a5, a6, a7.le (by omega) (by omega), a8, a9.up hl⟩
  · exact Or.inr ⟨a, E, e1, f, a1, a2, a3, a4.le (by omega) (by omega), a5⟩
/-- the same from a place that lies ahead -/
theorem CX.pre {M M1 : Mem} {kx ky fx fy : Int} {lv : Nat} {r : LgR} {s : LgS} {R : Res} {q : Int} (hq : q ≤ s.1) (h : CX M tp e lv kx ky fx fy r s R M1) : CX M tp e lv kx ky fx fy r (q, s.2) R M1 := by
  rcases h with ⟨o, e1, y, P, M', q', a, a1, a2, a3, a4, a5, a6, a7, a8, a9⟩ | ⟨a, E, e1, f, a1, a2, a3, a4, a5⟩
  · exact Or.inl ⟨o, e1, y, P, M', q', a, a1, a2, a3, a4, a5, a6, a7.le (by show 3 * (y.1 - s.1) - kx ≤ 3 * (y.1 - q) - kx; omega) (by show 12 * (y.1 - s.1) - ky ≤ 12 * (y.1 - q) - ky; omega), a8, a9⟩
  · exact Or.inr ⟨a, E, e1, f, a1, a2, a3, a4.le (by show 3 * (e - s.1) + fx ≤ 3 * (e - q) + fx; omega) (by show 12 * (e - s.1) + fy ≤ 12 * (e - q) + fy; omega), a5⟩
theorem s_X2_atom : ∀ (t : Nat), t ≤ 6 → ∀ (d : Nat) (M : Mem) (p c : Int) (u : Vw), 31 + 5 * t ≤ d → RdX M tp e → 761 ≤ mnx M → 0 ≤ p ∧ p ≤ e → mci M 2 10 = 6 - (t : Int) → CS G d mX2_atom [dR 2] (mP M p) (CX M tp e (2 * t) 2 6 (4 + 2 * t) (18 + 6 * t) (rAtm tp e t (p, c, u)) (p, c, u)) := by
  intro t
  induction t with
  | zero =>
    intro _ d M p c u hd hR hM hp h10
    have h10 : mci M 2 10 = 6 := h10
    obtain ⟨⟨⟨r0, r3, r4, r5, r6, r7, r53⟩, -⟩, -, -, he2, -, hB⟩ := id hR
    have hs := skB_r (tp := tp) hp.2
    have hss : skB tp e (skB tp e p) = skB tp e p := skB_i _ rfl
    have hsv : sgV tp e p = 40 ↔ chP tp e 40 40 (skB tp e p) := sgV_i hB (by omega)
    have er0 : rAtm tp e 0 (p, c, u) = (if chP tp e 40 40 (skB tp e p) ∨ isW tp (skB tp e p) (wdB tp e (skB tp e p)) (txB 31) then .inl (skB tp e p) else rCmp tp e (skB tp e p, c, u)) := rfl
    generalize hb : skB tp e p = b at hs hss hsv er0
    generalize hw : wdB tp e b = w at er0
    refine CS.mkQ (by decide) (Nat.le_of_ble_eq_true rfl) fun Q hQ => ?_
    have bad : ∀ (q' s' n' : Int), chP tp e 40 40 b ∨ isW tp b w (txB 31) → WP G d mX2_atom 32 [some (dR 2), some (dI s'), some (dI b), some (dI n'), none] [] (mP M q') Q := by
      intro q' s' n' hbad
      rw [if_pos hbad] at er0
      refine x_aload_n dX2_atom_32 rfl rfl ?_
      refine g_getI (kI := 10) rfl dX2_atom_33 fX2_128_2 (by first | assumption | first | assumption | (simp (disch := omega) only [shI, shR, shL, shC, shD, shW, sh_V, shN_e, shN_n, crI, crL, crC, crW, crV, crR_e, crR_n, crN_e, crN_n, ciR, ciL, ciD, ciN_e, ciN_n, rdI_e, rdI_n, rdC_i, rdC_o, rdW, rdU_e, rdU_n, rdLW, clI, clR, clC, clD, clW, clV, clN_e, clN_n, clL_e, clL_n]; done) | (simp (disch := omega) only [shI, shR, shL, shC, shD, shW, sh_V, shN_e, shN_n, crI, crL, crC, crW, crV, crR_e, crR_n, crN_e, crN_n, ciR, ciL, ciD, ciN_e, ciN_n, rdI_e, rdI_n, rdC_i, rdC_o, rdW, rdU_e, rdU_n, rdLW, clI, clR, clC, clD, clW, clV, clN_e, clN_n, clL_e, clL_n] <;> first | assumption | rfl | omega)) ?_
      try simp (disch := omega) only [rdI_e, rdI_n, rdC_i, rdC_o, rdW, rdR, rdU_e, rdU_n, rdLW, Int.add_zero, mP_p, mP_o, h10]
      refine x_bipush dX2_atom_36 rfl ?_
      refine x_icmp_ne (tgt := 46) dX2_atom_38 (by decide) (fun h38 => ?_) (fun h38 => ?_)
      · exact absurd rfl h38
      · refine x_aload_n dX2_atom_41 rfl rfl ?_
        refine x_iload_n dX2_atom_42 rfl rfl ?_
        refine g_callNX (vs := [_, _]) (d' := d - 1) rfl (s_X2_fail (by omega) hR) dX2_atom_43 kX2_113 (by omega) (by decide) rfl (Nat.le_of_ble_eq_true rfl) (rcv_o (by first | assumption | first | assumption | (simp (disch := omega) only [shI, shR, shL, shC, shD, shW, sh_V, shN_e, shN_n, crI, crL, crC, crW, crV, crR_e, crR_n, crN_e, crN_n, ciR, ciL, ciD, ciN_e, ciN_n, rdI_e, rdI_n, rdC_i, rdC_o, rdW, rdU_e, rdU_n, rdLW, clI, clR, clC, clD, clW, clV, clN_e, clN_n, clL_e, clL_n]; done) | (simp (disch := omega) only [shI, shR, shL, shC, shD, shW, sh_V, shN_e, shN_n, crI, crL, crC, crW, crV, crR_e, crR_n, crN_e, crN_n, ciR, ciL, ciD, ciN_e, ciN_n, rdI_e, rdI_n, rdC_i, rdC_o, rdW, rdU_e, rdU_n, rdLW, clI, clR, clC, clD, clW, clV, clN_e, clN_n, clL_e, clL_n] <;> first | assumption | rfl | omega)) rfl) (fun M43 h43 => ?_) (fun a43 E43 M43 h43 => ?_)
        · exact False.elim (by assumption)
        · exact th_nil rfl (hQ _ _ (CX.f er0 (h43.z (Dr.rfl.z (Int.le_refl _) (Int.le_refl _)) (by show ((0 : Nat) : Int) ≤ 3 * (e - p) + (4 + 2 * ((0 : Nat) : Int)); omega) (by show ((0 : Nat) : Int) ≤ 12 * (e - p) + (18 + 6 * ((0 : Nat) : Int)); omega) rfl)))
    by_cases hI : isW tp b w (txB 31)
    · refine x_aload_n dX2_atom_0 rfl rfl ?_
      refine g_callI (vs := [_]) (d' := d - 1) rfl (s_X2_sign (by omega) hR (by omega)) dX2_atom_1 kX2_98 (by omega) (by decide) rfl (Nat.le_of_ble_eq_true rfl) (rcv_o (by first | assumption | first | assumption | (simp (disch := omega) only [shI, shR, shL, shC, shD, shW, sh_V, shN_e, shN_n, crI, crL, crC, crW, crV, crR_e, crR_n, crN_e, crN_n, ciR, ciL, ciD, ciN_e, ciN_n, rdI_e, rdI_n, rdC_i, rdC_o, rdW, rdU_e, rdU_n, rdLW, clI, clR, clC, clD, clW, clV, clN_e, clN_n, clL_e, clL_n]; done) | (simp (disch := omega) only [shI, shR, shL, shC, shD, shW, sh_V, shN_e, shN_n, crI, crL, crC, crW, crV, crR_e, crR_n, crN_e, crN_n, ciR, ciL, ciD, ciN_e, ciN_n, rdI_e, rdI_n, rdC_i, rdC_o, rdW, rdU_e, rdU_n, rdLW, clI, clR, clC, clD, clW, clV, clN_e, clN_n, clL_e, clL_n] <;> first | assumption | rfl | omega)) rfl) (fun x1 M1 h1 => ?_)
      obtain ⟨e1, f1⟩ := h1
      rw [hb] at f1
      have f1' := f1.symm
      subst f1'
      refine x_istore_n (L' := [some _, some _, none, none, none]) dX2_atom_4 rfl (by decide) rfl ?_
      refine x_aload_n dX2_atom_5 rfl rfl ?_
      refine g_getI (kI := 9) rfl dX2_atom_6 fX2_92_2 (by first | assumption | first | assumption | (simp (disch := omega) only [shI, shR, shL, shC, shD, shW, sh_V, shN_e, shN_n, crI, crL, crC, crW, crV, crR_e, crR_n, crN_e, crN_n, ciR, ciL, ciD, ciN_e, ciN_n, rdI_e, rdI_n, rdC_i, rdC_o, rdW, rdU_e, rdU_n, rdLW, clI, clR, clC, clD, clW, clV, clN_e, clN_n, clL_e, clL_n]; done) | (simp (disch := omega) only [shI, shR, shL, shC, shD, shW, sh_V, shN_e, shN_n, crI, crL, crC, crW, crV, crR_e, crR_n, crN_e, crN_n, ciR, ciL, ciD, ciN_e, ciN_n, rdI_e, rdI_n, rdC_i, rdC_o, rdW, rdU_e, rdU_n, rdLW, clI, clR, clC, clD, clW, clV, clN_e, clN_n, clL_e, clL_n] <;> first | assumption | rfl | omega)) ?_
      try simp (disch := omega) only [rdI_e, rdI_n, rdC_i, rdC_o, rdW, rdR, rdU_e, rdU_n, rdLW, Int.add_zero, mP_p, mP_o, h10]
      refine x_istore_n (L' := [some _, some _, some _, none, none]) dX2_atom_9 rfl (by decide) rfl ?_
      refine x_aload_n dX2_atom_10 rfl rfl ?_
      refine x_ldcs dX2_atom_11 (List.mem_of_getElem? (i := 31) rfl) ?_
      refine g_callI (vs := [_, _]) (d' := d - 1) rfl (s_X2_takes (i := 31) (by omega) hR (by omega) (by omega) rfl) dX2_atom_13 kX2_109 (by omega) (by decide) rfl (Nat.le_of_ble_eq_true rfl) (rcv_o (by first | assumption | first | assumption | (simp (disch := omega) only [shI, shR, shL, shC, shD, shW, sh_V, shN_e, shN_n, crI, crL, crC, crW, crV, crR_e, crR_n, crN_e, crN_n, ciR, ciL, ciD, ciN_e, ciN_n, rdI_e, rdI_n, rdC_i, rdC_o, rdW, rdU_e, rdU_n, rdLW, clI, clR, clC, clD, clW, clV, clN_e, clN_n, clL_e, clL_n]; done) | (simp (disch := omega) only [shI, shR, shL, shC, shD, shW, sh_V, shN_e, shN_n, crI, crL, crC, crW, crV, crR_e, crR_n, crN_e, crN_n, ciR, ciL, ciD, ciN_e, ciN_n, rdI_e, rdI_n, rdC_i, rdC_o, rdW, rdU_e, rdU_n, rdLW, clI, clR, clC, clD, clW, clV, clN_e, clN_n, clL_e, clL_n] <;> first | assumption | rfl | omega)) rfl) (fun x13 M13 h13 => ?_)
      obtain ⟨e13, f13⟩ := h13
      rw [hss, hw, if_pos hI] at f13
      rw [hss, hw, vP_t hI] at e13
      subst e13
      have f13' := f13.symm
      subst f13'
      refine x_istore_n (L' := [some _, some _, some _, some _, none]) dX2_atom_16 rfl (by decide) rfl ?_
      refine x_iload_n dX2_atom_17 rfl rfl ?_
      refine x_if_ne (tgt := 32) dX2_atom_18 (by decide) (fun h18 => ?_) (fun h18 => ?_)
      · exact bad _ _ _ (Or.inr hI)
      · simp at h18
    · by_cases hc : chP tp e 40 40 b
      · refine x_aload_n dX2_atom_0 rfl rfl ?_
        refine g_callI (vs := [_]) (d' := d - 1) rfl (s_X2_sign (by omega) hR (by omega)) dX2_atom_1 kX2_98 (by omega) (by decide) rfl (Nat.le_of_ble_eq_true rfl) (rcv_o (by first | assumption | first | assumption | (simp (disch := omega) only [shI, shR, shL, shC, shD, shW, sh_V, shN_e, shN_n, crI, crL, crC, crW, crV, crR_e, crR_n, crN_e, crN_n, ciR, ciL, ciD, ciN_e, ciN_n, rdI_e, rdI_n, rdC_i, rdC_o, rdW, rdU_e, rdU_n, rdLW, clI, clR, clC, clD, clW, clV, clN_e, clN_n, clL_e, clL_n]; done) | (simp (disch := omega) only [shI, shR, shL, shC, shD, shW, sh_V, shN_e, shN_n, crI, crL, crC, crW, crV, crR_e, crR_n, crN_e, crN_n, ciR, ciL, ciD, ciN_e, ciN_n, rdI_e, rdI_n, rdC_i, rdC_o, rdW, rdU_e, rdU_n, rdLW, clI, clR, clC, clD, clW, clV, clN_e, clN_n, clL_e, clL_n] <;> first | assumption | rfl | omega)) rfl) (fun x1 M1 h1 => ?_)
        obtain ⟨e1, f1⟩ := h1
        rw [hb] at f1
        have f1' := f1.symm
        subst f1'
        refine x_istore_n (L' := [some _, some _, none, none, none]) dX2_atom_4 rfl (by decide) rfl ?_
        refine x_aload_n dX2_atom_5 rfl rfl ?_
        refine g_getI (kI := 9) rfl dX2_atom_6 fX2_92_2 (by first | assumption | first | assumption | (simp (disch := omega) only [shI, shR, shL, shC, shD, shW, sh_V, shN_e, shN_n, crI, crL, crC, crW, crV, crR_e, crR_n, crN_e, crN_n, ciR, ciL, ciD, ciN_e, ciN_n, rdI_e, rdI_n, rdC_i, rdC_o, rdW, rdU_e, rdU_n, rdLW, clI, clR, clC, clD, clW, clV, clN_e, clN_n, clL_e, clL_n]; done) | (simp (disch := omega) only [shI, shR, shL, shC, shD, shW, sh_V, shN_e, shN_n, crI, crL, crC, crW, crV, crR_e, crR_n, crN_e, crN_n, ciR, ciL, ciD, ciN_e, ciN_n, rdI_e, rdI_n, rdC_i, rdC_o, rdW, rdU_e, rdU_n, rdLW, clI, clR, clC, clD, clW, clV, clN_e, clN_n, clL_e, clL_n] <;> first | assumption | rfl | omega)) ?_
        try simp (disch := omega) only [rdI_e, rdI_n, rdC_i, rdC_o, rdW, rdR, rdU_e, rdU_n, rdLW, Int.add_zero, mP_p, mP_o, h10]
        refine x_istore_n (L' := [some _, some _, some _, none, none]) dX2_atom_9 rfl (by decide) rfl ?_
        refine x_aload_n dX2_atom_10 rfl rfl ?_
        refine x_ldcs dX2_atom_11 (List.mem_of_getElem? (i := 31) rfl) ?_
        refine g_callI (vs := [_, _]) (d' := d - 1) rfl (s_X2_takes (i := 31) (by omega) hR (by omega) (by omega) rfl) dX2_atom_13 kX2_109 (by omega) (by decide) rfl (Nat.le_of_ble_eq_true rfl) (rcv_o (by first | assumption | first | assumption | (simp (disch := omega) only [shI, shR, shL, shC, shD, shW, sh_V, shN_e, shN_n, crI, crL, crC, crW, crV, crR_e, crR_n, crN_e, crN_n, ciR, ciL, ciD, ciN_e, ciN_n, rdI_e, rdI_n, rdC_i, rdC_o, rdW, rdU_e, rdU_n, rdLW, clI, clR, clC, clD, clW, clV, clN_e, clN_n, clL_e, clL_n]; done) | (simp (disch := omega) only [shI, shR, shL, shC, shD, shW, sh_V, shN_e, shN_n, crI, crL, crC, crW, crV, crR_e, crR_n, crN_e, crN_n, ciR, ciL, ciD, ciN_e, ciN_n, rdI_e, rdI_n, rdC_i, rdC_o, rdW, rdU_e, rdU_n, rdLW, clI, clR, clC, clD, clW, clV, clN_e, clN_n, clL_e, clL_n] <;> first | assumption | rfl | omega)) rfl) (fun x13 M13 h13 => ?_)
        obtain ⟨e13, f13⟩ := h13
        rw [hss, hw, if_neg hI] at f13
        rw [hss, hw, vP_f hI] at e13
        subst e13
        have f13' := f13.symm
        subst f13'
        refine x_istore_n (L' := [some _, some _, some _, some _, none]) dX2_atom_16 rfl (by decide) rfl ?_
        refine x_iload_n dX2_atom_17 rfl rfl ?_
        refine x_if_ne (tgt := 32) dX2_atom_18 (by decide) (fun h18 => ?_) (fun h18 => ?_)
        · simp at h18
        · refine x_iload_n dX2_atom_21 rfl rfl ?_
          refine x_bipush dX2_atom_22 rfl ?_
          refine x_icmp_eq (tgt := 32) dX2_atom_24 (by decide) (fun h24 => ?_) (fun h24 => ?_)
          · exact bad _ _ _ (Or.inl hc)
          · exact absurd (e1.trans (hsv.mpr hc)) h24
      · rw [if_neg (fun z => z.elim hc hI)] at er0
        refine x_aload_n dX2_atom_0 rfl rfl ?_
        refine g_callI (vs := [_]) (d' := d - 1) rfl (s_X2_sign (by omega) hR (by omega)) dX2_atom_1 kX2_98 (by omega) (by decide) rfl (Nat.le_of_ble_eq_true rfl) (rcv_o (by first | assumption | first | assumption | (simp (disch := omega) only [shI, shR, shL, shC, shD, shW, sh_V, shN_e, shN_n, crI, crL, crC, crW, crV, crR_e, crR_n, crN_e, crN_n, ciR, ciL, ciD, ciN_e, ciN_n, rdI_e, rdI_n, rdC_i, rdC_o, rdW, rdU_e, rdU_n, rdLW, clI, clR, clC, clD, clW, clV, clN_e, clN_n, clL_e, clL_n]; done) | (simp (disch := omega) only [shI, shR, shL, shC, shD, shW, sh_V, shN_e, shN_n, crI, crL, crC, crW, crV, crR_e, crR_n, crN_e, crN_n, ciR, ciL, ciD, ciN_e, ciN_n, rdI_e, rdI_n, rdC_i, rdC_o, rdW, rdU_e, rdU_n, rdLW, clI, clR, clC, clD, clW, clV, clN_e, clN_n, clL_e, clL_n] <;> first | assumption | rfl | omega)) rfl) (fun x1 M1 h1 => ?_)
        obtain ⟨e1, f1⟩ := h1
        rw [hb] at f1
        have f1' := f1.symm
        subst f1'
        refine x_istore_n (L' := [some _, some _, none, none, none]) dX2_atom_4 rfl (by decide) rfl ?_
        refine x_aload_n dX2_atom_5 rfl rfl ?_
        refine g_getI (kI := 9) rfl dX2_atom_6 fX2_92_2 (by first | assumption | first | assumption | (simp (disch := omega) only [shI, shR, shL, shC, shD, shW, sh_V, shN_e, shN_n, crI, crL, crC, crW, crV, crR_e, crR_n, crN_e, crN_n, ciR, ciL, ciD, ciN_e, ciN_n, rdI_e, rdI_n, rdC_i, rdC_o, rdW, rdU_e, rdU_n, rdLW, clI, clR, clC, clD, clW, clV, clN_e, clN_n, clL_e, clL_n]; done) | (simp (disch := omega) only [shI, shR, shL, shC, shD, shW, sh_V, shN_e, shN_n, crI, crL, crC, crW, crV, crR_e, crR_n, crN_e, crN_n, ciR, ciL, ciD, ciN_e, ciN_n, rdI_e, rdI_n, rdC_i, rdC_o, rdW, rdU_e, rdU_n, rdLW, clI, clR, clC, clD, clW, clV, clN_e, clN_n, clL_e, clL_n] <;> first | assumption | rfl | omega)) ?_
        try simp (disch := omega) only [rdI_e, rdI_n, rdC_i, rdC_o, rdW, rdR, rdU_e, rdU_n, rdLW, Int.add_zero, mP_p, mP_o, h10]
        refine x_istore_n (L' := [some _, some _, some _, none, none]) dX2_atom_9 rfl (by decide) rfl ?_
        refine x_aload_n dX2_atom_10 rfl rfl ?_
        refine x_ldcs dX2_atom_11 (List.mem_of_getElem? (i := 31) rfl) ?_
        refine g_callI (vs := [_, _]) (d' := d - 1) rfl (s_X2_takes (i := 31) (by omega) hR (by omega) (by omega) rfl) dX2_atom_13 kX2_109 (by omega) (by decide) rfl (Nat.le_of_ble_eq_true rfl) (rcv_o (by first | assumption | first | assumption | (simp (disch := omega) only [shI, shR, shL, shC, shD, shW, sh_V, shN_e, shN_n, crI, crL, crC, crW, crV, crR_e, crR_n, crN_e, crN_n, ciR, ciL, ciD, ciN_e, ciN_n, rdI_e, rdI_n, rdC_i, rdC_o, rdW, rdU_e, rdU_n, rdLW, clI, clR, clC, clD, clW, clV, clN_e, clN_n, clL_e, clL_n]; done) | (simp (disch := omega) only [shI, shR, shL, shC, shD, shW, sh_V, shN_e, shN_n, crI, crL, crC, crW, crV, crR_e, crR_n, crN_e, crN_n, ciR, ciL, ciD, ciN_e, ciN_n, rdI_e, rdI_n, rdC_i, rdC_o, rdW, rdU_e, rdU_n, rdLW, clI, clR, clC, clD, clW, clV, clN_e, clN_n, clL_e, clL_n] <;> first | assumption | rfl | omega)) rfl) (fun x13 M13 h13 => ?_)
        obtain ⟨e13, f13⟩ := h13
        rw [hss, hw, if_neg hI] at f13
        rw [hss, hw, vP_f hI] at e13
        subst e13
        have f13' := f13.symm
        subst f13'
        refine x_istore_n (L' := [some _, some _, some _, some _, none]) dX2_atom_16 rfl (by decide) rfl ?_
        refine x_iload_n dX2_atom_17 rfl rfl ?_
        refine x_if_ne (tgt := 32) dX2_atom_18 (by decide) (fun h18 => ?_) (fun h18 => ?_)
        · simp at h18
        · refine x_iload_n dX2_atom_21 rfl rfl ?_
          refine x_bipush dX2_atom_22 rfl ?_
          refine x_icmp_eq (tgt := 32) dX2_atom_24 (by decide) (fun h24 => ?_) (fun h24 => ?_)
          · exact absurd (hsv.mp (e1.symm.trans h24)) hc
          · refine x_aload_n dX2_atom_27 rfl rfl ?_
            refine g_callRX (vs := [_]) (d' := d - 1) rfl (s_X2_tag (c := c) (u := u) (by omega) hR hM (by omega)) dX2_atom_28 kX2_254 (by omega) (by decide) rfl (Nat.le_of_ble_eq_true rfl) (rcv_o (by first | assumption | first | assumption | (simp (disch := omega) only [shI, shR, shL, shC, shD, shW, sh_V, shN_e, shN_n, crI, crL, crC, crW, crV, crR_e, crR_n, crN_e, crN_n, ciR, ciL, ciD, ciN_e, ciN_n, rdI_e, rdI_n, rdC_i, rdC_o, rdW, rdU_e, rdU_n, rdLW, clI, clR, clC, clD, clW, clV, clN_e, clN_n, clL_e, clL_n]; done) | (simp (disch := omega) only [shI, shR, shL, shC, shD, shW, sh_V, shN_e, shN_n, crI, crL, crC, crW, crV, crR_e, crR_n, crN_e, crN_n, ciR, ciL, ciD, ciN_e, ciN_n, rdI_e, rdI_n, rdC_i, rdC_o, rdW, rdU_e, rdU_n, rdLW, clI, clR, clC, clD, clW, clV, clN_e, clN_n, clL_e, clL_n] <;> first | assumption | rfl | omega)) rfl) (fun x28 M28 h28 => ?_) (fun a28 E28 M28 h28 => ?_)
            · refine x_areturn rfl (by first | exact Or.inl ⟨_, rfl⟩ | exact Or.inr ⟨_, rfl⟩) dX2_atom_31 ?_
              refine hQ _ _ (CX.up (CX.pre (kx := 2) (ky := 6) (fx := 4) (fy := 18) (s := (b, c, u)) hs.1 (Or.inl ⟨_, rfl, ?_⟩)) (Nat.zero_le _) (Int.le_refl _) (Int.le_refl _) (by omega) (by omega))
              rw [er0]
              exact h28
            · refine th_nil rfl (hQ _ _ (CX.up (CX.pre (kx := 2) (ky := 6) (fx := 4) (fy := 18) (s := (b, c, u)) hs.1 (Or.inr ⟨_, _, rfl, ?_⟩)) (Nat.zero_le _) (Int.le_refl _) (Int.le_refl _) (by omega) (by omega)))
              rw [er0]
              exact h28
  | succ t ih =>
    intro ht6 d M p c u hd hR hM hp h10
    have h10 : mci M 2 10 = 5 - (t : Int) := h10.trans (by omega)
    have hat := ih (by omega)
    obtain ⟨⟨⟨r0, r3, r4, r5, r6, r7, r53⟩, -⟩, -, -, he2, -, hB⟩ := id hR
    have hs := skB_r (tp := tp) hp.2
    have hws := wdB_r (tp := tp) hs.2
    have hss : skB tp e (skB tp e p) = skB tp e p := skB_i _ rfl
    have hsv : sgV tp e p = 40 ↔ chP tp e 40 40 (skB tp e p) := sgV_i hB (by omega)
    have er0 : rAtm tp e (t + 1) (p, c, u) = (if chP tp e 40 40 (skB tp e p) then
      (match rCnd tp e (rAtm tp e t) (skB tp e p + 1, c, u) with
      | .inl x => .inl x
      | .inr y => if chP tp e 41 41 (skB tp e y.1) then .inr (skB tp e y.1 + 1, y.2) else .inl (skB tp e y.1))
    else if isW tp (skB tp e p) (wdB tp e (skB tp e p)) (txB 31) then
      (match rAtm tp e t (wdB tp e (skB tp e p), c, u) with
      | .inl x => .inl x
      | .inr y => .inr (em y 14 0))
    else rCmp tp e (skB tp e p, c, u)) := rfl
    generalize hb : skB tp e p = b at hs hws hss hsv er0
    generalize hw : wdB tp e b = w at hws er0
    have hD0 : Dr M (mI M 2 10 (6 - (t : Int))) 0 0 := Dr.rfl.I (by omega)
    have hR0 : RdX (mI M 2 10 (6 - (t : Int))) tp e := hR.dr hD0 (by omega)
    have hM0 : 761 ≤ mnx (mI M 2 10 (6 - (t : Int))) := hM
    have e100 : mci (mI M 2 10 (6 - (t : Int))) 2 10 = 6 - (t : Int) := rdI_e ⟨rfl, rfl⟩
    refine CS.mkQ (by decide) (Nat.le_of_ble_eq_true rfl) fun Q hQ => ?_
    -- at the end: less deep
    have last : ∀ (y : LgS) (P : Pf) (M' : Mem) (q' a l1 l2 l3 : Int), rAtm tp e (t + 1) (p, c, u) = .inr y → Ev (p, c, u) y (fun fc => vP (P fc)) → 0 ≤ q' ∧ q' ≤ e → skB tp e q' = skB tp e y.1 → Dz M M' (3 * (y.1 - p) - 2) (12 * (y.1 - p) - 6) → mci M' 2 10 = 6 - (t : Int) → CD (msh M') (mci M') (mcr M') (mnx M) (mnx M') (2 * (t + 1)) a P → WP G d mX2_atom 120 [some (dR 2), some (dI l1), some (dI l2), some (dI l3), some (dR a)] [] (mP M' q') Q := by
      intro y P M' q' a l1 l2 l3 h1 h2 h3 h4 h5 h6 h7
      have hR' : RdX M' tp e := hR.dz h5 (by omega)
      have r0' : msh M' 2 = some (2, 0) := hR'.1.1.1
      refine x_aload_n dX2_atom_120 rfl rfl ?_
      refine x_dup dX2_atom_121 rfl ?_
      refine g_getI (kI := 10) rfl dX2_atom_122 fX2_128_2 (by first | assumption | first | assumption | (simp (disch := omega) only [shI, shR, shL, shC, shD, shW, sh_V, shN_e, shN_n, crI, crL, crC, crW, crV, crR_e, crR_n, crN_e, crN_n, ciR, ciL, ciD, ciN_e, ciN_n, rdI_e, rdI_n, rdC_i, rdC_o, rdW, rdU_e, rdU_n, rdLW, clI, clR, clC, clD, clW, clV, clN_e, clN_n, clL_e, clL_n]; done) | (simp (disch := omega) only [shI, shR, shL, shC, shD, shW, sh_V, shN_e, shN_n, crI, crL, crC, crW, crV, crR_e, crR_n, crN_e, crN_n, ciR, ciL, ciD, ciN_e, ciN_n, rdI_e, rdI_n, rdC_i, rdC_o, rdW, rdU_e, rdU_n, rdLW, clI, clR, clC, clD, clW, clV, clN_e, clN_n, clL_e, clL_n] <;> first | assumption | rfl | omega)) ?_
      try simp (disch := omega) only [rdI_e, rdI_n, rdC_i, rdC_o, rdW, rdR, rdU_e, rdU_n, rdLW, Int.add_zero, mP_p, mP_o, h6]
      refine x_iconst dX2_atom_125 rfl ?_
      first | refine x_isubN dX2_atom_126 (by unfold i32; omega) ?_ | refine x_isub dX2_atom_126 ?_
      refine g_putI (kI := 10) rfl dX2_atom_127 fX2_128_2 (by first | assumption | first | assumption | (simp (disch := omega) only [shI, shR, shL, shC, shD, shW, sh_V, shN_e, shN_n, crI, crL, crC, crW, crV, crR_e, crR_n, crN_e, crN_n, ciR, ciL, ciD, ciN_e, ciN_n, rdI_e, rdI_n, rdC_i, rdC_o, rdW, rdU_e, rdU_n, rdLW, clI, clR, clC, clD, clW, clV, clN_e, clN_n, clL_e, clL_n]; done) | (simp (disch := omega) only [shI, shR, shL, shC, shD, shW, sh_V, shN_e, shN_n, crI, crL, crC, crW, crV, crR_e, crR_n, crN_e, crN_n, ciR, ciL, ciD, ciN_e, ciN_n, rdI_e, rdI_n, rdC_i, rdC_o, rdW, rdU_e, rdU_n, rdLW, clI, clR, clC, clD, clW, clV, clN_e, clN_n, clL_e, clL_n] <;> first | assumption | rfl | omega)) ?_
      try simp only [mP_w]
      refine WP.mem (mP_c (by omega)) ?_
      refine x_aload dX2_atom_130 rfl ?_
      refine x_areturn rfl (by first | exact Or.inl ⟨_, rfl⟩ | exact Or.inr ⟨_, rfl⟩) dX2_atom_132 ?_
      refine hQ _ _ (CX.s h1 h2 h3 h4 ?_ ?_ ?_)
      · obtain ⟨c1, s1, d1, d2, d3⟩ := h5
        exact ⟨c1, s1, d1.I (by omega), d2, d3⟩
      · exact (rdI_e ⟨rfl, rfl⟩).trans (by omega)
      · exact h7.wid (fun a a0 a1 => ⟨rfl, fun k => rdI_n (by omega), fun k => rfl⟩) (Int.le_refl _) (Int.le_refl _)
    by_cases hc : chP tp e 40 40 b
    · rw [if_pos hc] at er0
      have hc1 := hc.1
      have hI : ¬ isW tp b w (txB 31) := fun z => by
        have h1 : wdB tp e b = b := spB_e fun q => by
          have h2 := q.2
          have h3 := hc.2
          omega
        have h2 := z.1
        rw [hw] at h1
        rw [h1] at h2
        have h3 : ((txB 31).length : Int) = 3 := rfl
        omega
      have hrow := row0_at (G := G) (d := d - 1) (c := c) (u := u) (p := b + 1) (by omega) hat hR0 hM0 (by omega) e100
      rcases hx : rCnd tp e (rAtm tp e t) (b + 1, c, u) with f | y
      · rw [hx] at er0
        dsimp only at er0
        refine x_aload_n dX2_atom_0 rfl rfl ?_
        refine g_callI (vs := [_]) (d' := d - 1) rfl (s_X2_sign (by omega) hR (by omega)) dX2_atom_1 kX2_98 (by omega) (by decide) rfl (Nat.le_of_ble_eq_true rfl) (rcv_o (by first | assumption | first | assumption | (simp (disch := omega) only [shI, shR, shL, shC, shD, shW, sh_V, shN_e, shN_n, crI, crL, crC, crW, crV, crR_e, crR_n, crN_e, crN_n, ciR, ciL, ciD, ciN_e, ciN_n, rdI_e, rdI_n, rdC_i, rdC_o, rdW, rdU_e, rdU_n, rdLW, clI, clR, clC, clD, clW, clV, clN_e, clN_n, clL_e, clL_n]; done) | (simp (disch := omega) only [shI, shR, shL, shC, shD, shW, sh_V, shN_e, shN_n, crI, crL, crC, crW, crV, crR_e, crR_n, crN_e, crN_n, ciR, ciL, ciD, ciN_e, ciN_n, rdI_e, rdI_n, rdC_i, rdC_o, rdW, rdU_e, rdU_n, rdLW, clI, clR, clC, clD, clW, clV, clN_e, clN_n, clL_e, clL_n] <;> first | assumption | rfl | omega)) rfl) (fun x1 M1 h1 => ?_)
        obtain ⟨e1, f1⟩ := h1
        rw [hb] at f1
        have f1' := f1.symm
        subst f1'
        refine x_istore_n (L' := [some _, some _, none, none, none]) dX2_atom_4 rfl (by decide) rfl ?_
        refine x_aload_n dX2_atom_5 rfl rfl ?_
        refine g_getI (kI := 9) rfl dX2_atom_6 fX2_92_2 (by first | assumption | first | assumption | (simp (disch := omega) only [shI, shR, shL, shC, shD, shW, sh_V, shN_e, shN_n, crI, crL, crC, crW, crV, crR_e, crR_n, crN_e, crN_n, ciR, ciL, ciD, ciN_e, ciN_n, rdI_e, rdI_n, rdC_i, rdC_o, rdW, rdU_e, rdU_n, rdLW, clI, clR, clC, clD, clW, clV, clN_e, clN_n, clL_e, clL_n]; done) | (simp (disch := omega) only [shI, shR, shL, shC, shD, shW, sh_V, shN_e, shN_n, crI, crL, crC, crW, crV, crR_e, crR_n, crN_e, crN_n, ciR, ciL, ciD, ciN_e, ciN_n, rdI_e, rdI_n, rdC_i, rdC_o, rdW, rdU_e, rdU_n, rdLW, clI, clR, clC, clD, clW, clV, clN_e, clN_n, clL_e, clL_n] <;> first | assumption | rfl | omega)) ?_
        try simp (disch := omega) only [rdI_e, rdI_n, rdC_i, rdC_o, rdW, rdR, rdU_e, rdU_n, rdLW, Int.add_zero, mP_p, mP_o, h10]
        refine x_istore_n (L' := [some _, some _, some _, none, none]) dX2_atom_9 rfl (by decide) rfl ?_
        refine x_aload_n dX2_atom_10 rfl rfl ?_
        refine x_ldcs dX2_atom_11 (List.mem_of_getElem? (i := 31) rfl) ?_
        refine g_callI (vs := [_, _]) (d' := d - 1) rfl (s_X2_takes (i := 31) (by omega) hR (by omega) (by omega) rfl) dX2_atom_13 kX2_109 (by omega) (by decide) rfl (Nat.le_of_ble_eq_true rfl) (rcv_o (by first | assumption | first | assumption | (simp (disch := omega) only [shI, shR, shL, shC, shD, shW, sh_V, shN_e, shN_n, crI, crL, crC, crW, crV, crR_e, crR_n, crN_e, crN_n, ciR, ciL, ciD, ciN_e, ciN_n, rdI_e, rdI_n, rdC_i, rdC_o, rdW, rdU_e, rdU_n, rdLW, clI, clR, clC, clD, clW, clV, clN_e, clN_n, clL_e, clL_n]; done) | (simp (disch := omega) only [shI, shR, shL, shC, shD, shW, sh_V, shN_e, shN_n, crI, crL, crC, crW, crV, crR_e, crR_n, crN_e, crN_n, ciR, ciL, ciD, ciN_e, ciN_n, rdI_e, rdI_n, rdC_i, rdC_o, rdW, rdU_e, rdU_n, rdLW, clI, clR, clC, clD, clW, clV, clN_e, clN_n, clL_e, clL_n] <;> first | assumption | rfl | omega)) rfl) (fun x13 M13 h13 => ?_)
        obtain ⟨e13, f13⟩ := h13
        rw [hss, hw, if_neg hI] at f13
        rw [hss, hw, vP_f hI] at e13
        subst e13
        have f13' := f13.symm
        subst f13'
        refine x_istore_n (L' := [some _, some _, some _, some _, none]) dX2_atom_16 rfl (by decide) rfl ?_
        refine x_iload_n dX2_atom_17 rfl rfl ?_
        refine x_if_ne (tgt := 32) dX2_atom_18 (by decide) (fun h18 => ?_) (fun h18 => ?_)
        · simp at h18
        · refine x_iload_n dX2_atom_21 rfl rfl ?_
          refine x_bipush dX2_atom_22 rfl ?_
          refine x_icmp_eq (tgt := 32) dX2_atom_24 (by decide) (fun h24 => ?_) (fun h24 => ?_)
          · refine x_aload_n dX2_atom_32 rfl rfl ?_
            refine g_getI (kI := 10) rfl dX2_atom_33 fX2_128_2 (by first | assumption | first | assumption | (simp (disch := omega) only [shI, shR, shL, shC, shD, shW, sh_V, shN_e, shN_n, crI, crL, crC, crW, crV, crR_e, crR_n, crN_e, crN_n, ciR, ciL, ciD, ciN_e, ciN_n, rdI_e, rdI_n, rdC_i, rdC_o, rdW, rdU_e, rdU_n, rdLW, clI, clR, clC, clD, clW, clV, clN_e, clN_n, clL_e, clL_n]; done) | (simp (disch := omega) only [shI, shR, shL, shC, shD, shW, sh_V, shN_e, shN_n, crI, crL, crC, crW, crV, crR_e, crR_n, crN_e, crN_n, ciR, ciL, ciD, ciN_e, ciN_n, rdI_e, rdI_n, rdC_i, rdC_o, rdW, rdU_e, rdU_n, rdLW, clI, clR, clC, clD, clW, clV, clN_e, clN_n, clL_e, clL_n] <;> first | assumption | rfl | omega)) ?_
            try simp (disch := omega) only [rdI_e, rdI_n, rdC_i, rdC_o, rdW, rdR, rdU_e, rdU_n, rdLW, Int.add_zero, mP_p, mP_o, h10]
            refine x_bipush dX2_atom_36 rfl ?_
            refine x_icmp_ne (tgt := 46) dX2_atom_38 (by decide) (fun h38 => ?_) (fun h38 => ?_)
            · refine x_aload_n dX2_atom_46 rfl rfl ?_
              refine x_dup dX2_atom_47 rfl ?_
              refine g_getI (kI := 10) rfl dX2_atom_48 fX2_128_2 (by first | assumption | first | assumption | (simp (disch := omega) only [shI, shR, shL, shC, shD, shW, sh_V, shN_e, shN_n, crI, crL, crC, crW, crV, crR_e, crR_n, crN_e, crN_n, ciR, ciL, ciD, ciN_e, ciN_n, rdI_e, rdI_n, rdC_i, rdC_o, rdW, rdU_e, rdU_n, rdLW, clI, clR, clC, clD, clW, clV, clN_e, clN_n, clL_e, clL_n]; done) | (simp (disch := omega) only [shI, shR, shL, shC, shD, shW, sh_V, shN_e, shN_n, crI, crL, crC, crW, crV, crR_e, crR_n, crN_e, crN_n, ciR, ciL, ciD, ciN_e, ciN_n, rdI_e, rdI_n, rdC_i, rdC_o, rdW, rdU_e, rdU_n, rdLW, clI, clR, clC, clD, clW, clV, clN_e, clN_n, clL_e, clL_n] <;> first | assumption | rfl | omega)) ?_
              try simp (disch := omega) only [rdI_e, rdI_n, rdC_i, rdC_o, rdW, rdR, rdU_e, rdU_n, rdLW, Int.add_zero, mP_p, mP_o, h10]
              refine x_iconst dX2_atom_51 rfl ?_
              first | refine x_iaddN dX2_atom_52 (by unfold i32; omega) ?_ | refine x_iadd dX2_atom_52 ?_
              refine g_putI (kI := 10) rfl dX2_atom_53 fX2_128_2 (by first | assumption | first | assumption | (simp (disch := omega) only [shI, shR, shL, shC, shD, shW, sh_V, shN_e, shN_n, crI, crL, crC, crW, crV, crR_e, crR_n, crN_e, crN_n, ciR, ciL, ciD, ciN_e, ciN_n, rdI_e, rdI_n, rdC_i, rdC_o, rdW, rdU_e, rdU_n, rdLW, clI, clR, clC, clD, clW, clV, clN_e, clN_n, clL_e, clL_n]; done) | (simp (disch := omega) only [shI, shR, shL, shC, shD, shW, sh_V, shN_e, shN_n, crI, crL, crC, crW, crV, crR_e, crR_n, crN_e, crN_n, ciR, ciL, ciD, ciN_e, ciN_n, rdI_e, rdI_n, rdC_i, rdC_o, rdW, rdU_e, rdU_n, rdLW, clI, clR, clC, clD, clW, clV, clN_e, clN_n, clL_e, clL_n] <;> first | assumption | rfl | omega)) ?_
              try simp only [mP_w]
              rw [show 5 - (t : Int) + 1 = 6 - (t : Int) by omega]
              refine WP.mem (mP_c (by omega)) ?_
              refine x_iload_n dX2_atom_56 rfl rfl ?_
              refine x_if_eq (tgt := 76) dX2_atom_57 (by decide) (fun h57 => ?_) (fun h57 => ?_)
              · refine x_aload_n dX2_atom_76 rfl rfl ?_
                refine x_dup dX2_atom_77 rfl ?_
                refine g_getI (kI := 9) rfl dX2_atom_78 fX2_92_2 (by first | assumption | first | assumption | (simp (disch := omega) only [shI, shR, shL, shC, shD, shW, sh_V, shN_e, shN_n, crI, crL, crC, crW, crV, crR_e, crR_n, crN_e, crN_n, ciR, ciL, ciD, ciN_e, ciN_n, rdI_e, rdI_n, rdC_i, rdC_o, rdW, rdU_e, rdU_n, rdLW, clI, clR, clC, clD, clW, clV, clN_e, clN_n, clL_e, clL_n]; done) | (simp (disch := omega) only [shI, shR, shL, shC, shD, shW, sh_V, shN_e, shN_n, crI, crL, crC, crW, crV, crR_e, crR_n, crN_e, crN_n, ciR, ciL, ciD, ciN_e, ciN_n, rdI_e, rdI_n, rdC_i, rdC_o, rdW, rdU_e, rdU_n, rdLW, clI, clR, clC, clD, clW, clV, clN_e, clN_n, clL_e, clL_n] <;> first | assumption | rfl | omega)) ?_
                try simp (disch := omega) only [rdI_e, rdI_n, rdC_i, rdC_o, rdW, rdR, rdU_e, rdU_n, rdLW, Int.add_zero, mP_p, mP_o, h10]
                refine x_iconst dX2_atom_81 rfl ?_
                first | refine x_iaddN dX2_atom_82 (by unfold i32; omega) ?_ | refine x_iadd dX2_atom_82 ?_
                refine g_putI (kI := 9) rfl dX2_atom_83 fX2_92_2 (by first | assumption | first | assumption | (simp (disch := omega) only [shI, shR, shL, shC, shD, shW, sh_V, shN_e, shN_n, crI, crL, crC, crW, crV, crR_e, crR_n, crN_e, crN_n, ciR, ciL, ciD, ciN_e, ciN_n, rdI_e, rdI_n, rdC_i, rdC_o, rdW, rdU_e, rdU_n, rdLW, clI, clR, clC, clD, clW, clV, clN_e, clN_n, clL_e, clL_n]; done) | (simp (disch := omega) only [shI, shR, shL, shC, shD, shW, sh_V, shN_e, shN_n, crI, crL, crC, crW, crV, crR_e, crR_n, crN_e, crN_n, ciR, ciL, ciD, ciN_e, ciN_n, rdI_e, rdI_n, rdC_i, rdC_o, rdW, rdU_e, rdU_n, rdLW, clI, clR, clC, clD, clW, clV, clN_e, clN_n, clL_e, clL_n] <;> first | assumption | rfl | omega)) ?_
                try simp only [mP_w]
                refine x_aload_n dX2_atom_86 rfl rfl ?_
                refine x_iconst dX2_atom_87 rfl ?_
                refine g_callRX (vs := [_, _]) (d' := d - 1) rfl (hrow) dX2_atom_88 kX2_221 (by omega) (by decide) rfl (Nat.le_of_ble_eq_true rfl) (rcv_o (by first | assumption | first | assumption | (simp (disch := omega) only [shI, shR, shL, shC, shD, shW, sh_V, shN_e, shN_n, crI, crL, crC, crW, crV, crR_e, crR_n, crN_e, crN_n, ciR, ciL, ciD, ciN_e, ciN_n, rdI_e, rdI_n, rdC_i, rdC_o, rdW, rdU_e, rdU_n, rdLW, clI, clR, clC, clD, clW, clV, clN_e, clN_n, clL_e, clL_n]; done) | (simp (disch := omega) only [shI, shR, shL, shC, shD, shW, sh_V, shN_e, shN_n, crI, crL, crC, crW, crV, crR_e, crR_n, crN_e, crN_n, ciR, ciL, ciD, ciN_e, ciN_n, rdI_e, rdI_n, rdC_i, rdC_o, rdW, rdU_e, rdU_n, rdLW, clI, clR, clC, clD, clW, clV, clN_e, clN_n, clL_e, clL_n] <;> first | assumption | rfl | omega)) rfl) (fun x88 M88 h88 => ?_) (fun a88 E88 M88 h88 => ?_)
                · obtain ⟨y, P, M', q', a, hy, -⟩ := h88
                  rw [hx] at hy
                  cases hy
                  skip
                · obtain ⟨f', hf, hz⟩ := h88
                  rw [hx] at hf
                  cases hf
                  exact th_nil rfl (hQ _ _ (CX.f er0 (hz.d (hD0.z (Int.le_refl _) (Int.le_refl _)) (by show ((0 : Nat) : Int) + (3 * (e - (b + 1)) + (4 + 2 * (t : Int) + 1 + 1)) ≤ 3 * (e - p) + (4 + 2 * ((t + 1 : Nat) : Int)); omega) (by show ((0 : Nat) : Int) + (12 * (e - (b + 1)) + (18 + 6 * (t : Int) + 3 + 3)) ≤ 12 * (e - p) + (18 + 6 * ((t + 1 : Nat) : Int)); omega) rfl)))
              · simp at h57
            · omega
          · exact absurd (e1.trans (hsv.mpr hc)) h24
      · rw [hx] at er0
        dsimp only at er0
        have g1 := rCnd_g (rAtm_g t) _ _ (by show b + 1 ≤ e; omega) hx 0
        have hy1 : b + 1 ≤ y.1 := g1.1.1
        have hy2 : y.1 ≤ e := g1.1.2
        have hsy := skB_r (tp := tp) hy2
        have hsi : skB tp e (skB tp e y.1) = skB tp e y.1 := skB_i _ rfl
        by_cases hc2 : chP tp e 41 41 (skB tp e y.1)
        · rw [if_pos hc2] at er0
          have hc3 := hc2.1
          refine x_aload_n dX2_atom_0 rfl rfl ?_
          refine g_callI (vs := [_]) (d' := d - 1) rfl (s_X2_sign (by omega) hR (by omega)) dX2_atom_1 kX2_98 (by omega) (by decide) rfl (Nat.le_of_ble_eq_true rfl) (rcv_o (by first | assumption | first | assumption | (simp (disch := omega) only [shI, shR, shL, shC, shD, shW, sh_V, shN_e, shN_n, crI, crL, crC, crW, crV, crR_e, crR_n, crN_e, crN_n, ciR, ciL, ciD, ciN_e, ciN_n, rdI_e, rdI_n, rdC_i, rdC_o, rdW, rdU_e, rdU_n, rdLW, clI, clR, clC, clD, clW, clV, clN_e, clN_n, clL_e, clL_n]; done) | (simp (disch := omega) only [shI, shR, shL, shC, shD, shW, sh_V, shN_e, shN_n, crI, crL, crC, crW, crV, crR_e, crR_n, crN_e, crN_n, ciR, ciL, ciD, ciN_e, ciN_n, rdI_e, rdI_n, rdC_i, rdC_o, rdW, rdU_e, rdU_n, rdLW, clI, clR, clC, clD, clW, clV, clN_e, clN_n, clL_e, clL_n] <;> first | assumption | rfl | omega)) rfl) (fun x1 M1 h1 => ?_)
          obtain ⟨e1, f1⟩ := h1
          rw [hb] at f1
          have f1' := f1.symm
          subst f1'
          refine x_istore_n (L' := [some _, some _, none, none, none]) dX2_atom_4 rfl (by decide) rfl ?_
          refine x_aload_n dX2_atom_5 rfl rfl ?_
          refine g_getI (kI := 9) rfl dX2_atom_6 fX2_92_2 (by first | assumption | first | assumption | (simp (disch := omega) only [shI, shR, shL, shC, shD, shW, sh_V, shN_e, shN_n, crI, crL, crC, crW, crV, crR_e, crR_n, crN_e, crN_n, ciR, ciL, ciD, ciN_e, ciN_n, rdI_e, rdI_n, rdC_i, rdC_o, rdW, rdU_e, rdU_n, rdLW, clI, clR, clC, clD, clW, clV, clN_e, clN_n, clL_e, clL_n]; done) | (simp (disch := omega) only [shI, shR, shL, shC, shD, shW, sh_V, shN_e, shN_n, crI, crL, crC, crW, crV, crR_e, crR_n, crN_e, crN_n, ciR, ciL, ciD, ciN_e, ciN_n, rdI_e, rdI_n, rdC_i, rdC_o, rdW, rdU_e, rdU_n, rdLW, clI, clR, clC, clD, clW, clV, clN_e, clN_n, clL_e, clL_n] <;> first | assumption | rfl | omega)) ?_
          try simp (disch := omega) only [rdI_e, rdI_n, rdC_i, rdC_o, rdW, rdR, rdU_e, rdU_n, rdLW, Int.add_zero, mP_p, mP_o, h10]
          refine x_istore_n (L' := [some _, some _, some _, none, none]) dX2_atom_9 rfl (by decide) rfl ?_
          refine x_aload_n dX2_atom_10 rfl rfl ?_
          refine x_ldcs dX2_atom_11 (List.mem_of_getElem? (i := 31) rfl) ?_
          refine g_callI (vs := [_, _]) (d' := d - 1) rfl (s_X2_takes (i := 31) (by omega) hR (by omega) (by omega) rfl) dX2_atom_13 kX2_109 (by omega) (by decide) rfl (Nat.le_of_ble_eq_true rfl) (rcv_o (by first | assumption | first | assumption | (simp (disch := omega) only [shI, shR, shL, shC, shD, shW, sh_V, shN_e, shN_n, crI, crL, crC, crW, crV, crR_e, crR_n, crN_e, crN_n, ciR, ciL, ciD, ciN_e, ciN_n, rdI_e, rdI_n, rdC_i, rdC_o, rdW, rdU_e, rdU_n, rdLW, clI, clR, clC, clD, clW, clV, clN_e, clN_n, clL_e, clL_n]; done) | (simp (disch := omega) only [shI, shR, shL, shC, shD, shW, sh_V, shN_e, shN_n, crI, crL, crC, crW, crV, crR_e, crR_n, crN_e, crN_n, ciR, ciL, ciD, ciN_e, ciN_n, rdI_e, rdI_n, rdC_i, rdC_o, rdW, rdU_e, rdU_n, rdLW, clI, clR, clC, clD, clW, clV, clN_e, clN_n, clL_e, clL_n] <;> first | assumption | rfl | omega)) rfl) (fun x13 M13 h13 => ?_)
          obtain ⟨e13, f13⟩ := h13
          rw [hss, hw, if_neg hI] at f13
          rw [hss, hw, vP_f hI] at e13
          subst e13
          have f13' := f13.symm
          subst f13'
          refine x_istore_n (L' := [some _, some _, some _, some _, none]) dX2_atom_16 rfl (by decide) rfl ?_
          refine x_iload_n dX2_atom_17 rfl rfl ?_
          refine x_if_ne (tgt := 32) dX2_atom_18 (by decide) (fun h18 => ?_) (fun h18 => ?_)
          · simp at h18
          · refine x_iload_n dX2_atom_21 rfl rfl ?_
            refine x_bipush dX2_atom_22 rfl ?_
            refine x_icmp_eq (tgt := 32) dX2_atom_24 (by decide) (fun h24 => ?_) (fun h24 => ?_)
            · refine x_aload_n dX2_atom_32 rfl rfl ?_
              refine g_getI (kI := 10) rfl dX2_atom_33 fX2_128_2 (by first | assumption | first | assumption | (simp (disch := omega) only [shI, shR, shL, shC, shD, shW, sh_V, shN_e, shN_n, crI, crL, crC, crW, crV, crR_e, crR_n, crN_e, crN_n, ciR, ciL, ciD, ciN_e, ciN_n, rdI_e, rdI_n, rdC_i, rdC_o, rdW, rdU_e, rdU_n, rdLW, clI, clR, clC, clD, clW, clV, clN_e, clN_n, clL_e, clL_n]; done) | (simp (disch := omega) only [shI, shR, shL, shC, shD, shW, sh_V, shN_e, shN_n, crI, crL, crC, crW, crV, crR_e, crR_n, crN_e, crN_n, ciR, ciL, ciD, ciN_e, ciN_n, rdI_e, rdI_n, rdC_i, rdC_o, rdW, rdU_e, rdU_n, rdLW, clI, clR, clC, clD, clW, clV, clN_e, clN_n, clL_e, clL_n] <;> first | assumption | rfl | omega)) ?_
              try simp (disch := omega) only [rdI_e, rdI_n, rdC_i, rdC_o, rdW, rdR, rdU_e, rdU_n, rdLW, Int.add_zero, mP_p, mP_o, h10]
              refine x_bipush dX2_atom_36 rfl ?_
              refine x_icmp_ne (tgt := 46) dX2_atom_38 (by decide) (fun h38 => ?_) (fun h38 => ?_)
              · refine x_aload_n dX2_atom_46 rfl rfl ?_
                refine x_dup dX2_atom_47 rfl ?_
                refine g_getI (kI := 10) rfl dX2_atom_48 fX2_128_2 (by first | assumption | first | assumption | (simp (disch := omega) only [shI, shR, shL, shC, shD, shW, sh_V, shN_e, shN_n, crI, crL, crC, crW, crV, crR_e, crR_n, crN_e, crN_n, ciR, ciL, ciD, ciN_e, ciN_n, rdI_e, rdI_n, rdC_i, rdC_o, rdW, rdU_e, rdU_n, rdLW, clI, clR, clC, clD, clW, clV, clN_e, clN_n, clL_e, clL_n]; done) | (simp (disch := omega) only [shI, shR, shL, shC, shD, shW, sh_V, shN_e, shN_n, crI, crL, crC, crW, crV, crR_e, crR_n, crN_e, crN_n, ciR, ciL, ciD, ciN_e, ciN_n, rdI_e, rdI_n, rdC_i, rdC_o, rdW, rdU_e, rdU_n, rdLW, clI, clR, clC, clD, clW, clV, clN_e, clN_n, clL_e, clL_n] <;> first | assumption | rfl | omega)) ?_
                try simp (disch := omega) only [rdI_e, rdI_n, rdC_i, rdC_o, rdW, rdR, rdU_e, rdU_n, rdLW, Int.add_zero, mP_p, mP_o, h10]
                refine x_iconst dX2_atom_51 rfl ?_
                first | refine x_iaddN dX2_atom_52 (by unfold i32; omega) ?_ | refine x_iadd dX2_atom_52 ?_
                refine g_putI (kI := 10) rfl dX2_atom_53 fX2_128_2 (by first | assumption | first | assumption | (simp (disch := omega) only [shI, shR, shL, shC, shD, shW, sh_V, shN_e, shN_n, crI, crL, crC, crW, crV, crR_e, crR_n, crN_e, crN_n, ciR, ciL, ciD, ciN_e, ciN_n, rdI_e, rdI_n, rdC_i, rdC_o, rdW, rdU_e, rdU_n, rdLW, clI, clR, clC, clD, clW, clV, clN_e, clN_n, clL_e, clL_n]; done) | (simp (disch := omega) only [shI, shR, shL, shC, shD, shW, sh_V, shN_e, shN_n, crI, crL, crC, crW, crV, crR_e, crR_n, crN_e, crN_n, ciR, ciL, ciD, ciN_e, ciN_n, rdI_e, rdI_n, rdC_i, rdC_o, rdW, rdU_e, rdU_n, rdLW, clI, clR, clC, clD, clW, clV, clN_e, clN_n, clL_e, clL_n] <;> first | assumption | rfl | omega)) ?_
                try simp only [mP_w]
                rw [show 5 - (t : Int) + 1 = 6 - (t : Int) by omega]
                refine WP.mem (mP_c (by omega)) ?_
                refine x_iload_n dX2_atom_56 rfl rfl ?_
                refine x_if_eq (tgt := 76) dX2_atom_57 (by decide) (fun h57 => ?_) (fun h57 => ?_)
                · refine x_aload_n dX2_atom_76 rfl rfl ?_
                  refine x_dup dX2_atom_77 rfl ?_
                  refine g_getI (kI := 9) rfl dX2_atom_78 fX2_92_2 (by first | assumption | first | assumption | (simp (disch := omega) only [shI, shR, shL, shC, shD, shW, sh_V, shN_e, shN_n, crI, crL, crC, crW, crV, crR_e, crR_n, crN_e, crN_n, ciR, ciL, ciD, ciN_e, ciN_n, rdI_e, rdI_n, rdC_i, rdC_o, rdW, rdU_e, rdU_n, rdLW, clI, clR, clC, clD, clW, clV, clN_e, clN_n, clL_e, clL_n]; done) | (simp (disch := omega) only [shI, shR, shL, shC, shD, shW, sh_V, shN_e, shN_n, crI, crL, crC, crW, crV, crR_e, crR_n, crN_e, crN_n, ciR, ciL, ciD, ciN_e, ciN_n, rdI_e, rdI_n, rdC_i, rdC_o, rdW, rdU_e, rdU_n, rdLW, clI, clR, clC, clD, clW, clV, clN_e, clN_n, clL_e, clL_n] <;> first | assumption | rfl | omega)) ?_
                  try simp (disch := omega) only [rdI_e, rdI_n, rdC_i, rdC_o, rdW, rdR, rdU_e, rdU_n, rdLW, Int.add_zero, mP_p, mP_o, h10]
                  refine x_iconst dX2_atom_81 rfl ?_
                  first | refine x_iaddN dX2_atom_82 (by unfold i32; omega) ?_ | refine x_iadd dX2_atom_82 ?_
                  refine g_putI (kI := 9) rfl dX2_atom_83 fX2_92_2 (by first | assumption | first | assumption | (simp (disch := omega) only [shI, shR, shL, shC, shD, shW, sh_V, shN_e, shN_n, crI, crL, crC, crW, crV, crR_e, crR_n, crN_e, crN_n, ciR, ciL, ciD, ciN_e, ciN_n, rdI_e, rdI_n, rdC_i, rdC_o, rdW, rdU_e, rdU_n, rdLW, clI, clR, clC, clD, clW, clV, clN_e, clN_n, clL_e, clL_n]; done) | (simp (disch := omega) only [shI, shR, shL, shC, shD, shW, sh_V, shN_e, shN_n, crI, crL, crC, crW, crV, crR_e, crR_n, crN_e, crN_n, ciR, ciL, ciD, ciN_e, ciN_n, rdI_e, rdI_n, rdC_i, rdC_o, rdW, rdU_e, rdU_n, rdLW, clI, clR, clC, clD, clW, clV, clN_e, clN_n, clL_e, clL_n] <;> first | assumption | rfl | omega)) ?_
                  try simp only [mP_w]
                  refine x_aload_n dX2_atom_86 rfl rfl ?_
                  refine x_iconst dX2_atom_87 rfl ?_
                  refine g_callRX (vs := [_, _]) (d' := d - 1) rfl (hrow) dX2_atom_88 kX2_221 (by omega) (by decide) rfl (Nat.le_of_ble_eq_true rfl) (rcv_o (by first | assumption | first | assumption | (simp (disch := omega) only [shI, shR, shL, shC, shD, shW, sh_V, shN_e, shN_n, crI, crL, crC, crW, crV, crR_e, crR_n, crN_e, crN_n, ciR, ciL, ciD, ciN_e, ciN_n, rdI_e, rdI_n, rdC_i, rdC_o, rdW, rdU_e, rdU_n, rdLW, clI, clR, clC, clD, clW, clV, clN_e, clN_n, clL_e, clL_n]; done) | (simp (disch := omega) only [shI, shR, shL, shC, shD, shW, sh_V, shN_e, shN_n, crI, crL, crC, crW, crV, crR_e, crR_n, crN_e, crN_n, ciR, ciL, ciD, ciN_e, ciN_n, rdI_e, rdI_n, rdC_i, rdC_o, rdW, rdU_e, rdU_n, rdLW, clI, clR, clC, clD, clW, clV, clN_e, clN_n, clL_e, clL_n] <;> first | assumption | rfl | omega)) rfl) (fun x88 M88 h88 => ?_) (fun a88 E88 M88 h88 => ?_)
                  · obtain ⟨y', P, M', q', a, hy, hEy, ho, hMM, hq', hqs', hD, hT, hCD⟩ := h88
                    rw [hx] at hy
                    cases hy
                    cases ho
                    subst hMM
                    refine x_astore (L' := [some _, some _, some _, some _, some _]) dX2_atom_91 (by decide) rfl ?_
                    have hDM : Dz M M' (3 * (y.1 - (b + 1)) - 0) (12 * (y.1 - (b + 1)) - 0) := ((hD0.z (Int.le_refl _) (Int.le_refl _)).trans hD).le (by show ((0 : Nat) : Int) + (3 * (y.1 - (b + 1)) - 0) ≤ 3 * (y.1 - (b + 1)) - 0; omega) (by show ((0 : Nat) : Int) + (12 * (y.1 - (b + 1)) - 0) ≤ 12 * (y.1 - (b + 1)) - 0; omega)
                    have hR1 : RdX M' tp e := hR.dz hDM (by omega)
                    have r0' : msh M' 2 = some (2, 0) := hR1.1.1.1
                    have s41 : sgV tp e q' = 41 ↔ chP tp e 41 41 (skB tp e y.1) := by rw [← hqs']; exact sgV_i hB (by omega)
                    refine x_aload_n dX2_atom_93 rfl rfl ?_
                    refine g_callI (vs := [_]) (d' := d - 1) rfl (s_X2_sign (by omega) hR1 (by omega)) dX2_atom_94 kX2_98 (by omega) (by decide) rfl (Nat.le_of_ble_eq_true rfl) (rcv_o (by first | assumption | first | assumption | (simp (disch := omega) only [shI, shR, shL, shC, shD, shW, sh_V, shN_e, shN_n, crI, crL, crC, crW, crV, crR_e, crR_n, crN_e, crN_n, ciR, ciL, ciD, ciN_e, ciN_n, rdI_e, rdI_n, rdC_i, rdC_o, rdW, rdU_e, rdU_n, rdLW, clI, clR, clC, clD, clW, clV, clN_e, clN_n, clL_e, clL_n]; done) | (simp (disch := omega) only [shI, shR, shL, shC, shD, shW, sh_V, shN_e, shN_n, crI, crL, crC, crW, crV, crR_e, crR_n, crN_e, crN_n, ciR, ciL, ciD, ciN_e, ciN_n, rdI_e, rdI_n, rdC_i, rdC_o, rdW, rdU_e, rdU_n, rdLW, clI, clR, clC, clD, clW, clV, clN_e, clN_n, clL_e, clL_n] <;> first | assumption | rfl | omega)) rfl) (fun x94 M94 h94 => ?_)
                    obtain ⟨e94, f94⟩ := h94
                    rw [hqs'] at f94
                    have f94' := f94.symm
                    subst f94'
                    refine x_bipush dX2_atom_97 rfl ?_
                    refine x_icmp_eq (tgt := 110) dX2_atom_99 (by decide) (fun h99 => ?_) (fun h99 => ?_)
                    · refine x_aload_n dX2_atom_110 rfl rfl ?_
                      refine x_dup dX2_atom_111 rfl ?_
                      refine g_getI (kI := 9) rfl dX2_atom_112 fX2_92_2 (by first | assumption | first | assumption | (simp (disch := omega) only [shI, shR, shL, shC, shD, shW, sh_V, shN_e, shN_n, crI, crL, crC, crW, crV, crR_e, crR_n, crN_e, crN_n, ciR, ciL, ciD, ciN_e, ciN_n, rdI_e, rdI_n, rdC_i, rdC_o, rdW, rdU_e, rdU_n, rdLW, clI, clR, clC, clD, clW, clV, clN_e, clN_n, clL_e, clL_n]; done) | (simp (disch := omega) only [shI, shR, shL, shC, shD, shW, sh_V, shN_e, shN_n, crI, crL, crC, crW, crV, crR_e, crR_n, crN_e, crN_n, ciR, ciL, ciD, ciN_e, ciN_n, rdI_e, rdI_n, rdC_i, rdC_o, rdW, rdU_e, rdU_n, rdLW, clI, clR, clC, clD, clW, clV, clN_e, clN_n, clL_e, clL_n] <;> first | assumption | rfl | omega)) ?_
                      try simp (disch := omega) only [rdI_e, rdI_n, rdC_i, rdC_o, rdW, rdR, rdU_e, rdU_n, rdLW, Int.add_zero, mP_p, mP_o, h10]
                      refine x_iconst dX2_atom_115 rfl ?_
                      first | refine x_iaddN dX2_atom_116 (by unfold i32; omega) ?_ | refine x_iadd dX2_atom_116 ?_
                      refine g_putI (kI := 9) rfl dX2_atom_117 fX2_92_2 (by first | assumption | first | assumption | (simp (disch := omega) only [shI, shR, shL, shC, shD, shW, sh_V, shN_e, shN_n, crI, crL, crC, crW, crV, crR_e, crR_n, crN_e, crN_n, ciR, ciL, ciD, ciN_e, ciN_n, rdI_e, rdI_n, rdC_i, rdC_o, rdW, rdU_e, rdU_n, rdLW, clI, clR, clC, clD, clW, clV, clN_e, clN_n, clL_e, clL_n]; done) | (simp (disch := omega) only [shI, shR, shL, shC, shD, shW, sh_V, shN_e, shN_n, crI, crL, crC, crW, crV, crR_e, crR_n, crN_e, crN_n, ciR, ciL, ciD, ciN_e, ciN_n, rdI_e, rdI_n, rdC_i, rdC_o, rdW, rdU_e, rdU_n, rdLW, clI, clR, clC, clD, clW, clV, clN_e, clN_n, clL_e, clL_n] <;> first | assumption | rfl | omega)) ?_
                      try simp only [mP_w]
                      exact last (skB tp e y.1 + 1, y.2) P M' _ a _ _ _ er0 hEy (by omega) rfl (hDM.le (by show 3 * (y.1 - (b + 1)) - 0 ≤ 3 * (skB tp e y.1 + 1 - p) - 2; omega) (by show 12 * (y.1 - (b + 1)) - 0 ≤ 12 * (skB tp e y.1 + 1 - p) - 6; omega)) (hT.trans e100) (CD.up hCD (by omega))
                    · exact absurd (e94.trans (s41.mpr hc2)) h99
                  · obtain ⟨f', hf, -⟩ := h88
                    rw [hx] at hf
                    cases hf
                · simp at h57
              · omega
            · exact absurd (e1.trans (hsv.mpr hc)) h24
        · rw [if_neg hc2] at er0
          refine x_aload_n dX2_atom_0 rfl rfl ?_
          refine g_callI (vs := [_]) (d' := d - 1) rfl (s_X2_sign (by omega) hR (by omega)) dX2_atom_1 kX2_98 (by omega) (by decide) rfl (Nat.le_of_ble_eq_true rfl) (rcv_o (by first | assumption | first | assumption | (simp (disch := omega) only [shI, shR, shL, shC, shD, shW, sh_V, shN_e, shN_n, crI, crL, crC, crW, crV, crR_e, crR_n, crN_e, crN_n, ciR, ciL, ciD, ciN_e, ciN_n, rdI_e, rdI_n, rdC_i, rdC_o, rdW, rdU_e, rdU_n, rdLW, clI, clR, clC, clD, clW, clV, clN_e, clN_n, clL_e, clL_n]; done) | (simp (disch := omega) only [shI, shR, shL, shC, shD, shW, sh_V, shN_e, shN_n, crI, crL, crC, crW, crV, crR_e, crR_n, crN_e, crN_n, ciR, ciL, ciD, ciN_e, ciN_n, rdI_e, rdI_n, rdC_i, rdC_o, rdW, rdU_e, rdU_n, rdLW, clI, clR, clC, clD, clW, clV, clN_e, clN_n, clL_e, clL_n] <;> first | assumption | rfl | omega)) rfl) (fun x1 M1 h1 => ?_)
          obtain ⟨e1, f1⟩ := h1
          rw [hb] at f1
          have f1' := f1.symm
          subst f1'
          refine x_istore_n (L' := [some _, some _, none, none, none]) dX2_atom_4 rfl (by decide) rfl ?_
          refine x_aload_n dX2_atom_5 rfl rfl ?_
          refine g_getI (kI := 9) rfl dX2_atom_6 fX2_92_2 (by first | assumption | first | assumption | (simp (disch := omega) only [shI, shR, shL, shC, shD, shW, sh_V, shN_e, shN_n, crI, crL, crC, crW, crV, crR_e, crR_n, crN_e, crN_n, ciR, ciL, ciD, ciN_e, ciN_n, rdI_e, rdI_n, rdC_i, rdC_o, rdW, rdU_e, rdU_n, rdLW, clI, clR, clC, clD, clW, clV, clN_e, clN_n, clL_e, clL_n]; done) | (simp (disch := omega) only [shI, shR, shL, shC, shD, shW, sh_V, shN_e, shN_n, crI, crL, crC, crW, crV, crR_e, crR_n, crN_e, crN_n, ciR, ciL, ciD, ciN_e, ciN_n, rdI_e, rdI_n, rdC_i, rdC_o, rdW, rdU_e, rdU_n, rdLW, clI, clR, clC, clD, clW, clV, clN_e, clN_n, clL_e, clL_n] <;> first | assumption | rfl | omega)) ?_
          try simp (disch := omega) only [rdI_e, rdI_n, rdC_i, rdC_o, rdW, rdR, rdU_e, rdU_n, rdLW, Int.add_zero, mP_p, mP_o, h10]
          refine x_istore_n (L' := [some _, some _, some _, none, none]) dX2_atom_9 rfl (by decide) rfl ?_
          refine x_aload_n dX2_atom_10 rfl rfl ?_
          refine x_ldcs dX2_atom_11 (List.mem_of_getElem? (i := 31) rfl) ?_
          refine g_callI (vs := [_, _]) (d' := d - 1) rfl (s_X2_takes (i := 31) (by omega) hR (by omega) (by omega) rfl) dX2_atom_13 kX2_109 (by omega) (by decide) rfl (Nat.le_of_ble_eq_true rfl) (rcv_o (by first | assumption | first | assumption | (simp (disch := omega) only [shI, shR, shL, shC, shD, shW, sh_V, shN_e, shN_n, crI, crL, crC, crW, crV, crR_e, crR_n, crN_e, crN_n, ciR, ciL, ciD, ciN_e, ciN_n, rdI_e, rdI_n, rdC_i, rdC_o, rdW, rdU_e, rdU_n, rdLW, clI, clR, clC, clD, clW, clV, clN_e, clN_n, clL_e, clL_n]; done) | (simp (disch := omega) only [shI, shR, shL, shC, shD, shW, sh_V, shN_e, shN_n, crI, crL, crC, crW, crV, crR_e, crR_n, crN_e, crN_n, ciR, ciL, ciD, ciN_e, ciN_n, rdI_e, rdI_n, rdC_i, rdC_o, rdW, rdU_e, rdU_n, rdLW, clI, clR, clC, clD, clW, clV, clN_e, clN_n, clL_e, clL_n] <;> first | assumption | rfl | omega)) rfl) (fun x13 M13 h13 => ?_)
          obtain ⟨e13, f13⟩ := h13
          rw [hss, hw, if_neg hI] at f13
          rw [hss, hw, vP_f hI] at e13
          subst e13
          have f13' := f13.symm
          subst f13'
          refine x_istore_n (L' := [some _, some _, some _, some _, none]) dX2_atom_16 rfl (by decide) rfl ?_
          refine x_iload_n dX2_atom_17 rfl rfl ?_
          refine x_if_ne (tgt := 32) dX2_atom_18 (by decide) (fun h18 => ?_) (fun h18 => ?_)
          · simp at h18
          · refine x_iload_n dX2_atom_21 rfl rfl ?_
            refine x_bipush dX2_atom_22 rfl ?_
            refine x_icmp_eq (tgt := 32) dX2_atom_24 (by decide) (fun h24 => ?_) (fun h24 => ?_)
            · refine x_aload_n dX2_atom_32 rfl rfl ?_
              refine g_getI (kI := 10) rfl dX2_atom_33 fX2_128_2 (by first | assumption | first | assumption | (simp (disch := omega) only [shI, shR, shL, shC, shD, shW, sh_V, shN_e, shN_n, crI, crL, crC, crW, crV, crR_e, crR_n, crN_e, crN_n, ciR, ciL, ciD, ciN_e, ciN_n, rdI_e, rdI_n, rdC_i, rdC_o, rdW, rdU_e, rdU_n, rdLW, clI, clR, clC, clD, clW, clV, clN_e, clN_n, clL_e, clL_n]; done) | (simp (disch := omega) only [shI, shR, shL, shC, shD, shW, sh_V, shN_e, shN_n, crI, crL, crC, crW, crV, crR_e, crR_n, crN_e, crN_n, ciR, ciL, ciD, ciN_e, ciN_n, rdI_e, rdI_n, rdC_i, rdC_o, rdW, rdU_e, rdU_n, rdLW, clI, clR, clC, clD, clW, clV, clN_e, clN_n, clL_e, clL_n] <;> first | assumption | rfl | omega)) ?_
              try simp (disch := omega) only [rdI_e, rdI_n, rdC_i, rdC_o, rdW, rdR, rdU_e, rdU_n, rdLW, Int.add_zero, mP_p, mP_o, h10]
              refine x_bipush dX2_atom_36 rfl ?_
              refine x_icmp_ne (tgt := 46) dX2_atom_38 (by decide) (fun h38 => ?_) (fun h38 => ?_)
              · refine x_aload_n dX2_atom_46 rfl rfl ?_
                refine x_dup dX2_atom_47 rfl ?_
                refine g_getI (kI := 10) rfl dX2_atom_48 fX2_128_2 (by first | assumption | first | assumption | (simp (disch := omega) only [shI, shR, shL, shC, shD, shW, sh_V, shN_e, shN_n, crI, crL, crC, crW, crV, crR_e, crR_n, crN_e, crN_n, ciR, ciL, ciD, ciN_e, ciN_n, rdI_e, rdI_n, rdC_i, rdC_o, rdW, rdU_e, rdU_n, rdLW, clI, clR, clC, clD, clW, clV, clN_e, clN_n, clL_e, clL_n]; done) | (simp (disch := omega) only [shI, shR, shL, shC, shD, shW, sh_V, shN_e, shN_n, crI, crL, crC, crW, crV, crR_e, crR_n, crN_e, crN_n, ciR, ciL, ciD, ciN_e, ciN_n, rdI_e, rdI_n, rdC_i, rdC_o, rdW, rdU_e, rdU_n, rdLW, clI, clR, clC, clD, clW, clV, clN_e, clN_n, clL_e, clL_n] <;> first | assumption | rfl | omega)) ?_
                try simp (disch := omega) only [rdI_e, rdI_n, rdC_i, rdC_o, rdW, rdR, rdU_e, rdU_n, rdLW, Int.add_zero, mP_p, mP_o, h10]
                refine x_iconst dX2_atom_51 rfl ?_
                first | refine x_iaddN dX2_atom_52 (by unfold i32; omega) ?_ | refine x_iadd dX2_atom_52 ?_
                refine g_putI (kI := 10) rfl dX2_atom_53 fX2_128_2 (by first | assumption | first | assumption | (simp (disch := omega) only [shI, shR, shL, shC, shD, shW, sh_V, shN_e, shN_n, crI, crL, crC, crW, crV, crR_e, crR_n, crN_e, crN_n, ciR, ciL, ciD, ciN_e, ciN_n, rdI_e, rdI_n, rdC_i, rdC_o, rdW, rdU_e, rdU_n, rdLW, clI, clR, clC, clD, clW, clV, clN_e, clN_n, clL_e, clL_n]; done) | (simp (disch := omega) only [shI, shR, shL, shC, shD, shW, sh_V, shN_e, shN_n, crI, crL, crC, crW, crV, crR_e, crR_n, crN_e, crN_n, ciR, ciL, ciD, ciN_e, ciN_n, rdI_e, rdI_n, rdC_i, rdC_o, rdW, rdU_e, rdU_n, rdLW, clI, clR, clC, clD, clW, clV, clN_e, clN_n, clL_e, clL_n] <;> first | assumption | rfl | omega)) ?_
                try simp only [mP_w]
                rw [show 5 - (t : Int) + 1 = 6 - (t : Int) by omega]
                refine WP.mem (mP_c (by omega)) ?_
                refine x_iload_n dX2_atom_56 rfl rfl ?_
                refine x_if_eq (tgt := 76) dX2_atom_57 (by decide) (fun h57 => ?_) (fun h57 => ?_)
                · refine x_aload_n dX2_atom_76 rfl rfl ?_
                  refine x_dup dX2_atom_77 rfl ?_
                  refine g_getI (kI := 9) rfl dX2_atom_78 fX2_92_2 (by first | assumption | first | assumption | (simp (disch := omega) only [shI, shR, shL, shC, shD, shW, sh_V, shN_e, shN_n, crI, crL, crC, crW, crV, crR_e, crR_n, crN_e, crN_n, ciR, ciL, ciD, ciN_e, ciN_n, rdI_e, rdI_n, rdC_i, rdC_o, rdW, rdU_e, rdU_n, rdLW, clI, clR, clC, clD, clW, clV, clN_e, clN_n, clL_e, clL_n]; done) | (simp (disch := omega) only [shI, shR, shL, shC, shD, shW, sh_V, shN_e, shN_n, crI, crL, crC, crW, crV, crR_e, crR_n, crN_e, crN_n, ciR, ciL, ciD, ciN_e, ciN_n, rdI_e, rdI_n, rdC_i, rdC_o, rdW, rdU_e, rdU_n, rdLW, clI, clR, clC, clD, clW, clV, clN_e, clN_n, clL_e, clL_n] <;> first | assumption | rfl | omega)) ?_
                  try simp (disch := omega) only [rdI_e, rdI_n, rdC_i, rdC_o, rdW, rdR, rdU_e, rdU_n, rdLW, Int.add_zero, mP_p, mP_o, h10]
                  refine x_iconst dX2_atom_81 rfl ?_
                  first | refine x_iaddN dX2_atom_82 (by unfold i32; omega) ?_ | refine x_iadd dX2_atom_82 ?_
                  refine g_putI (kI := 9) rfl dX2_atom_83 fX2_92_2 (by first | assumption | first | assumption | (simp (disch := omega) only [shI, shR, shL, shC, shD, shW, sh_V, shN_e, shN_n, crI, crL, crC, crW, crV, crR_e, crR_n, crN_e, crN_n, ciR, ciL, ciD, ciN_e, ciN_n, rdI_e, rdI_n, rdC_i, rdC_o, rdW, rdU_e, rdU_n, rdLW, clI, clR, clC, clD, clW, clV, clN_e, clN_n, clL_e, clL_n]; done) | (simp (disch := omega) only [shI, shR, shL, shC, shD, shW, sh_V, shN_e, shN_n, crI, crL, crC, crW, crV, crR_e, crR_n, crN_e, crN_n, ciR, ciL, ciD, ciN_e, ciN_n, rdI_e, rdI_n, rdC_i, rdC_o, rdW, rdU_e, rdU_n, rdLW, clI, clR, clC, clD, clW, clV, clN_e, clN_n, clL_e, clL_n] <;> first | assumption | rfl | omega)) ?_
                  try simp only [mP_w]
                  refine x_aload_n dX2_atom_86 rfl rfl ?_
                  refine x_iconst dX2_atom_87 rfl ?_
                  refine g_callRX (vs := [_, _]) (d' := d - 1) rfl (hrow) dX2_atom_88 kX2_221 (by omega) (by decide) rfl (Nat.le_of_ble_eq_true rfl) (rcv_o (by first | assumption | first | assumption | (simp (disch := omega) only [shI, shR, shL, shC, shD, shW, sh_V, shN_e, shN_n, crI, crL, crC, crW, crV, crR_e, crR_n, crN_e, crN_n, ciR, ciL, ciD, ciN_e, ciN_n, rdI_e, rdI_n, rdC_i, rdC_o, rdW, rdU_e, rdU_n, rdLW, clI, clR, clC, clD, clW, clV, clN_e, clN_n, clL_e, clL_n]; done) | (simp (disch := omega) only [shI, shR, shL, shC, shD, shW, sh_V, shN_e, shN_n, crI, crL, crC, crW, crV, crR_e, crR_n, crN_e, crN_n, ciR, ciL, ciD, ciN_e, ciN_n, rdI_e, rdI_n, rdC_i, rdC_o, rdW, rdU_e, rdU_n, rdLW, clI, clR, clC, clD, clW, clV, clN_e, clN_n, clL_e, clL_n] <;> first | assumption | rfl | omega)) rfl) (fun x88 M88 h88 => ?_) (fun a88 E88 M88 h88 => ?_)
                  · obtain ⟨y', P, M', q', a, hy, hEy, ho, hMM, hq', hqs', hD, hT, hCD⟩ := h88
                    rw [hx] at hy
                    cases hy
                    cases ho
                    subst hMM
                    refine x_astore (L' := [some _, some _, some _, some _, some _]) dX2_atom_91 (by decide) rfl ?_
                    have hDM : Dz M M' (3 * (y.1 - (b + 1)) - 0) (12 * (y.1 - (b + 1)) - 0) := ((hD0.z (Int.le_refl _) (Int.le_refl _)).trans hD).le (by show ((0 : Nat) : Int) + (3 * (y.1 - (b + 1)) - 0) ≤ 3 * (y.1 - (b + 1)) - 0; omega) (by show ((0 : Nat) : Int) + (12 * (y.1 - (b + 1)) - 0) ≤ 12 * (y.1 - (b + 1)) - 0; omega)
                    have hR1 : RdX M' tp e := hR.dz hDM (by omega)
                    have r0' : msh M' 2 = some (2, 0) := hR1.1.1.1
                    have s41 : sgV tp e q' = 41 ↔ chP tp e 41 41 (skB tp e y.1) := by rw [← hqs']; exact sgV_i hB (by omega)
                    refine x_aload_n dX2_atom_93 rfl rfl ?_
                    refine g_callI (vs := [_]) (d' := d - 1) rfl (s_X2_sign (by omega) hR1 (by omega)) dX2_atom_94 kX2_98 (by omega) (by decide) rfl (Nat.le_of_ble_eq_true rfl) (rcv_o (by first | assumption | first | assumption | (simp (disch := omega) only [shI, shR, shL, shC, shD, shW, sh_V, shN_e, shN_n, crI, crL, crC, crW, crV, crR_e, crR_n, crN_e, crN_n, ciR, ciL, ciD, ciN_e, ciN_n, rdI_e, rdI_n, rdC_i, rdC_o, rdW, rdU_e, rdU_n, rdLW, clI, clR, clC, clD, clW, clV, clN_e, clN_n, clL_e, clL_n]; done) | (simp (disch := omega) only [shI, shR, shL, shC, shD, shW, sh_V, shN_e, shN_n, crI, crL, crC, crW, crV, crR_e, crR_n, crN_e, crN_n, ciR, ciL, ciD, ciN_e, ciN_n, rdI_e, rdI_n, rdC_i, rdC_o, rdW, rdU_e, rdU_n, rdLW, clI, clR, clC, clD, clW, clV, clN_e, clN_n, clL_e, clL_n] <;> first | assumption | rfl | omega)) rfl) (fun x94 M94 h94 => ?_)
                    obtain ⟨e94, f94⟩ := h94
                    rw [hqs'] at f94
                    have f94' := f94.symm
                    subst f94'
                    refine x_bipush dX2_atom_97 rfl ?_
                    refine x_icmp_eq (tgt := 110) dX2_atom_99 (by decide) (fun h99 => ?_) (fun h99 => ?_)
                    · exact absurd (s41.mp (e94.symm.trans h99)) hc2
                    · refine x_aload_n dX2_atom_102 rfl rfl ?_
                      refine x_aload_n dX2_atom_103 rfl rfl ?_
                      refine g_getI (kI := 9) rfl dX2_atom_104 fX2_92_2 (by first | assumption | first | assumption | (simp (disch := omega) only [shI, shR, shL, shC, shD, shW, sh_V, shN_e, shN_n, crI, crL, crC, crW, crV, crR_e, crR_n, crN_e, crN_n, ciR, ciL, ciD, ciN_e, ciN_n, rdI_e, rdI_n, rdC_i, rdC_o, rdW, rdU_e, rdU_n, rdLW, clI, clR, clC, clD, clW, clV, clN_e, clN_n, clL_e, clL_n]; done) | (simp (disch := omega) only [shI, shR, shL, shC, shD, shW, sh_V, shN_e, shN_n, crI, crL, crC, crW, crV, crR_e, crR_n, crN_e, crN_n, ciR, ciL, ciD, ciN_e, ciN_n, rdI_e, rdI_n, rdC_i, rdC_o, rdW, rdU_e, rdU_n, rdLW, clI, clR, clC, clD, clW, clV, clN_e, clN_n, clL_e, clL_n] <;> first | assumption | rfl | omega)) ?_
                      try simp (disch := omega) only [rdI_e, rdI_n, rdC_i, rdC_o, rdW, rdR, rdU_e, rdU_n, rdLW, Int.add_zero, mP_p, mP_o, h10]
                      refine g_callNX (vs := [_, _]) (d' := d - 1) rfl (s_X2_fail (by omega) hR1) dX2_atom_107 kX2_113 (by omega) (by decide) rfl (Nat.le_of_ble_eq_true rfl) (rcv_o (by first | assumption | first | assumption | (simp (disch := omega) only [shI, shR, shL, shC, shD, shW, sh_V, shN_e, shN_n, crI, crL, crC, crW, crV, crR_e, crR_n, crN_e, crN_n, ciR, ciL, ciD, ciN_e, ciN_n, rdI_e, rdI_n, rdC_i, rdC_o, rdW, rdU_e, rdU_n, rdLW, clI, clR, clC, clD, clW, clV, clN_e, clN_n, clL_e, clL_n]; done) | (simp (disch := omega) only [shI, shR, shL, shC, shD, shW, sh_V, shN_e, shN_n, crI, crL, crC, crW, crV, crR_e, crR_n, crN_e, crN_n, ciR, ciL, ciD, ciN_e, ciN_n, rdI_e, rdI_n, rdC_i, rdC_o, rdW, rdU_e, rdU_n, rdLW, clI, clR, clC, clD, clW, clV, clN_e, clN_n, clL_e, clL_n] <;> first | assumption | rfl | omega)) rfl) (fun M107 h107 => ?_) (fun a107 E107 M107 h107 => ?_)
                      · exact False.elim (by assumption)
                      · exact th_nil rfl (hQ _ _ (CX.f er0 (h107.z hDM (by show 3 * (y.1 - (b + 1)) - 0 ≤ 3 * (e - p) + (4 + 2 * ((t + 1 : Nat) : Int)); omega) (by show 12 * (y.1 - (b + 1)) - 0 ≤ 12 * (e - p) + (18 + 6 * ((t + 1 : Nat) : Int)); omega) rfl)))
                  · obtain ⟨f', hf, -⟩ := h88
                    rw [hx] at hf
                    cases hf
                · simp at h57
              · omega
            · exact absurd (e1.trans (hsv.mpr hc)) h24
    · rw [if_neg hc] at er0
      by_cases hI : isW tp b w (txB 31)
      · rw [if_pos hI] at er0
        have hlen : b + 3 = w := by
          have h1 := hI.1
          have h2 : ((txB 31).length : Int) = 3 := rfl
          omega
        generalize hXX : ((mnx M : Nat) : Int) = X
        have hX7 : 761 ≤ X := by omega
        have hnxP : ((mnx (mP (mI M 2 10 (6 - (t : Int))) w) : Nat) : Int) = X := hXX
        have hDa : Dr M (mNx (mI M 2 10 (6 - (t : Int))) X 13 0 1) 1 1 := hD0.nx hXX
        have hRa : RdX (mNx (mI M 2 10 (6 - (t : Int))) X 13 0 1) tp e := hR.dr hDa (by omega)
        have r2a : msh (mNx (mI M 2 10 (6 - (t : Int))) X 13 0 1) 2 = some (2, 0) := hRa.1.1.1
        have ea : mci (mNx (mI M 2 10 (6 - (t : Int))) X 13 0 1) 2 10 = 6 - (t : Int) := (ciN_n (by omega)).trans e100
        have eTa : ((mnx (mNx (mI M 2 10 (6 - (t : Int))) X 13 0 1) : Nat) : Int) = X + 1 := by
          show ((mnx M + 1 : Nat) : Int) = X + 1
          omega
        have hca := hat (d - 1) (mNx (mI M 2 10 (6 - (t : Int))) X 13 0 1) w c u (by omega) hRa (by show 761 ≤ mnx M + 1; omega) (by omega) ea
        rcases hx : rAtm tp e t (w, c, u) with f | y
        · rw [hx] at er0
          dsimp only at er0
          refine x_aload_n dX2_atom_0 rfl rfl ?_
          refine g_callI (vs := [_]) (d' := d - 1) rfl (s_X2_sign (by omega) hR (by omega)) dX2_atom_1 kX2_98 (by omega) (by decide) rfl (Nat.le_of_ble_eq_true rfl) (rcv_o (by first | assumption | first | assumption | (simp (disch := omega) only [shI, shR, shL, shC, shD, shW, sh_V, shN_e, shN_n, crI, crL, crC, crW, crV, crR_e, crR_n, crN_e, crN_n, ciR, ciL, ciD, ciN_e, ciN_n, rdI_e, rdI_n, rdC_i, rdC_o, rdW, rdU_e, rdU_n, rdLW, clI, clR, clC, clD, clW, clV, clN_e, clN_n, clL_e, clL_n]; done) | (simp (disch := omega) only [shI, shR, shL, shC, shD, shW, sh_V, shN_e, shN_n, crI, crL, crC, crW, crV, crR_e, crR_n, crN_e, crN_n, ciR, ciL, ciD, ciN_e, ciN_n, rdI_e, rdI_n, rdC_i, rdC_o, rdW, rdU_e, rdU_n, rdLW, clI, clR, clC, clD, clW, clV, clN_e, clN_n, clL_e, clL_n] <;> first | assumption | rfl | omega)) rfl) (fun x1 M1 h1 => ?_)
          obtain ⟨e1, f1⟩ := h1
          rw [hb] at f1
          have f1' := f1.symm
          subst f1'
          refine x_istore_n (L' := [some _, some _, none, none, none]) dX2_atom_4 rfl (by decide) rfl ?_
          refine x_aload_n dX2_atom_5 rfl rfl ?_
          refine g_getI (kI := 9) rfl dX2_atom_6 fX2_92_2 (by first | assumption | first | assumption | (simp (disch := omega) only [shI, shR, shL, shC, shD, shW, sh_V, shN_e, shN_n, crI, crL, crC, crW, crV, crR_e, crR_n, crN_e, crN_n, ciR, ciL, ciD, ciN_e, ciN_n, rdI_e, rdI_n, rdC_i, rdC_o, rdW, rdU_e, rdU_n, rdLW, clI, clR, clC, clD, clW, clV, clN_e, clN_n, clL_e, clL_n]; done) | (simp (disch := omega) only [shI, shR, shL, shC, shD, shW, sh_V, shN_e, shN_n, crI, crL, crC, crW, crV, crR_e, crR_n, crN_e, crN_n, ciR, ciL, ciD, ciN_e, ciN_n, rdI_e, rdI_n, rdC_i, rdC_o, rdW, rdU_e, rdU_n, rdLW, clI, clR, clC, clD, clW, clV, clN_e, clN_n, clL_e, clL_n] <;> first | assumption | rfl | omega)) ?_
          try simp (disch := omega) only [rdI_e, rdI_n, rdC_i, rdC_o, rdW, rdR, rdU_e, rdU_n, rdLW, Int.add_zero, mP_p, mP_o, h10]
          refine x_istore_n (L' := [some _, some _, some _, none, none]) dX2_atom_9 rfl (by decide) rfl ?_
          refine x_aload_n dX2_atom_10 rfl rfl ?_
          refine x_ldcs dX2_atom_11 (List.mem_of_getElem? (i := 31) rfl) ?_
          refine g_callI (vs := [_, _]) (d' := d - 1) rfl (s_X2_takes (i := 31) (by omega) hR (by omega) (by omega) rfl) dX2_atom_13 kX2_109 (by omega) (by decide) rfl (Nat.le_of_ble_eq_true rfl) (rcv_o (by first | assumption | first | assumption | (simp (disch := omega) only [shI, shR, shL, shC, shD, shW, sh_V, shN_e, shN_n, crI, crL, crC, crW, crV, crR_e, crR_n, crN_e, crN_n, ciR, ciL, ciD, ciN_e, ciN_n, rdI_e, rdI_n, rdC_i, rdC_o, rdW, rdU_e, rdU_n, rdLW, clI, clR, clC, clD, clW, clV, clN_e, clN_n, clL_e, clL_n]; done) | (simp (disch := omega) only [shI, shR, shL, shC, shD, shW, sh_V, shN_e, shN_n, crI, crL, crC, crW, crV, crR_e, crR_n, crN_e, crN_n, ciR, ciL, ciD, ciN_e, ciN_n, rdI_e, rdI_n, rdC_i, rdC_o, rdW, rdU_e, rdU_n, rdLW, clI, clR, clC, clD, clW, clV, clN_e, clN_n, clL_e, clL_n] <;> first | assumption | rfl | omega)) rfl) (fun x13 M13 h13 => ?_)
          obtain ⟨e13, f13⟩ := h13
          rw [hss, hw, if_pos hI] at f13
          rw [hss, hw, vP_t hI] at e13
          subst e13
          have f13' := f13.symm
          subst f13'
          refine x_istore_n (L' := [some _, some _, some _, some _, none]) dX2_atom_16 rfl (by decide) rfl ?_
          refine x_iload_n dX2_atom_17 rfl rfl ?_
          refine x_if_ne (tgt := 32) dX2_atom_18 (by decide) (fun h18 => ?_) (fun h18 => ?_)
          · refine x_aload_n dX2_atom_32 rfl rfl ?_
            refine g_getI (kI := 10) rfl dX2_atom_33 fX2_128_2 (by first | assumption | first | assumption | (simp (disch := omega) only [shI, shR, shL, shC, shD, shW, sh_V, shN_e, shN_n, crI, crL, crC, crW, crV, crR_e, crR_n, crN_e, crN_n, ciR, ciL, ciD, ciN_e, ciN_n, rdI_e, rdI_n, rdC_i, rdC_o, rdW, rdU_e, rdU_n, rdLW, clI, clR, clC, clD, clW, clV, clN_e, clN_n, clL_e, clL_n]; done) | (simp (disch := omega) only [shI, shR, shL, shC, shD, shW, sh_V, shN_e, shN_n, crI, crL, crC, crW, crV, crR_e, crR_n, crN_e, crN_n, ciR, ciL, ciD, ciN_e, ciN_n, rdI_e, rdI_n, rdC_i, rdC_o, rdW, rdU_e, rdU_n, rdLW, clI, clR, clC, clD, clW, clV, clN_e, clN_n, clL_e, clL_n] <;> first | assumption | rfl | omega)) ?_
            try simp (disch := omega) only [rdI_e, rdI_n, rdC_i, rdC_o, rdW, rdR, rdU_e, rdU_n, rdLW, Int.add_zero, mP_p, mP_o, h10]
            refine x_bipush dX2_atom_36 rfl ?_
            refine x_icmp_ne (tgt := 46) dX2_atom_38 (by decide) (fun h38 => ?_) (fun h38 => ?_)
            · refine x_aload_n dX2_atom_46 rfl rfl ?_
              refine x_dup dX2_atom_47 rfl ?_
              refine g_getI (kI := 10) rfl dX2_atom_48 fX2_128_2 (by first | assumption | first | assumption | (simp (disch := omega) only [shI, shR, shL, shC, shD, shW, sh_V, shN_e, shN_n, crI, crL, crC, crW, crV, crR_e, crR_n, crN_e, crN_n, ciR, ciL, ciD, ciN_e, ciN_n, rdI_e, rdI_n, rdC_i, rdC_o, rdW, rdU_e, rdU_n, rdLW, clI, clR, clC, clD, clW, clV, clN_e, clN_n, clL_e, clL_n]; done) | (simp (disch := omega) only [shI, shR, shL, shC, shD, shW, sh_V, shN_e, shN_n, crI, crL, crC, crW, crV, crR_e, crR_n, crN_e, crN_n, ciR, ciL, ciD, ciN_e, ciN_n, rdI_e, rdI_n, rdC_i, rdC_o, rdW, rdU_e, rdU_n, rdLW, clI, clR, clC, clD, clW, clV, clN_e, clN_n, clL_e, clL_n] <;> first | assumption | rfl | omega)) ?_
              try simp (disch := omega) only [rdI_e, rdI_n, rdC_i, rdC_o, rdW, rdR, rdU_e, rdU_n, rdLW, Int.add_zero, mP_p, mP_o, h10]
              refine x_iconst dX2_atom_51 rfl ?_
              first | refine x_iaddN dX2_atom_52 (by unfold i32; omega) ?_ | refine x_iadd dX2_atom_52 ?_
              refine g_putI (kI := 10) rfl dX2_atom_53 fX2_128_2 (by first | assumption | first | assumption | (simp (disch := omega) only [shI, shR, shL, shC, shD, shW, sh_V, shN_e, shN_n, crI, crL, crC, crW, crV, crR_e, crR_n, crN_e, crN_n, ciR, ciL, ciD, ciN_e, ciN_n, rdI_e, rdI_n, rdC_i, rdC_o, rdW, rdU_e, rdU_n, rdLW, clI, clR, clC, clD, clW, clV, clN_e, clN_n, clL_e, clL_n]; done) | (simp (disch := omega) only [shI, shR, shL, shC, shD, shW, sh_V, shN_e, shN_n, crI, crL, crC, crW, crV, crR_e, crR_n, crN_e, crN_n, ciR, ciL, ciD, ciN_e, ciN_n, rdI_e, rdI_n, rdC_i, rdC_o, rdW, rdU_e, rdU_n, rdLW, clI, clR, clC, clD, clW, clV, clN_e, clN_n, clL_e, clL_n] <;> first | assumption | rfl | omega)) ?_
              try simp only [mP_w]
              rw [show 5 - (t : Int) + 1 = 6 - (t : Int) by omega]
              refine WP.mem (mP_c (by omega)) ?_
              refine x_iload_n dX2_atom_56 rfl rfl ?_
              refine x_if_eq (tgt := 76) dX2_atom_57 (by decide) (fun h57 => ?_) (fun h57 => ?_)
              · simp at h57
              · refine x_newX (x := X) (by first | (simp only [nxI, nxR, nxL, nxC, nxD, nxW, nxV, nxN]; done) | (simp only [nxI, nxR, nxL, nxC, nxD, nxW, nxV, nxN]; omega) | omega) (t := 13) rfl q1205 q1206 q174 dX2_atom_60 ?_
                refine WP.mem (mP_n (by omega)) ?_
                refine x_dup dX2_atom_63 rfl ?_
                refine x_aload_n dX2_atom_64 rfl rfl ?_
                refine g_callRX (vs := [_]) (d' := d - 1) rfl (hca) dX2_atom_65 kX2_237 (by omega) (by decide) rfl (Nat.le_of_ble_eq_true rfl) (rcv_o (by first | assumption | first | assumption | (simp (disch := omega) only [shI, shR, shL, shC, shD, shW, sh_V, shN_e, shN_n, crI, crL, crC, crW, crV, crR_e, crR_n, crN_e, crN_n, ciR, ciL, ciD, ciN_e, ciN_n, rdI_e, rdI_n, rdC_i, rdC_o, rdW, rdU_e, rdU_n, rdLW, clI, clR, clC, clD, clW, clV, clN_e, clN_n, clL_e, clL_n]; done) | (simp (disch := omega) only [shI, shR, shL, shC, shD, shW, sh_V, shN_e, shN_n, crI, crL, crC, crW, crV, crR_e, crR_n, crN_e, crN_n, ciR, ciL, ciD, ciN_e, ciN_n, rdI_e, rdI_n, rdC_i, rdC_o, rdW, rdU_e, rdU_n, rdLW, clI, clR, clC, clD, clW, clV, clN_e, clN_n, clL_e, clL_n] <;> first | assumption | rfl | omega)) rfl) (fun x65 M65 h65 => ?_) (fun a65 E65 M65 h65 => ?_)
                · obtain ⟨y, P, M', q', a, hy, -⟩ := h65
                  rw [hx] at hy
                  cases hy
                  skip
                · obtain ⟨f', hf, hz⟩ := h65
                  rw [hx] at hf
                  cases hf
                  exact th_nil rfl (hQ _ _ (CX.f er0 (hz.d (hDa.z (Int.le_refl _) (Int.le_refl _)) (by show ((1 : Nat) : Int) + (3 * (e - w) + (4 + 2 * (t : Int))) ≤ 3 * (e - p) + (4 + 2 * ((t + 1 : Nat) : Int)); omega) (by show ((1 : Nat) : Int) + (12 * (e - w) + (18 + 6 * (t : Int))) ≤ 12 * (e - p) + (18 + 6 * ((t + 1 : Nat) : Int)); omega) rfl)))
            · omega
          · simp at h18
        · rw [hx] at er0
          dsimp only at er0
          have g1 := rAtm_g t _ _ (by show w ≤ e; omega) hx 0
          have hy1 : w ≤ y.1 := g1.1.1
          refine x_aload_n dX2_atom_0 rfl rfl ?_
          refine g_callI (vs := [_]) (d' := d - 1) rfl (s_X2_sign (by omega) hR (by omega)) dX2_atom_1 kX2_98 (by omega) (by decide) rfl (Nat.le_of_ble_eq_true rfl) (rcv_o (by first | assumption | first | assumption | (simp (disch := omega) only [shI, shR, shL, shC, shD, shW, sh_V, shN_e, shN_n, crI, crL, crC, crW, crV, crR_e, crR_n, crN_e, crN_n, ciR, ciL, ciD, ciN_e, ciN_n, rdI_e, rdI_n, rdC_i, rdC_o, rdW, rdU_e, rdU_n, rdLW, clI, clR, clC, clD, clW, clV, clN_e, clN_n, clL_e, clL_n]; done) | (simp (disch := omega) only [shI, shR, shL, shC, shD, shW, sh_V, shN_e, shN_n, crI, crL, crC, crW, crV, crR_e, crR_n, crN_e, crN_n, ciR, ciL, ciD, ciN_e, ciN_n, rdI_e, rdI_n, rdC_i, rdC_o, rdW, rdU_e, rdU_n, rdLW, clI, clR, clC, clD, clW, clV, clN_e, clN_n, clL_e, clL_n] <;> first | assumption | rfl | omega)) rfl) (fun x1 M1 h1 => ?_)
          obtain ⟨e1, f1⟩ := h1
          rw [hb] at f1
          have f1' := f1.symm
          subst f1'
          refine x_istore_n (L' := [some _, some _, none, none, none]) dX2_atom_4 rfl (by decide) rfl ?_
          refine x_aload_n dX2_atom_5 rfl rfl ?_
          refine g_getI (kI := 9) rfl dX2_atom_6 fX2_92_2 (by first | assumption | first | assumption | (simp (disch := omega) only [shI, shR, shL, shC, shD, shW, sh_V, shN_e, shN_n, crI, crL, crC, crW, crV, crR_e, crR_n, crN_e, crN_n, ciR, ciL, ciD, ciN_e, ciN_n, rdI_e, rdI_n, rdC_i, rdC_o, rdW, rdU_e, rdU_n, rdLW, clI, clR, clC, clD, clW, clV, clN_e, clN_n, clL_e, clL_n]; done) | (simp (disch := omega) only [shI, shR, shL, shC, shD, shW, sh_V, shN_e, shN_n, crI, crL, crC, crW, crV, crR_e, crR_n, crN_e, crN_n, ciR, ciL, ciD, ciN_e, ciN_n, rdI_e, rdI_n, rdC_i, rdC_o, rdW, rdU_e, rdU_n, rdLW, clI, clR, clC, clD, clW, clV, clN_e, clN_n, clL_e, clL_n] <;> first | assumption | rfl | omega)) ?_
          try simp (disch := omega) only [rdI_e, rdI_n, rdC_i, rdC_o, rdW, rdR, rdU_e, rdU_n, rdLW, Int.add_zero, mP_p, mP_o, h10]
          refine x_istore_n (L' := [some _, some _, some _, none, none]) dX2_atom_9 rfl (by decide) rfl ?_
          refine x_aload_n dX2_atom_10 rfl rfl ?_
          refine x_ldcs dX2_atom_11 (List.mem_of_getElem? (i := 31) rfl) ?_
          refine g_callI (vs := [_, _]) (d' := d - 1) rfl (s_X2_takes (i := 31) (by omega) hR (by omega) (by omega) rfl) dX2_atom_13 kX2_109 (by omega) (by decide) rfl (Nat.le_of_ble_eq_true rfl) (rcv_o (by first | assumption | first | assumption | (simp (disch := omega) only [shI, shR, shL, shC, shD, shW, sh_V, shN_e, shN_n, crI, crL, crC, crW, crV, crR_e, crR_n, crN_e, crN_n, ciR, ciL, ciD, ciN_e, ciN_n, rdI_e, rdI_n, rdC_i, rdC_o, rdW, rdU_e, rdU_n, rdLW, clI, clR, clC, clD, clW, clV, clN_e, clN_n, clL_e, clL_n]; done) | (simp (disch := omega) only [shI, shR, shL, shC, shD, shW, sh_V, shN_e, shN_n, crI, crL, crC, crW, crV, crR_e, crR_n, crN_e, crN_n, ciR, ciL, ciD, ciN_e, ciN_n, rdI_e, rdI_n, rdC_i, rdC_o, rdW, rdU_e, rdU_n, rdLW, clI, clR, clC, clD, clW, clV, clN_e, clN_n, clL_e, clL_n] <;> first | assumption | rfl | omega)) rfl) (fun x13 M13 h13 => ?_)
          obtain ⟨e13, f13⟩ := h13
          rw [hss, hw, if_pos hI] at f13
          rw [hss, hw, vP_t hI] at e13
          subst e13
          have f13' := f13.symm
          subst f13'
          refine x_istore_n (L' := [some _, some _, some _, some _, none]) dX2_atom_16 rfl (by decide) rfl ?_
          refine x_iload_n dX2_atom_17 rfl rfl ?_
          refine x_if_ne (tgt := 32) dX2_atom_18 (by decide) (fun h18 => ?_) (fun h18 => ?_)
          · refine x_aload_n dX2_atom_32 rfl rfl ?_
            refine g_getI (kI := 10) rfl dX2_atom_33 fX2_128_2 (by first | assumption | first | assumption | (simp (disch := omega) only [shI, shR, shL, shC, shD, shW, sh_V, shN_e, shN_n, crI, crL, crC, crW, crV, crR_e, crR_n, crN_e, crN_n, ciR, ciL, ciD, ciN_e, ciN_n, rdI_e, rdI_n, rdC_i, rdC_o, rdW, rdU_e, rdU_n, rdLW, clI, clR, clC, clD, clW, clV, clN_e, clN_n, clL_e, clL_n]; done) | (simp (disch := omega) only [shI, shR, shL, shC, shD, shW, sh_V, shN_e, shN_n, crI, crL, crC, crW, crV, crR_e, crR_n, crN_e, crN_n, ciR, ciL, ciD, ciN_e, ciN_n, rdI_e, rdI_n, rdC_i, rdC_o, rdW, rdU_e, rdU_n, rdLW, clI, clR, clC, clD, clW, clV, clN_e, clN_n, clL_e, clL_n] <;> first | assumption | rfl | omega)) ?_
            try simp (disch := omega) only [rdI_e, rdI_n, rdC_i, rdC_o, rdW, rdR, rdU_e, rdU_n, rdLW, Int.add_zero, mP_p, mP_o, h10]
            refine x_bipush dX2_atom_36 rfl ?_
            refine x_icmp_ne (tgt := 46) dX2_atom_38 (by decide) (fun h38 => ?_) (fun h38 => ?_)
            · refine x_aload_n dX2_atom_46 rfl rfl ?_
              refine x_dup dX2_atom_47 rfl ?_
              refine g_getI (kI := 10) rfl dX2_atom_48 fX2_128_2 (by first | assumption | first | assumption | (simp (disch := omega) only [shI, shR, shL, shC, shD, shW, sh_V, shN_e, shN_n, crI, crL, crC, crW, crV, crR_e, crR_n, crN_e, crN_n, ciR, ciL, ciD, ciN_e, ciN_n, rdI_e, rdI_n, rdC_i, rdC_o, rdW, rdU_e, rdU_n, rdLW, clI, clR, clC, clD, clW, clV, clN_e, clN_n, clL_e, clL_n]; done) | (simp (disch := omega) only [shI, shR, shL, shC, shD, shW, sh_V, shN_e, shN_n, crI, crL, crC, crW, crV, crR_e, crR_n, crN_e, crN_n, ciR, ciL, ciD, ciN_e, ciN_n, rdI_e, rdI_n, rdC_i, rdC_o, rdW, rdU_e, rdU_n, rdLW, clI, clR, clC, clD, clW, clV, clN_e, clN_n, clL_e, clL_n] <;> first | assumption | rfl | omega)) ?_
              try simp (disch := omega) only [rdI_e, rdI_n, rdC_i, rdC_o, rdW, rdR, rdU_e, rdU_n, rdLW, Int.add_zero, mP_p, mP_o, h10]
              refine x_iconst dX2_atom_51 rfl ?_
              first | refine x_iaddN dX2_atom_52 (by unfold i32; omega) ?_ | refine x_iadd dX2_atom_52 ?_
              refine g_putI (kI := 10) rfl dX2_atom_53 fX2_128_2 (by first | assumption | first | assumption | (simp (disch := omega) only [shI, shR, shL, shC, shD, shW, sh_V, shN_e, shN_n, crI, crL, crC, crW, crV, crR_e, crR_n, crN_e, crN_n, ciR, ciL, ciD, ciN_e, ciN_n, rdI_e, rdI_n, rdC_i, rdC_o, rdW, rdU_e, rdU_n, rdLW, clI, clR, clC, clD, clW, clV, clN_e, clN_n, clL_e, clL_n]; done) | (simp (disch := omega) only [shI, shR, shL, shC, shD, shW, sh_V, shN_e, shN_n, crI, crL, crC, crW, crV, crR_e, crR_n, crN_e, crN_n, ciR, ciL, ciD, ciN_e, ciN_n, rdI_e, rdI_n, rdC_i, rdC_o, rdW, rdU_e, rdU_n, rdLW, clI, clR, clC, clD, clW, clV, clN_e, clN_n, clL_e, clL_n] <;> first | assumption | rfl | omega)) ?_
              try simp only [mP_w]
              rw [show 5 - (t : Int) + 1 = 6 - (t : Int) by omega]
              refine WP.mem (mP_c (by omega)) ?_
              refine x_iload_n dX2_atom_56 rfl rfl ?_
              refine x_if_eq (tgt := 76) dX2_atom_57 (by decide) (fun h57 => ?_) (fun h57 => ?_)
              · simp at h57
              · refine x_newX (x := X) (by first | (simp only [nxI, nxR, nxL, nxC, nxD, nxW, nxV, nxN]; done) | (simp only [nxI, nxR, nxL, nxC, nxD, nxW, nxV, nxN]; omega) | omega) (t := 13) rfl q1205 q1206 q174 dX2_atom_60 ?_
                refine WP.mem (mP_n (by omega)) ?_
                refine x_dup dX2_atom_63 rfl ?_
                refine x_aload_n dX2_atom_64 rfl rfl ?_
                refine g_callRX (vs := [_]) (d' := d - 1) rfl (hca) dX2_atom_65 kX2_237 (by omega) (by decide) rfl (Nat.le_of_ble_eq_true rfl) (rcv_o (by first | assumption | first | assumption | (simp (disch := omega) only [shI, shR, shL, shC, shD, shW, sh_V, shN_e, shN_n, crI, crL, crC, crW, crV, crR_e, crR_n, crN_e, crN_n, ciR, ciL, ciD, ciN_e, ciN_n, rdI_e, rdI_n, rdC_i, rdC_o, rdW, rdU_e, rdU_n, rdLW, clI, clR, clC, clD, clW, clV, clN_e, clN_n, clL_e, clL_n]; done) | (simp (disch := omega) only [shI, shR, shL, shC, shD, shW, sh_V, shN_e, shN_n, crI, crL, crC, crW, crV, crR_e, crR_n, crN_e, crN_n, ciR, ciL, ciD, ciN_e, ciN_n, rdI_e, rdI_n, rdC_i, rdC_o, rdW, rdU_e, rdU_n, rdLW, clI, clR, clC, clD, clW, clV, clN_e, clN_n, clL_e, clL_n] <;> first | assumption | rfl | omega)) rfl) (fun x65 M65 h65 => ?_) (fun a65 E65 M65 h65 => ?_)
                · obtain ⟨y', P, M', q', a, hy, hEy, ho, hMM, hq', hqs', hD, hT, hCD⟩ := h65
                  rw [hx] at hy
                  cases hy
                  cases ho
                  subst hMM
                  have sa := hD.same (B := 54) (T := X + 1) (Int.le_refl _) (by omega)
                  have sX : msh M' X = some (13, 0) := (sa X (by omega) (by omega)).1.trans (if_pos rfl)
                  have hMn : X + 1 ≤ ((mnx M' : Nat) : Int) := by have := hD.nx; omega
                  rw [eTa] at hCD
                  refine g_callN (vs := [_, _]) (d' := d - 1) rfl (s_X13_init (by omega) (by omega) sX) dX2_atom_68 kX2_259 (by omega) (by decide) rfl (Nat.le_of_ble_eq_true rfl) (rcv_o (by first | assumption | first | assumption | (simp (disch := omega) only [shI, shR, shL, shC, shD, shW, sh_V, shN_e, shN_n, crI, crL, crC, crW, crV, crR_e, crR_n, crN_e, crN_n, ciR, ciL, ciD, ciN_e, ciN_n, rdI_e, rdI_n, rdC_i, rdC_o, rdW, rdU_e, rdU_n, rdLW, clI, clR, clC, clD, clW, clV, clN_e, clN_n, clL_e, clL_n]; done) | (simp (disch := omega) only [shI, shR, shL, shC, shD, shW, sh_V, shN_e, shN_n, crI, crL, crC, crW, crV, crR_e, crR_n, crN_e, crN_n, ciR, ciL, ciD, ciN_e, ciN_n, rdI_e, rdI_n, rdC_i, rdC_o, rdW, rdU_e, rdU_n, rdLW, clI, clR, clC, clD, clW, clV, clN_e, clN_n, clL_e, clL_n] <;> first | assumption | rfl | omega)) rfl) (fun M68 h68 => ?_)
                  subst h68
                  refine x_astore (L' := [some _, some _, some _, some _, some _]) dX2_atom_71 (by decide) rfl ?_
                  refine WP.mem mP_r ?_
                  refine x_goto (tgt := 120) dX2_atom_73 (by decide) ?_
                  refine last (em y 14 0) (fun fc => ¬ P fc) (mR M' X 0 (some a)) _ X _ _ _ er0 ((Ev.not hEy g1).cg fun fc _ => op2_not) hq' hqs' ?_ (hT.trans ea) ?_
                  · obtain ⟨c1, s1, d1, d2, d3⟩ := (hDa.z (Int.le_refl _) (Int.le_refl _)).trans hD
                    have hw1 : (em y 14 0).1 = y.1 := rfl
                    exact ⟨c1, s1, d1.mR2 (by omega), by rw [hw1]; omega, by rw [hw1]; omega⟩
                  · rw [hXX]
                    exact CD.up (n := 2 * t + 1) (Or.inr (Or.inl ⟨a, P, ⟨Int.le_refl _, by show X < ((mnx M' : Nat) : Int); omega⟩, sX, crR_e ⟨rfl, rfl⟩, hCD.wid (fun a a0 a1 => ⟨rfl, fun k => rfl, fun k => crR_n (by omega)⟩) (by omega) (Int.le_refl _), rfl⟩)) (by omega)
                · obtain ⟨f', hf, -⟩ := h65
                  rw [hx] at hf
                  cases hf
            · omega
          · simp at h18
      · rw [if_neg hI] at er0
        refine x_aload_n dX2_atom_0 rfl rfl ?_
        refine g_callI (vs := [_]) (d' := d - 1) rfl (s_X2_sign (by omega) hR (by omega)) dX2_atom_1 kX2_98 (by omega) (by decide) rfl (Nat.le_of_ble_eq_true rfl) (rcv_o (by first | assumption | first | assumption | (simp (disch := omega) only [shI, shR, shL, shC, shD, shW, sh_V, shN_e, shN_n, crI, crL, crC, crW, crV, crR_e, crR_n, crN_e, crN_n, ciR, ciL, ciD, ciN_e, ciN_n, rdI_e, rdI_n, rdC_i, rdC_o, rdW, rdU_e, rdU_n, rdLW, clI, clR, clC, clD, clW, clV, clN_e, clN_n, clL_e, clL_n]; done) | (simp (disch := omega) only [shI, shR, shL, shC, shD, shW, sh_V, shN_e, shN_n, crI, crL, crC, crW, crV, crR_e, crR_n, crN_e, crN_n, ciR, ciL, ciD, ciN_e, ciN_n, rdI_e, rdI_n, rdC_i, rdC_o, rdW, rdU_e, rdU_n, rdLW, clI, clR, clC, clD, clW, clV, clN_e, clN_n, clL_e, clL_n] <;> first | assumption | rfl | omega)) rfl) (fun x1 M1 h1 => ?_)
        obtain ⟨e1, f1⟩ := h1
        rw [hb] at f1
        have f1' := f1.symm
        subst f1'
        refine x_istore_n (L' := [some _, some _, none, none, none]) dX2_atom_4 rfl (by decide) rfl ?_
        refine x_aload_n dX2_atom_5 rfl rfl ?_
        refine g_getI (kI := 9) rfl dX2_atom_6 fX2_92_2 (by first | assumption | first | assumption | (simp (disch := omega) only [shI, shR, shL, shC, shD, shW, sh_V, shN_e, shN_n, crI, crL, crC, crW, crV, crR_e, crR_n, crN_e, crN_n, ciR, ciL, ciD, ciN_e, ciN_n, rdI_e, rdI_n, rdC_i, rdC_o, rdW, rdU_e, rdU_n, rdLW, clI, clR, clC, clD, clW, clV, clN_e, clN_n, clL_e, clL_n]; done) | (simp (disch := omega) only [shI, shR, shL, shC, shD, shW, sh_V, shN_e, shN_n, crI, crL, crC, crW, crV, crR_e, crR_n, crN_e, crN_n, ciR, ciL, ciD, ciN_e, ciN_n, rdI_e, rdI_n, rdC_i, rdC_o, rdW, rdU_e, rdU_n, rdLW, clI, clR, clC, clD, clW, clV, clN_e, clN_n, clL_e, clL_n] <;> first | assumption | rfl | omega)) ?_
        try simp (disch := omega) only [rdI_e, rdI_n, rdC_i, rdC_o, rdW, rdR, rdU_e, rdU_n, rdLW, Int.add_zero, mP_p, mP_o, h10]
        refine x_istore_n (L' := [some _, some _, some _, none, none]) dX2_atom_9 rfl (by decide) rfl ?_
        refine x_aload_n dX2_atom_10 rfl rfl ?_
        refine x_ldcs dX2_atom_11 (List.mem_of_getElem? (i := 31) rfl) ?_
        refine g_callI (vs := [_, _]) (d' := d - 1) rfl (s_X2_takes (i := 31) (by omega) hR (by omega) (by omega) rfl) dX2_atom_13 kX2_109 (by omega) (by decide) rfl (Nat.le_of_ble_eq_true rfl) (rcv_o (by first | assumption | first | assumption | (simp (disch := omega) only [shI, shR, shL, shC, shD, shW, sh_V, shN_e, shN_n, crI, crL, crC, crW, crV, crR_e, crR_n, crN_e, crN_n, ciR, ciL, ciD, ciN_e, ciN_n, rdI_e, rdI_n, rdC_i, rdC_o, rdW, rdU_e, rdU_n, rdLW, clI, clR, clC, clD, clW, clV, clN_e, clN_n, clL_e, clL_n]; done) | (simp (disch := omega) only [shI, shR, shL, shC, shD, shW, sh_V, shN_e, shN_n, crI, crL, crC, crW, crV, crR_e, crR_n, crN_e, crN_n, ciR, ciL, ciD, ciN_e, ciN_n, rdI_e, rdI_n, rdC_i, rdC_o, rdW, rdU_e, rdU_n, rdLW, clI, clR, clC, clD, clW, clV, clN_e, clN_n, clL_e, clL_n] <;> first | assumption | rfl | omega)) rfl) (fun x13 M13 h13 => ?_)
        obtain ⟨e13, f13⟩ := h13
        rw [hss, hw, if_neg hI] at f13
        rw [hss, hw, vP_f hI] at e13
        subst e13
        have f13' := f13.symm
        subst f13'
        refine x_istore_n (L' := [some _, some _, some _, some _, none]) dX2_atom_16 rfl (by decide) rfl ?_
        refine x_iload_n dX2_atom_17 rfl rfl ?_
        refine x_if_ne (tgt := 32) dX2_atom_18 (by decide) (fun h18 => ?_) (fun h18 => ?_)
        · simp at h18
        · refine x_iload_n dX2_atom_21 rfl rfl ?_
          refine x_bipush dX2_atom_22 rfl ?_
          refine x_icmp_eq (tgt := 32) dX2_atom_24 (by decide) (fun h24 => ?_) (fun h24 => ?_)
          · exact absurd (hsv.mp (e1.symm.trans h24)) hc
          · refine x_aload_n dX2_atom_27 rfl rfl ?_
            refine g_callRX (vs := [_]) (d' := d - 1) rfl (s_X2_tag (c := c) (u := u) (by omega) hR hM (by omega)) dX2_atom_28 kX2_254 (by omega) (by decide) rfl (Nat.le_of_ble_eq_true rfl) (rcv_o (by first | assumption | first | assumption | (simp (disch := omega) only [shI, shR, shL, shC, shD, shW, sh_V, shN_e, shN_n, crI, crL, crC, crW, crV, crR_e, crR_n, crN_e, crN_n, ciR, ciL, ciD, ciN_e, ciN_n, rdI_e, rdI_n, rdC_i, rdC_o, rdW, rdU_e, rdU_n, rdLW, clI, clR, clC, clD, clW, clV, clN_e, clN_n, clL_e, clL_n]; done) | (simp (disch := omega) only [shI, shR, shL, shC, shD, shW, sh_V, shN_e, shN_n, crI, crL, crC, crW, crV, crR_e, crR_n, crN_e, crN_n, ciR, ciL, ciD, ciN_e, ciN_n, rdI_e, rdI_n, rdC_i, rdC_o, rdW, rdU_e, rdU_n, rdLW, clI, clR, clC, clD, clW, clV, clN_e, clN_n, clL_e, clL_n] <;> first | assumption | rfl | omega)) rfl) (fun x28 M28 h28 => ?_) (fun a28 E28 M28 h28 => ?_)
            · refine x_areturn rfl (by first | exact Or.inl ⟨_, rfl⟩ | exact Or.inr ⟨_, rfl⟩) dX2_atom_31 ?_
              refine hQ _ _ (CX.up (CX.pre (kx := 2) (ky := 6) (fx := 4) (fy := 18) (s := (b, c, u)) hs.1 (Or.inl ⟨_, rfl, ?_⟩)) (Nat.zero_le _) (Int.le_refl _) (Int.le_refl _) (by omega) (by omega))
              rw [er0]
              exact h28
            · refine th_nil rfl (hQ _ _ (CX.up (CX.pre (kx := 2) (ky := 6) (fx := 4) (fy := 18) (s := (b, c, u)) hs.1 (Or.inr ⟨_, _, rfl, ?_⟩)) (Nat.zero_le _) (Int.le_refl _) (Int.le_refl _) (by omega) (by omega)))
              rw [er0]
              exact h28
end X2

