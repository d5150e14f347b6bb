/-! Reader: whether there is another line; a program, cells -/
theorem prgE {w : Vw} {n z : Int} (hn : 0 ≤ n) : us (us (us w 3 n) (12 + n) z) 3 (n + 1) = us (us w (12 + n) z) 3 (n + 1) := by
  rw [us_cm (i := 3) (j := 12 + n) (by omega), us_ov]
section X2
variable {G : GW} {d : Nat} {M M1 : Mem} {p e lo hi k n x a b N : Int} {tp : Int → Int} {u : Vw}
/-- whether there is another line: fails at a place, ends at a place, or goes on at a place -/
def moreR (tp : Int → Int) (e p many most : Int) : Int ⊕ (Int × Int) :=
  if skB tp e p < e then
    (if 0 < many then (if tp (skB tp e p) = 59 then (if many = most then .inl (skB tp e (skB tp e p + 1)) else .inr (1, skB tp e (skB tp e p + 1))) else .inl (skB tp e p))
     else .inr (1, skB tp e p))
  else .inr (0, skB tp e p)
theorem s_X2_more (hd : 14 ≤ d) (hR : RdX M tp e) (hp : 0 ≤ p ∧ p ≤ e) (hn : 0 ≤ n) (hk : 0 < k) : CS G d mX2_more [dR 2, dI n, dI k] (mP M p) (orT (postI fun y M1 => ∃ q, moreR tp e p n k = .inr (y, q) ∧ M1 = mP M q) (fun a E M1 => ∃ f, moreR tp e p n k = .inl f ∧ FlX M f a E M1)) := by
  obtain ⟨⟨⟨r0, r3, r4, r5, r6, r7, r53⟩, ⟨c0, c1, c2, c3, c4, c5, c6⟩, x1, x2, x3⟩, he, htp, he2, hX, hB⟩ := id hR
  have hte : ∀ k, mci M 3 k = tp k := fun k => congrFun htp k
  have hs := skB_r (tp := tp) hp.2
  have hss : skB tp e (skB tp e p) = skB tp e p := skB_i _ rfl
  generalize hb : skB tp e p = b at hs hss
  have hb2 : skB tp e b = b := hss
  have sgn : ∀ q, skB tp e q = b → (sgV tp e q = if b < e then tp b % 256 else -1) := fun q hq => by
    unfold sgV
    rw [hq]
  refine CS.mkQ (by decide) (Nat.le_of_ble_eq_true rfl) fun Q hQ => ?_
  by_cases hbe : b < e
  · have s1 : ∀ q, skB tp e q = b → sgV tp e q = tp b % 256 := fun q hq => (sgn q hq).trans (if_pos hbe)
    have hbB := hB b
    by_cases hn0 : 0 < n
    · by_cases h59 : tp b = 59
      · have hs3 := skB_r (tp := tp) (e := e) (p := b + 1) (by omega)
        by_cases hnk : n = k
        · have er : moreR tp e p n k = .inl (skB tp e (b + 1)) := by
            unfold moreR
            rw [hb, if_pos hbe, if_pos hn0, if_pos h59, if_pos hnk]
          refine x_iload_n dX2_more_0 rfl rfl ?_
          refine x_if_le (tgt := 29) dX2_more_1 (by decide) (fun h1 => ?_) (fun h1 => ?_)
          · omega
          · refine x_aload_n dX2_more_4 rfl rfl ?_
            refine g_callI (vs := [_]) (d' := d - 1) rfl (s_X2_sign (by omega) hR (by omega)) dX2_more_5 kX2_98 (by omega) (by decide) rfl (Nat.le_of_ble_eq_true rfl) (rcv_o (by first | assumption | first | assumption | (simp (disch := omega) only [shI, shR, shL, shC, shD, shW, sh_V, shN_e, shN_n, crI, crL, crC, crW, crV, crR_e, crR_n, crN_e, crN_n, ciR, ciL, ciD, ciN_e, ciN_n, rdI_e, rdI_n, rdC_i, rdC_o, rdW, rdU_e, rdU_n, rdLW, clI, clR, clC, clD, clW, clV, clN_e, clN_n, clL_e, clL_n]; done) | (simp (disch := omega) only [shI, shR, shL, shC, shD, shW, sh_V, shN_e, shN_n, crI, crL, crC, crW, crV, crR_e, crR_n, crN_e, crN_n, ciR, ciL, ciD, ciN_e, ciN_n, rdI_e, rdI_n, rdC_i, rdC_o, rdW, rdU_e, rdU_n, rdLW, clI, clR, clC, clD, clW, clV, clN_e, clN_n, clL_e, clL_n] <;> first | assumption | rfl | omega)) rfl) (fun x5 M5 h5 => ?_)
            obtain ⟨e5, f5⟩ := h5
            rw [s1 _ hb] at e5
            rw [hb] at f5
            have f5' := f5.symm
            subst f5'
            subst e5
            refine x_iconst dX2_more_8 rfl ?_
            refine x_icmp_eq (tgt := 29) dX2_more_9 (by decide) (fun h9 => ?_) (fun h9 => ?_)
            · omega
            · refine x_aload_n dX2_more_12 rfl rfl ?_
              refine g_callI (vs := [_]) (d' := d - 1) rfl (s_X2_sign (by omega) hR (by omega)) dX2_more_13 kX2_98 (by omega) (by decide) rfl (Nat.le_of_ble_eq_true rfl) (rcv_o (by first | assumption | first | assumption | (simp (disch := omega) only [shI, shR, shL, shC, shD, shW, sh_V, shN_e, shN_n, crI, crL, crC, crW, crV, crR_e, crR_n, crN_e, crN_n, ciR, ciL, ciD, ciN_e, ciN_n, rdI_e, rdI_n, rdC_i, rdC_o, rdW, rdU_e, rdU_n, rdLW, clI, clR, clC, clD, clW, clV, clN_e, clN_n, clL_e, clL_n]; done) | (simp (disch := omega) only [shI, shR, shL, shC, shD, shW, sh_V, shN_e, shN_n, crI, crL, crC, crW, crV, crR_e, crR_n, crN_e, crN_n, ciR, ciL, ciD, ciN_e, ciN_n, rdI_e, rdI_n, rdC_i, rdC_o, rdW, rdU_e, rdU_n, rdLW, clI, clR, clC, clD, clW, clV, clN_e, clN_n, clL_e, clL_n] <;> first | assumption | rfl | omega)) rfl) (fun x13 M13 h13 => ?_)
              obtain ⟨e13, f13⟩ := h13
              rw [s1 _ hb2] at e13
              rw [hb2] at f13
              have f13' := f13.symm
              subst f13'
              subst e13
              refine x_bipush dX2_more_16 rfl ?_
              refine x_icmp_eq (tgt := 29) dX2_more_18 (by decide) (fun h18 => ?_) (fun h18 => ?_)
              · refine x_aload_n dX2_more_29 rfl rfl ?_
                refine g_callI (vs := [_]) (d' := d - 1) rfl (s_X2_sign (by omega) hR (by omega)) dX2_more_30 kX2_98 (by omega) (by decide) rfl (Nat.le_of_ble_eq_true rfl) (rcv_o (by first | assumption | first | assumption | (simp (disch := omega) only [shI, shR, shL, shC, shD, shW, sh_V, shN_e, shN_n, crI, crL, crC, crW, crV, crR_e, crR_n, crN_e, crN_n, ciR, ciL, ciD, ciN_e, ciN_n, rdI_e, rdI_n, rdC_i, rdC_o, rdW, rdU_e, rdU_n, rdLW, clI, clR, clC, clD, clW, clV, clN_e, clN_n, clL_e, clL_n]; done) | (simp (disch := omega) only [shI, shR, shL, shC, shD, shW, sh_V, shN_e, shN_n, crI, crL, crC, crW, crV, crR_e, crR_n, crN_e, crN_n, ciR, ciL, ciD, ciN_e, ciN_n, rdI_e, rdI_n, rdC_i, rdC_o, rdW, rdU_e, rdU_n, rdLW, clI, clR, clC, clD, clW, clV, clN_e, clN_n, clL_e, clL_n] <;> first | assumption | rfl | omega)) rfl) (fun x30 M30 h30 => ?_)
                obtain ⟨e30, f30⟩ := h30
                rw [s1 _ hb2] at e30
                rw [hb2] at f30
                have f30' := f30.symm
                subst f30'
                subst e30
                refine x_iconst dX2_more_33 rfl ?_
                refine x_icmp_eq (tgt := 41) dX2_more_34 (by decide) (fun h34 => ?_) (fun h34 => ?_)
                · omega
                · refine x_iconst dX2_more_37 rfl ?_
                  refine x_goto (tgt := 42) dX2_more_38 (by decide) ?_
                  refine x_istore_n (L' := [some _, some _, some _, some _, none]) dX2_more_42 rfl (by decide) rfl ?_
                  refine x_iload_n dX2_more_43 rfl rfl ?_
                  refine x_if_eq (tgt := 61) dX2_more_44 (by decide) (fun h44 => ?_) (fun h44 => ?_)
                  · simp at h44
                  · refine x_iload_n dX2_more_47 rfl rfl ?_
                    refine x_if_le (tgt := 61) dX2_more_48 (by decide) (fun h48 => ?_) (fun h48 => ?_)
                    · omega
                    · refine x_aload_n dX2_more_51 rfl rfl ?_
                      refine x_dup dX2_more_52 rfl ?_
                      refine g_getI (kI := 9) rfl dX2_more_53 fX2_92_2 (by first | assumption | first | assumption | (simp (disch := omega) only [shI, shR, shL, shC, shD, shW, sh_V, shN_e, shN_n, crI, crL, crC, crW, crV, crR_e, crR_n, crN_e, crN_n, ciR, ciL, ciD, ciN_e, ciN_n, rdI_e, rdI_n, rdC_i, rdC_o, rdW, rdU_e, rdU_n, rdLW, clI, clR, clC, clD, clW, clV, clN_e, clN_n, clL_e, clL_n]; done) | (simp (disch := omega) only [shI, shR, shL, shC, shD, shW, sh_V, shN_e, shN_n, crI, crL, crC, crW, crV, crR_e, crR_n, crN_e, crN_n, ciR, ciL, ciD, ciN_e, ciN_n, rdI_e, rdI_n, rdC_i, rdC_o, rdW, rdU_e, rdU_n, rdLW, clI, clR, clC, clD, clW, clV, clN_e, clN_n, clL_e, clL_n] <;> first | assumption | rfl | omega)) ?_
                      try simp (disch := omega) only [rdI_e, rdI_n, rdC_i, rdC_o, rdW, rdR, rdU_e, rdU_n, rdLW, Int.add_zero, mP_p, mP_e, mP_t, he, hte]
                      refine x_iconst dX2_more_56 rfl ?_
                      first | refine x_iaddN dX2_more_57 (by unfold i32; omega) ?_ | refine x_iadd dX2_more_57 ?_
                      refine g_putI (kI := 9) rfl dX2_more_58 fX2_92_2 (by first | assumption | first | assumption | (simp (disch := omega) only [shI, shR, shL, shC, shD, shW, sh_V, shN_e, shN_n, crI, crL, crC, crW, crV, crR_e, crR_n, crN_e, crN_n, ciR, ciL, ciD, ciN_e, ciN_n, rdI_e, rdI_n, rdC_i, rdC_o, rdW, rdU_e, rdU_n, rdLW, clI, clR, clC, clD, clW, clV, clN_e, clN_n, clL_e, clL_n]; done) | (simp (disch := omega) only [shI, shR, shL, shC, shD, shW, sh_V, shN_e, shN_n, crI, crL, crC, crW, crV, crR_e, crR_n, crN_e, crN_n, ciR, ciL, ciD, ciN_e, ciN_n, rdI_e, rdI_n, rdC_i, rdC_o, rdW, rdU_e, rdU_n, rdLW, clI, clR, clC, clD, clW, clV, clN_e, clN_n, clL_e, clL_n] <;> first | assumption | rfl | omega)) ?_
                      try simp only [mP_w]
                      refine x_iload_n dX2_more_61 rfl rfl ?_
                      refine x_if_eq (tgt := 72) dX2_more_62 (by decide) (fun h62 => ?_) (fun h62 => ?_)
                      · simp at h62
                      · refine x_aload_n dX2_more_65 rfl rfl ?_
                        refine g_callI (vs := [_]) (d' := d - 1) rfl (s_X2_sign (by omega) hR (by omega)) dX2_more_66 kX2_98 (by omega) (by decide) rfl (Nat.le_of_ble_eq_true rfl) (rcv_o (by first | assumption | first | assumption | (simp (disch := omega) only [shI, shR, shL, shC, shD, shW, sh_V, shN_e, shN_n, crI, crL, crC, crW, crV, crR_e, crR_n, crN_e, crN_n, ciR, ciL, ciD, ciN_e, ciN_n, rdI_e, rdI_n, rdC_i, rdC_o, rdW, rdU_e, rdU_n, rdLW, clI, clR, clC, clD, clW, clV, clN_e, clN_n, clL_e, clL_n]; done) | (simp (disch := omega) only [shI, shR, shL, shC, shD, shW, sh_V, shN_e, shN_n, crI, crL, crC, crW, crV, crR_e, crR_n, crN_e, crN_n, ciR, ciL, ciD, ciN_e, ciN_n, rdI_e, rdI_n, rdC_i, rdC_o, rdW, rdU_e, rdU_n, rdLW, clI, clR, clC, clD, clW, clV, clN_e, clN_n, clL_e, clL_n] <;> first | assumption | rfl | omega)) rfl) (fun x66 M66 h66 => ?_)
                        obtain ⟨e66, f66⟩ := h66
                        subst f66
                        refine x_goto (tgt := 73) dX2_more_69 (by decide) ?_
                        refine x_istore (L' := [some _, some _, some _, some _, some _]) dX2_more_73 (by decide) rfl ?_
                        refine x_iload_n dX2_more_75 rfl rfl ?_
                        refine x_if_eq (tgt := 92) dX2_more_76 (by decide) (fun h76 => ?_) (fun h76 => ?_)
                        · simp at h76
                        · refine x_iload_n dX2_more_79 rfl rfl ?_
                          refine x_iload_n dX2_more_80 rfl rfl ?_
                          refine x_icmp_ne (tgt := 92) dX2_more_81 (by decide) (fun h81 => ?_) (fun h81 => ?_)
                          · omega
                          · refine x_aload_n dX2_more_84 rfl rfl ?_
                            refine x_aload_n dX2_more_85 rfl rfl ?_
                            refine g_getI (kI := 9) rfl dX2_more_86 fX2_92_2 (by first | assumption | first | assumption | (simp (disch := omega) only [shI, shR, shL, shC, shD, shW, sh_V, shN_e, shN_n, crI, crL, crC, crW, crV, crR_e, crR_n, crN_e, crN_n, ciR, ciL, ciD, ciN_e, ciN_n, rdI_e, rdI_n, rdC_i, rdC_o, rdW, rdU_e, rdU_n, rdLW, clI, clR, clC, clD, clW, clV, clN_e, clN_n, clL_e, clL_n]; done) | (simp (disch := omega) only [shI, shR, shL, shC, shD, shW, sh_V, shN_e, shN_n, crI, crL, crC, crW, crV, crR_e, crR_n, crN_e, crN_n, ciR, ciL, ciD, ciN_e, ciN_n, rdI_e, rdI_n, rdC_i, rdC_o, rdW, rdU_e, rdU_n, rdLW, clI, clR, clC, clD, clW, clV, clN_e, clN_n, clL_e, clL_n] <;> first | assumption | rfl | omega)) ?_
                            try simp (disch := omega) only [rdI_e, rdI_n, rdC_i, rdC_o, rdW, rdR, rdU_e, rdU_n, rdLW, Int.add_zero, mP_p, mP_e, mP_t, he, hte]
                            refine g_callNX (vs := [_, _]) (d' := d - 1) rfl (s_X2_fail (by omega) hR) dX2_more_89 kX2_113 (by omega) (by decide) rfl (Nat.le_of_ble_eq_true rfl) (rcv_o (by first | assumption | first | assumption | (simp (disch := omega) only [shI, shR, shL, shC, shD, shW, sh_V, shN_e, shN_n, crI, crL, crC, crW, crV, crR_e, crR_n, crN_e, crN_n, ciR, ciL, ciD, ciN_e, ciN_n, rdI_e, rdI_n, rdC_i, rdC_o, rdW, rdU_e, rdU_n, rdLW, clI, clR, clC, clD, clW, clV, clN_e, clN_n, clL_e, clL_n]; done) | (simp (disch := omega) only [shI, shR, shL, shC, shD, shW, sh_V, shN_e, shN_n, crI, crL, crC, crW, crV, crR_e, crR_n, crN_e, crN_n, ciR, ciL, ciD, ciN_e, ciN_n, rdI_e, rdI_n, rdC_i, rdC_o, rdW, rdU_e, rdU_n, rdLW, clI, clR, clC, clD, clW, clV, clN_e, clN_n, clL_e, clL_n] <;> first | assumption | rfl | omega)) rfl) (fun M89 h89 => ?_) (fun a89 E89 M89 h89 => ?_)
                            · exact False.elim (by assumption)
                            · exact th_nil rfl (hQ _ _ (Or.inr ⟨_, _, rfl, _, er, h89⟩))
              · omega
        · have er : moreR tp e p n k = .inr (1, skB tp e (b + 1)) := by
            unfold moreR
            rw [hb, if_pos hbe, if_pos hn0, if_pos h59, if_neg hnk]
          refine x_iload_n dX2_more_0 rfl rfl ?_
          refine x_if_le (tgt := 29) dX2_more_1 (by decide) (fun h1 => ?_) (fun h1 => ?_)
          · omega
          · refine x_aload_n dX2_more_4 rfl rfl ?_
            refine g_callI (vs := [_]) (d' := d - 1) rfl (s_X2_sign (by omega) hR (by omega)) dX2_more_5 kX2_98 (by omega) (by decide) rfl (Nat.le_of_ble_eq_true rfl) (rcv_o (by first | assumption | first | assumption | (simp (disch := omega) only [shI, shR, shL, shC, shD, shW, sh_V, shN_e, shN_n, crI, crL, crC, crW, crV, crR_e, crR_n, crN_e, crN_n, ciR, ciL, ciD, ciN_e, ciN_n, rdI_e, rdI_n, rdC_i, rdC_o, rdW, rdU_e, rdU_n, rdLW, clI, clR, clC, clD, clW, clV, clN_e, clN_n, clL_e, clL_n]; done) | (simp (disch := omega) only [shI, shR, shL, shC, shD, shW, sh_V, shN_e, shN_n, crI, crL, crC, crW, crV, crR_e, crR_n, crN_e, crN_n, ciR, ciL, ciD, ciN_e, ciN_n, rdI_e, rdI_n, rdC_i, rdC_o, rdW, rdU_e, rdU_n, rdLW, clI, clR, clC, clD, clW, clV, clN_e, clN_n, clL_e, clL_n] <;> first | assumption | rfl | omega)) rfl) (fun x5 M5 h5 => ?_)
            obtain ⟨e5, f5⟩ := h5
            rw [s1 _ hb] at e5
            rw [hb] at f5
            have f5' := f5.symm
            subst f5'
            subst e5
            refine x_iconst dX2_more_8 rfl ?_
            refine x_icmp_eq (tgt := 29) dX2_more_9 (by decide) (fun h9 => ?_) (fun h9 => ?_)
            · omega
            · refine x_aload_n dX2_more_12 rfl rfl ?_
              refine g_callI (vs := [_]) (d' := d - 1) rfl (s_X2_sign (by omega) hR (by omega)) dX2_more_13 kX2_98 (by omega) (by decide) rfl (Nat.le_of_ble_eq_true rfl) (rcv_o (by first | assumption | first | assumption | (simp (disch := omega) only [shI, shR, shL, shC, shD, shW, sh_V, shN_e, shN_n, crI, crL, crC, crW, crV, crR_e, crR_n, crN_e, crN_n, ciR, ciL, ciD, ciN_e, ciN_n, rdI_e, rdI_n, rdC_i, rdC_o, rdW, rdU_e, rdU_n, rdLW, clI, clR, clC, clD, clW, clV, clN_e, clN_n, clL_e, clL_n]; done) | (simp (disch := omega) only [shI, shR, shL, shC, shD, shW, sh_V, shN_e, shN_n, crI, crL, crC, crW, crV, crR_e, crR_n, crN_e, crN_n, ciR, ciL, ciD, ciN_e, ciN_n, rdI_e, rdI_n, rdC_i, rdC_o, rdW, rdU_e, rdU_n, rdLW, clI, clR, clC, clD, clW, clV, clN_e, clN_n, clL_e, clL_n] <;> first | assumption | rfl | omega)) rfl) (fun x13 M13 h13 => ?_)
              obtain ⟨e13, f13⟩ := h13
              rw [s1 _ hb2] at e13
              rw [hb2] at f13
              have f13' := f13.symm
              subst f13'
              subst e13
              refine x_bipush dX2_more_16 rfl ?_
              refine x_icmp_eq (tgt := 29) dX2_more_18 (by decide) (fun h18 => ?_) (fun h18 => ?_)
              · refine x_aload_n dX2_more_29 rfl rfl ?_
                refine g_callI (vs := [_]) (d' := d - 1) rfl (s_X2_sign (by omega) hR (by omega)) dX2_more_30 kX2_98 (by omega) (by decide) rfl (Nat.le_of_ble_eq_true rfl) (rcv_o (by first | assumption | first | assumption | (simp (disch := omega) only [shI, shR, shL, shC, shD, shW, sh_V, shN_e, shN_n, crI, crL, crC, crW, crV, crR_e, crR_n, crN_e, crN_n, ciR, ciL, ciD, ciN_e, ciN_n, rdI_e, rdI_n, rdC_i, rdC_o, rdW, rdU_e, rdU_n, rdLW, clI, clR, clC, clD, clW, clV, clN_e, clN_n, clL_e, clL_n]; done) | (simp (disch := omega) only [shI, shR, shL, shC, shD, shW, sh_V, shN_e, shN_n, crI, crL, crC, crW, crV, crR_e, crR_n, crN_e, crN_n, ciR, ciL, ciD, ciN_e, ciN_n, rdI_e, rdI_n, rdC_i, rdC_o, rdW, rdU_e, rdU_n, rdLW, clI, clR, clC, clD, clW, clV, clN_e, clN_n, clL_e, clL_n] <;> first | assumption | rfl | omega)) rfl) (fun x30 M30 h30 => ?_)
                obtain ⟨e30, f30⟩ := h30
                rw [s1 _ hb2] at e30
                rw [hb2] at f30
                have f30' := f30.symm
                subst f30'
                subst e30
                refine x_iconst dX2_more_33 rfl ?_
                refine x_icmp_eq (tgt := 41) dX2_more_34 (by decide) (fun h34 => ?_) (fun h34 => ?_)
                · omega
                · refine x_iconst dX2_more_37 rfl ?_
                  refine x_goto (tgt := 42) dX2_more_38 (by decide) ?_
                  refine x_istore_n (L' := [some _, some _, some _, some _, none]) dX2_more_42 rfl (by decide) rfl ?_
                  refine x_iload_n dX2_more_43 rfl rfl ?_
                  refine x_if_eq (tgt := 61) dX2_more_44 (by decide) (fun h44 => ?_) (fun h44 => ?_)
                  · simp at h44
                  · refine x_iload_n dX2_more_47 rfl rfl ?_
                    refine x_if_le (tgt := 61) dX2_more_48 (by decide) (fun h48 => ?_) (fun h48 => ?_)
                    · omega
                    · refine x_aload_n dX2_more_51 rfl rfl ?_
                      refine x_dup dX2_more_52 rfl ?_
                      refine g_getI (kI := 9) rfl dX2_more_53 fX2_92_2 (by first | assumption | first | assumption | (simp (disch := omega) only [shI, shR, shL, shC, shD, shW, sh_V, shN_e, shN_n, crI, crL, crC, crW, crV, crR_e, crR_n, crN_e, crN_n, ciR, ciL, ciD, ciN_e, ciN_n, rdI_e, rdI_n, rdC_i, rdC_o, rdW, rdU_e, rdU_n, rdLW, clI, clR, clC, clD, clW, clV, clN_e, clN_n, clL_e, clL_n]; done) | (simp (disch := omega) only [shI, shR, shL, shC, shD, shW, sh_V, shN_e, shN_n, crI, crL, crC, crW, crV, crR_e, crR_n, crN_e, crN_n, ciR, ciL, ciD, ciN_e, ciN_n, rdI_e, rdI_n, rdC_i, rdC_o, rdW, rdU_e, rdU_n, rdLW, clI, clR, clC, clD, clW, clV, clN_e, clN_n, clL_e, clL_n] <;> first | assumption | rfl | omega)) ?_
                      try simp (disch := omega) only [rdI_e, rdI_n, rdC_i, rdC_o, rdW, rdR, rdU_e, rdU_n, rdLW, Int.add_zero, mP_p, mP_e, mP_t, he, hte]
                      refine x_iconst dX2_more_56 rfl ?_
                      first | refine x_iaddN dX2_more_57 (by unfold i32; omega) ?_ | refine x_iadd dX2_more_57 ?_
                      refine g_putI (kI := 9) rfl dX2_more_58 fX2_92_2 (by first | assumption | first | assumption | (simp (disch := omega) only [shI, shR, shL, shC, shD, shW, sh_V, shN_e, shN_n, crI, crL, crC, crW, crV, crR_e, crR_n, crN_e, crN_n, ciR, ciL, ciD, ciN_e, ciN_n, rdI_e, rdI_n, rdC_i, rdC_o, rdW, rdU_e, rdU_n, rdLW, clI, clR, clC, clD, clW, clV, clN_e, clN_n, clL_e, clL_n]; done) | (simp (disch := omega) only [shI, shR, shL, shC, shD, shW, sh_V, shN_e, shN_n, crI, crL, crC, crW, crV, crR_e, crR_n, crN_e, crN_n, ciR, ciL, ciD, ciN_e, ciN_n, rdI_e, rdI_n, rdC_i, rdC_o, rdW, rdU_e, rdU_n, rdLW, clI, clR, clC, clD, clW, clV, clN_e, clN_n, clL_e, clL_n] <;> first | assumption | rfl | omega)) ?_
                      try simp only [mP_w]
                      refine x_iload_n dX2_more_61 rfl rfl ?_
                      refine x_if_eq (tgt := 72) dX2_more_62 (by decide) (fun h62 => ?_) (fun h62 => ?_)
                      · simp at h62
                      · refine x_aload_n dX2_more_65 rfl rfl ?_
                        refine g_callI (vs := [_]) (d' := d - 1) rfl (s_X2_sign (by omega) hR (by omega)) dX2_more_66 kX2_98 (by omega) (by decide) rfl (Nat.le_of_ble_eq_true rfl) (rcv_o (by first | assumption | first | assumption | (simp (disch := omega) only [shI, shR, shL, shC, shD, shW, sh_V, shN_e, shN_n, crI, crL, crC, crW, crV, crR_e, crR_n, crN_e, crN_n, ciR, ciL, ciD, ciN_e, ciN_n, rdI_e, rdI_n, rdC_i, rdC_o, rdW, rdU_e, rdU_n, rdLW, clI, clR, clC, clD, clW, clV, clN_e, clN_n, clL_e, clL_n]; done) | (simp (disch := omega) only [shI, shR, shL, shC, shD, shW, sh_V, shN_e, shN_n, crI, crL, crC, crW, crV, crR_e, crR_n, crN_e, crN_n, ciR, ciL, ciD, ciN_e, ciN_n, rdI_e, rdI_n, rdC_i, rdC_o, rdW, rdU_e, rdU_n, rdLW, clI, clR, clC, clD, clW, clV, clN_e, clN_n, clL_e, clL_n] <;> first | assumption | rfl | omega)) rfl) (fun x66 M66 h66 => ?_)
                        obtain ⟨e66, f66⟩ := h66
                        subst f66
                        refine x_goto (tgt := 73) dX2_more_69 (by decide) ?_
                        refine x_istore (L' := [some _, some _, some _, some _, some _]) dX2_more_73 (by decide) rfl ?_
                        refine x_iload_n dX2_more_75 rfl rfl ?_
                        refine x_if_eq (tgt := 92) dX2_more_76 (by decide) (fun h76 => ?_) (fun h76 => ?_)
                        · simp at h76
                        · refine x_iload_n dX2_more_79 rfl rfl ?_
                          refine x_iload_n dX2_more_80 rfl rfl ?_
                          refine x_icmp_ne (tgt := 92) dX2_more_81 (by decide) (fun h81 => ?_) (fun h81 => ?_)
                          · refine x_iload_n dX2_more_92 rfl rfl ?_
                            refine x_zreturn (by exact Or.inr rfl) rfl dX2_more_93 ?_
                            exact hQ _ _ (Or.inl ⟨_, rfl, _, er, rfl⟩)
                          · omega
              · omega
      · have er : moreR tp e p n k = .inl b := by
          unfold moreR
          rw [hb, if_pos hbe, if_pos hn0, if_neg h59]
        refine x_iload_n dX2_more_0 rfl rfl ?_
        refine x_if_le (tgt := 29) dX2_more_1 (by decide) (fun h1 => ?_) (fun h1 => ?_)
        · omega
        · refine x_aload_n dX2_more_4 rfl rfl ?_
          refine g_callI (vs := [_]) (d' := d - 1) rfl (s_X2_sign (by omega) hR (by omega)) dX2_more_5 kX2_98 (by omega) (by decide) rfl (Nat.le_of_ble_eq_true rfl) (rcv_o (by first | assumption | first | assumption | (simp (disch := omega) only [shI, shR, shL, shC, shD, shW, sh_V, shN_e, shN_n, crI, crL, crC, crW, crV, crR_e, crR_n, crN_e, crN_n, ciR, ciL, ciD, ciN_e, ciN_n, rdI_e, rdI_n, rdC_i, rdC_o, rdW, rdU_e, rdU_n, rdLW, clI, clR, clC, clD, clW, clV, clN_e, clN_n, clL_e, clL_n]; done) | (simp (disch := omega) only [shI, shR, shL, shC, shD, shW, sh_V, shN_e, shN_n, crI, crL, crC, crW, crV, crR_e, crR_n, crN_e, crN_n, ciR, ciL, ciD, ciN_e, ciN_n, rdI_e, rdI_n, rdC_i, rdC_o, rdW, rdU_e, rdU_n, rdLW, clI, clR, clC, clD, clW, clV, clN_e, clN_n, clL_e, clL_n] <;> first | assumption | rfl | omega)) rfl) (fun x5 M5 h5 => ?_)
          obtain ⟨e5, f5⟩ := h5
          rw [s1 _ hb] at e5
          rw [hb] at f5
          have f5' := f5.symm
          subst f5'
          subst e5
          refine x_iconst dX2_more_8 rfl ?_
          refine x_icmp_eq (tgt := 29) dX2_more_9 (by decide) (fun h9 => ?_) (fun h9 => ?_)
          · omega
          · refine x_aload_n dX2_more_12 rfl rfl ?_
            refine g_callI (vs := [_]) (d' := d - 1) rfl (s_X2_sign (by omega) hR (by omega)) dX2_more_13 kX2_98 (by omega) (by decide) rfl (Nat.le_of_ble_eq_true rfl) (rcv_o (by first | assumption | first | assumption | (simp (disch := omega) only [shI, shR, shL, shC, shD, shW, sh_V, shN_e, shN_n, crI, crL, crC, crW, crV, crR_e, crR_n, crN_e, crN_n, ciR, ciL, ciD, ciN_e, ciN_n, rdI_e, rdI_n, rdC_i, rdC_o, rdW, rdU_e, rdU_n, rdLW, clI, clR, clC, clD, clW, clV, clN_e, clN_n, clL_e, clL_n]; done) | (simp (disch := omega) only [shI, shR, shL, shC, shD, shW, sh_V, shN_e, shN_n, crI, crL, crC, crW, crV, crR_e, crR_n, crN_e, crN_n, ciR, ciL, ciD, ciN_e, ciN_n, rdI_e, rdI_n, rdC_i, rdC_o, rdW, rdU_e, rdU_n, rdLW, clI, clR, clC, clD, clW, clV, clN_e, clN_n, clL_e, clL_n] <;> first | assumption | rfl | omega)) rfl) (fun x13 M13 h13 => ?_)
            obtain ⟨e13, f13⟩ := h13
            rw [s1 _ hb2] at e13
            rw [hb2] at f13
            have f13' := f13.symm
            subst f13'
            subst e13
            refine x_bipush dX2_more_16 rfl ?_
            refine x_icmp_eq (tgt := 29) dX2_more_18 (by decide) (fun h18 => ?_) (fun h18 => ?_)
            · omega
            · refine x_aload_n dX2_more_21 rfl rfl ?_
              refine x_aload_n dX2_more_22 rfl rfl ?_
              refine g_getI (kI := 9) rfl dX2_more_23 fX2_92_2 (by first | assumption | first | assumption | (simp (disch := omega) only [shI, shR, shL, shC, shD, shW, sh_V, shN_e, shN_n, crI, crL, crC, crW, crV, crR_e, crR_n, crN_e, crN_n, ciR, ciL, ciD, ciN_e, ciN_n, rdI_e, rdI_n, rdC_i, rdC_o, rdW, rdU_e, rdU_n, rdLW, clI, clR, clC, clD, clW, clV, clN_e, clN_n, clL_e, clL_n]; done) | (simp (disch := omega) only [shI, shR, shL, shC, shD, shW, sh_V, shN_e, shN_n, crI, crL, crC, crW, crV, crR_e, crR_n, crN_e, crN_n, ciR, ciL, ciD, ciN_e, ciN_n, rdI_e, rdI_n, rdC_i, rdC_o, rdW, rdU_e, rdU_n, rdLW, clI, clR, clC, clD, clW, clV, clN_e, clN_n, clL_e, clL_n] <;> first | assumption | rfl | omega)) ?_
              try simp (disch := omega) only [rdI_e, rdI_n, rdC_i, rdC_o, rdW, rdR, rdU_e, rdU_n, rdLW, Int.add_zero, mP_p, mP_e, mP_t, he, hte]
              refine g_callNX (vs := [_, _]) (d' := d - 1) rfl (s_X2_fail (by omega) hR) dX2_more_26 kX2_113 (by omega) (by decide) rfl (Nat.le_of_ble_eq_true rfl) (rcv_o (by first | assumption | first | assumption | (simp (disch := omega) only [shI, shR, shL, shC, shD, shW, sh_V, shN_e, shN_n, crI, crL, crC, crW, crV, crR_e, crR_n, crN_e, crN_n, ciR, ciL, ciD, ciN_e, ciN_n, rdI_e, rdI_n, rdC_i, rdC_o, rdW, rdU_e, rdU_n, rdLW, clI, clR, clC, clD, clW, clV, clN_e, clN_n, clL_e, clL_n]; done) | (simp (disch := omega) only [shI, shR, shL, shC, shD, shW, sh_V, shN_e, shN_n, crI, crL, crC, crW, crV, crR_e, crR_n, crN_e, crN_n, ciR, ciL, ciD, ciN_e, ciN_n, rdI_e, rdI_n, rdC_i, rdC_o, rdW, rdU_e, rdU_n, rdLW, clI, clR, clC, clD, clW, clV, clN_e, clN_n, clL_e, clL_n] <;> first | assumption | rfl | omega)) rfl) (fun M26 h26 => ?_) (fun a26 E26 M26 h26 => ?_)
              · exact False.elim (by assumption)
              · exact th_nil rfl (hQ _ _ (Or.inr ⟨_, _, rfl, _, er, h26⟩))
    · have er : moreR tp e p n k = .inr (1, b) := by
        unfold moreR
        rw [hb, if_pos hbe, if_neg hn0]
      refine x_iload_n dX2_more_0 rfl rfl ?_
      refine x_if_le (tgt := 29) dX2_more_1 (by decide) (fun h1 => ?_) (fun h1 => ?_)
      · refine x_aload_n dX2_more_29 rfl rfl ?_
        refine g_callI (vs := [_]) (d' := d - 1) rfl (s_X2_sign (by omega) hR (by omega)) dX2_more_30 kX2_98 (by omega) (by decide) rfl (Nat.le_of_ble_eq_true rfl) (rcv_o (by first | assumption | first | assumption | (simp (disch := omega) only [shI, shR, shL, shC, shD, shW, sh_V, shN_e, shN_n, crI, crL, crC, crW, crV, crR_e, crR_n, crN_e, crN_n, ciR, ciL, ciD, ciN_e, ciN_n, rdI_e, rdI_n, rdC_i, rdC_o, rdW, rdU_e, rdU_n, rdLW, clI, clR, clC, clD, clW, clV, clN_e, clN_n, clL_e, clL_n]; done) | (simp (disch := omega) only [shI, shR, shL, shC, shD, shW, sh_V, shN_e, shN_n, crI, crL, crC, crW, crV, crR_e, crR_n, crN_e, crN_n, ciR, ciL, ciD, ciN_e, ciN_n, rdI_e, rdI_n, rdC_i, rdC_o, rdW, rdU_e, rdU_n, rdLW, clI, clR, clC, clD, clW, clV, clN_e, clN_n, clL_e, clL_n] <;> first | assumption | rfl | omega)) rfl) (fun x30 M30 h30 => ?_)
        obtain ⟨e30, f30⟩ := h30
        rw [s1 _ hb] at e30
        rw [hb] at f30
        have f30' := f30.symm
        subst f30'
        subst e30
        refine x_iconst dX2_more_33 rfl ?_
        refine x_icmp_eq (tgt := 41) dX2_more_34 (by decide) (fun h34 => ?_) (fun h34 => ?_)
        · omega
        · refine x_iconst dX2_more_37 rfl ?_
          refine x_goto (tgt := 42) dX2_more_38 (by decide) ?_
          refine x_istore_n (L' := [some _, some _, some _, some _, none]) dX2_more_42 rfl (by decide) rfl ?_
          refine x_iload_n dX2_more_43 rfl rfl ?_
          refine x_if_eq (tgt := 61) dX2_more_44 (by decide) (fun h44 => ?_) (fun h44 => ?_)
          · simp at h44
          · refine x_iload_n dX2_more_47 rfl rfl ?_
            refine x_if_le (tgt := 61) dX2_more_48 (by decide) (fun h48 => ?_) (fun h48 => ?_)
            · refine x_iload_n dX2_more_61 rfl rfl ?_
              refine x_if_eq (tgt := 72) dX2_more_62 (by decide) (fun h62 => ?_) (fun h62 => ?_)
              · simp at h62
              · refine x_aload_n dX2_more_65 rfl rfl ?_
                refine g_callI (vs := [_]) (d' := d - 1) rfl (s_X2_sign (by omega) hR (by omega)) dX2_more_66 kX2_98 (by omega) (by decide) rfl (Nat.le_of_ble_eq_true rfl) (rcv_o (by first | assumption | first | assumption | (simp (disch := omega) only [shI, shR, shL, shC, shD, shW, sh_V, shN_e, shN_n, crI, crL, crC, crW, crV, crR_e, crR_n, crN_e, crN_n, ciR, ciL, ciD, ciN_e, ciN_n, rdI_e, rdI_n, rdC_i, rdC_o, rdW, rdU_e, rdU_n, rdLW, clI, clR, clC, clD, clW, clV, clN_e, clN_n, clL_e, clL_n]; done) | (simp (disch := omega) only [shI, shR, shL, shC, shD, shW, sh_V, shN_e, shN_n, crI, crL, crC, crW, crV, crR_e, crR_n, crN_e, crN_n, ciR, ciL, ciD, ciN_e, ciN_n, rdI_e, rdI_n, rdC_i, rdC_o, rdW, rdU_e, rdU_n, rdLW, clI, clR, clC, clD, clW, clV, clN_e, clN_n, clL_e, clL_n] <;> first | assumption | rfl | omega)) rfl) (fun x66 M66 h66 => ?_)
                obtain ⟨e66, f66⟩ := h66
                rw [hb2] at f66
                have f66' := f66.symm
                subst f66'
                refine x_goto (tgt := 73) dX2_more_69 (by decide) ?_
                refine x_istore (L' := [some _, some _, some _, some _, some _]) dX2_more_73 (by decide) rfl ?_
                refine x_iload_n dX2_more_75 rfl rfl ?_
                refine x_if_eq (tgt := 92) dX2_more_76 (by decide) (fun h76 => ?_) (fun h76 => ?_)
                · simp at h76
                · refine x_iload_n dX2_more_79 rfl rfl ?_
                  refine x_iload_n dX2_more_80 rfl rfl ?_
                  refine x_icmp_ne (tgt := 92) dX2_more_81 (by decide) (fun h81 => ?_) (fun h81 => ?_)
                  · refine x_iload_n dX2_more_92 rfl rfl ?_
                    refine x_zreturn (by exact Or.inr rfl) rfl dX2_more_93 ?_
                    exact hQ _ _ (Or.inl ⟨_, rfl, _, er, rfl⟩)
                  · omega
            · omega
      · omega
  · have s1 : ∀ q, skB tp e q = b → sgV tp e q = -1 := fun q hq => (sgn q hq).trans (if_neg hbe)
    have er : moreR tp e p n k = .inr (0, b) := by
      unfold moreR
      rw [hb, if_neg hbe]
    have tail : ∀ q, (q = p ∨ q = b) → WP G d mX2_more 29 [some (dR 2), some (dI n), some (dI k), none, none] [] (mP M q) Q := by
      intro q hq
      have hqb : skB tp e q = b := by rcases hq with rfl | rfl <;> assumption
      have hq2 : 0 ≤ q ∧ q ≤ e := by omega
      refine x_aload_n dX2_more_29 rfl rfl ?_
      refine g_callI (vs := [_]) (d' := d - 1) rfl (s_X2_sign (by omega) hR (by omega)) dX2_more_30 kX2_98 (by omega) (by decide) rfl (Nat.le_of_ble_eq_true rfl) (rcv_o (by first | assumption | first | assumption | (simp (disch := omega) only [shI, shR, shL, shC, shD, shW, sh_V, shN_e, shN_n, crI, crL, crC, crW, crV, crR_e, crR_n, crN_e, crN_n, ciR, ciL, ciD, ciN_e, ciN_n, rdI_e, rdI_n, rdC_i, rdC_o, rdW, rdU_e, rdU_n, rdLW, clI, clR, clC, clD, clW, clV, clN_e, clN_n, clL_e, clL_n]; done) | (simp (disch := omega) only [shI, shR, shL, shC, shD, shW, sh_V, shN_e, shN_n, crI, crL, crC, crW, crV, crR_e, crR_n, crN_e, crN_n, ciR, ciL, ciD, ciN_e, ciN_n, rdI_e, rdI_n, rdC_i, rdC_o, rdW, rdU_e, rdU_n, rdLW, clI, clR, clC, clD, clW, clV, clN_e, clN_n, clL_e, clL_n] <;> first | assumption | rfl | omega)) rfl) (fun x30 M30 h30 => ?_)
      obtain ⟨e30, f30⟩ := h30
      rw [s1 _ hqb] at e30
      rw [hqb] at f30
      have f30' := f30.symm
      subst f30'
      subst e30
      refine x_iconst dX2_more_33 rfl ?_
      refine x_icmp_eq (tgt := 41) dX2_more_34 (by decide) (fun h34 => ?_) (fun h34 => ?_)
      · refine x_iconst dX2_more_41 rfl ?_
        refine x_istore_n (L' := [some _, some _, some _, some _, none]) dX2_more_42 rfl (by decide) rfl ?_
        refine x_iload_n dX2_more_43 rfl rfl ?_
        refine x_if_eq (tgt := 61) dX2_more_44 (by decide) (fun h44 => ?_) (fun h44 => ?_)
        · refine x_iload_n dX2_more_61 rfl rfl ?_
          refine x_if_eq (tgt := 72) dX2_more_62 (by decide) (fun h62 => ?_) (fun h62 => ?_)
          · refine x_iconst dX2_more_72 rfl ?_
            refine x_istore (L' := [some _, some _, some _, some _, some _]) dX2_more_73 (by decide) rfl ?_
            refine x_iload_n dX2_more_75 rfl rfl ?_
            refine x_if_eq (tgt := 92) dX2_more_76 (by decide) (fun h76 => ?_) (fun h76 => ?_)
            · refine x_iload_n dX2_more_92 rfl rfl ?_
              refine x_zreturn (by exact Or.inl rfl) rfl dX2_more_93 ?_
              exact hQ _ _ (Or.inl ⟨_, rfl, _, er, rfl⟩)
            · simp at h76
          · simp at h62
        · simp at h44
      · exact absurd rfl h34
    refine x_iload_n dX2_more_0 rfl rfl ?_
    refine x_if_le (tgt := 29) dX2_more_1 (by decide) (fun h1 => ?_) (fun h1 => ?_)
    · first
      | exact tail _ (Or.inl rfl)
      | exact tail _ (Or.inr rfl)
    · refine x_aload_n dX2_more_4 rfl rfl ?_
      refine g_callI (vs := [_]) (d' := d - 1) rfl (s_X2_sign (by omega) hR (by omega)) dX2_more_5 kX2_98 (by omega) (by decide) rfl (Nat.le_of_ble_eq_true rfl) (rcv_o (by first | assumption | first | assumption | (simp (disch := omega) only [shI, shR, shL, shC, shD, shW, sh_V, shN_e, shN_n, crI, crL, crC, crW, crV, crR_e, crR_n, crN_e, crN_n, ciR, ciL, ciD, ciN_e, ciN_n, rdI_e, rdI_n, rdC_i, rdC_o, rdW, rdU_e, rdU_n, rdLW, clI, clR, clC, clD, clW, clV, clN_e, clN_n, clL_e, clL_n]; done) | (simp (disch := omega) only [shI, shR, shL, shC, shD, shW, sh_V, shN_e, shN_n, crI, crL, crC, crW, crV, crR_e, crR_n, crN_e, crN_n, ciR, ciL, ciD, ciN_e, ciN_n, rdI_e, rdI_n, rdC_i, rdC_o, rdW, rdU_e, rdU_n, rdLW, clI, clR, clC, clD, clW, clV, clN_e, clN_n, clL_e, clL_n] <;> first | assumption | rfl | omega)) rfl) (fun x5 M5 h5 => ?_)
      obtain ⟨e5, f5⟩ := h5
      rw [s1 _ hb] at e5
      rw [hb] at f5
      have f5' := f5.symm
      subst f5'
      subst e5
      refine x_iconst dX2_more_8 rfl ?_
      refine x_icmp_eq (tgt := 29) dX2_more_9 (by decide) (fun h9 => ?_) (fun h9 => ?_)
      · first
        | exact tail _ (Or.inl rfl)
        | exact tail _ (Or.inr rfl)
      · exact absurd rfl h9
theorem s_X2_programs (hd : 18 ≤ d) (hX : BxH M tp e) (hp : 0 ≤ p ∧ p ≤ e) (hB : RelB (mci M) 8 u N) (hu : okB u) : CS G d mX2_programs [dR 2] (mP M p) (BX M tp e N 0 0 (rPrg tp e 12 p 0 u)) := by
  obtain ⟨⟨⟨⟨r0, r3, r4, r5, r6, r7, r53⟩, ⟨c0, c1, c2, c3, c4, c5, c6⟩, x1, x2, x3⟩, -, -, he2, -, hBt⟩, hs8, -⟩ := id hX
  obtain ⟨p0, p1, ⟨d0, d1, d2, d3, d4, d5, d6, d7⟩, ⟨t1, t2, t3, t4, t5, t6⟩, p5, p6, p7⟩ := id hs8
  generalize hR0 : rPrg tp e 12 p 0 u = R0
  refine CS.mkQ (by decide) (Nat.le_of_ble_eq_true rfl) fun Q hQ => ?_
  have lp : ∀ (t : Nat) (q n : Int) (g : Ci) (w : Vw) (fu : Nat), ((fu : Int)).toNat = t → (0 ≤ q ∧ q ≤ e) → ((fu : Int) + n = 12 ∧ 0 ≤ n ∧ n ≤ 10) → (R0 = rPrg tp e fu q n w) → (okB w) → (∀ k, 0 ≤ k → k < n → 0 ≤ w (12 + k) ∧ w (12 + k) < w 0) → (RelB g 8 (us w 3 n) N) → (Dr M (wI M g) 0 0) → WP G d mX2_programs 8 [some (dR 2)] [] (mP (wI M g) q) Q := by
    intro t
    induction t using Nat.strongRecOn with
    | _ t ih =>
      intro q n g w fu ht h0 hf hr hw hk hg hF
      obtain ⟨fu, rfl⟩ : ∃ f2, fu = f2 + 1 := ⟨fu - 1, by omega⟩
      have hR := (hX.dr hF).1
      have hs := skB_r (tp := tp) h0.2
      have hss : skB tp e (skB tp e q) = skB tp e q := skB_i _ rfl
      have e8 : g 8 8 = w 0 := hg.1.trans (us_n (by omega))
      have e9 : g 8 9 = n := hg.2.1.trans (us_e rfl)
      have hw0 := hw.1
      rw [rPrg_s] at hr
      by_cases hc : chP tp e 48 57 (skB tp e q)
      · rw [if_pos hc] at hr
        by_cases hn : n = 10
        · have er : R0 = .inl (skB tp e q) := by
            rw [hr]
            cases numP tp e q 0 (w 0 - 1) with
            | none => rfl
            | some y => exact if_neg (by omega)
          refine x_aload_n dX2_programs_8 rfl rfl ?_
          refine g_callI (vs := [_]) (d' := d - 1) rfl (s_X2_isFigure (by omega) hR (by omega)) dX2_programs_9 kX2_205 (by omega) (by decide) rfl (Nat.le_of_ble_eq_true rfl) (rcv_o (by first | assumption | first | assumption | (simp (disch := omega) only [shI, shR, shL, shC, shD, shW, sh_V, shN_e, shN_n, crI, crL, crC, crW, crV, crR_e, crR_n, crN_e, crN_n, ciR, ciL, ciD, ciN_e, ciN_n, rdI_e, rdI_n, rdC_i, rdC_o, rdW, rdU_e, rdU_n, rdLW, clI, clR, clC, clD, clW, clV, clN_e, clN_n, clL_e, clL_n]; done) | (simp (disch := omega) only [shI, shR, shL, shC, shD, shW, sh_V, shN_e, shN_n, crI, crL, crC, crW, crV, crR_e, crR_n, crN_e, crN_n, ciR, ciL, ciD, ciN_e, ciN_n, rdI_e, rdI_n, rdC_i, rdC_o, rdW, rdU_e, rdU_n, rdLW, clI, clR, clC, clD, clW, clV, clN_e, clN_n, clL_e, clL_n] <;> first | assumption | rfl | omega)) rfl) (fun x9 M9 h9 => ?_)
          obtain ⟨e9, f9⟩ := h9
          have f9' := f9.symm
          subst f9'
          subst e9
          refine x_if_eq (tgt := 80) dX2_programs_12 (by decide) (fun h12 => ?_) (fun h12 => ?_)
          · try simp only [vP_0, vP_1, vP_n0, vP_n1, Classical.not_not] at h12
            exact absurd hc h12
          · try simp only [vP_0, vP_1, vP_n0, vP_n1, Classical.not_not] at h12
            refine x_aload_n dX2_programs_15 rfl rfl ?_
            refine g_getR (kI := 5) rfl dX2_programs_16 fX2_77_2 (by first | assumption | first | assumption | (simp (disch := omega) only [shI, shR, shL, shC, shD, shW, sh_V, shN_e, shN_n, crI, crL, crC, crW, crV, crR_e, crR_n, crN_e, crN_n, ciR, ciL, ciD, ciN_e, ciN_n, rdI_e, rdI_n, rdC_i, rdC_o, rdW, rdU_e, rdU_n, rdLW, clI, clR, clC, clD, clW, clV, clN_e, clN_n, clL_e, clL_n]; done) | (simp (disch := omega) only [shI, shR, shL, shC, shD, shW, sh_V, shN_e, shN_n, crI, crL, crC, crW, crV, crR_e, crR_n, crN_e, crN_n, ciR, ciL, ciD, ciN_e, ciN_n, rdI_e, rdI_n, rdC_i, rdC_o, rdW, rdU_e, rdU_n, rdLW, clI, clR, clC, clD, clW, clV, clN_e, clN_n, clL_e, clL_n] <;> first | assumption | rfl | omega)) (by first | assumption | first | assumption | (simp (disch := omega) only [shI, shR, shL, shC, shD, shW, sh_V, shN_e, shN_n, crI, crL, crC, crW, crV, crR_e, crR_n, crN_e, crN_n, ciR, ciL, ciD, ciN_e, ciN_n, rdI_e, rdI_n, rdC_i, rdC_o, rdW, rdU_e, rdU_n, rdLW, clI, clR, clC, clD, clW, clV, clN_e, clN_n, clL_e, clL_n]; done) | (simp (disch := omega) only [shI, shR, shL, shC, shD, shW, sh_V, shN_e, shN_n, crI, crL, crC, crW, crV, crR_e, crR_n, crN_e, crN_n, ciR, ciL, ciD, ciN_e, ciN_n, rdI_e, rdI_n, rdC_i, rdC_o, rdW, rdU_e, rdU_n, rdLW, clI, clR, clC, clD, clW, clV, clN_e, clN_n, clL_e, clL_n] <;> first | assumption | rfl | omega)) ?_
            refine g_getI (kI := 9) rfl dX2_programs_19 fX2_202_3 (by first | assumption | first | assumption | (simp (disch := omega) only [shI, shR, shL, shC, shD, shW, sh_V, shN_e, shN_n, crI, crL, crC, crW, crV, crR_e, crR_n, crN_e, crN_n, ciR, ciL, ciD, ciN_e, ciN_n, rdI_e, rdI_n, rdC_i, rdC_o, rdW, rdU_e, rdU_n, rdLW, clI, clR, clC, clD, clW, clV, clN_e, clN_n, clL_e, clL_n]; done) | (simp (disch := omega) only [shI, shR, shL, shC, shD, shW, sh_V, shN_e, shN_n, crI, crL, crC, crW, crV, crR_e, crR_n, crN_e, crN_n, ciR, ciL, ciD, ciN_e, ciN_n, rdI_e, rdI_n, rdC_i, rdC_o, rdW, rdU_e, rdU_n, rdLW, clI, clR, clC, clD, clW, clV, clN_e, clN_n, clL_e, clL_n] <;> first | assumption | rfl | omega)) ?_
            try simp (disch := omega) only [rdI_e, rdI_n, rdC_i, rdC_o, rdW, rdR, rdU_e, rdU_n, rdLW, Int.add_zero, mP_p, mP_o, e8, e9]
            refine x_bipush dX2_programs_22 rfl ?_
            refine x_icmp_ne (tgt := 35) dX2_programs_24 (by decide) (fun h24 => ?_) (fun h24 => ?_)
            · omega
            · refine x_aload_n dX2_programs_27 rfl rfl ?_
              refine x_aload_n dX2_programs_28 rfl rfl ?_
              refine g_callI (vs := [_]) (d' := d - 1) rfl (s_X2_here (by omega) hR (by omega)) dX2_programs_29 kX2_117 (by omega) (by decide) rfl (Nat.le_of_ble_eq_true rfl) (rcv_o (by first | assumption | first | assumption | (simp (disch := omega) only [shI, shR, shL, shC, shD, shW, sh_V, shN_e, shN_n, crI, crL, crC, crW, crV, crR_e, crR_n, crN_e, crN_n, ciR, ciL, ciD, ciN_e, ciN_n, rdI_e, rdI_n, rdC_i, rdC_o, rdW, rdU_e, rdU_n, rdLW, clI, clR, clC, clD, clW, clV, clN_e, clN_n, clL_e, clL_n]; done) | (simp (disch := omega) only [shI, shR, shL, shC, shD, shW, sh_V, shN_e, shN_n, crI, crL, crC, crW, crV, crR_e, crR_n, crN_e, crN_n, ciR, ciL, ciD, ciN_e, ciN_n, rdI_e, rdI_n, rdC_i, rdC_o, rdW, rdU_e, rdU_n, rdLW, clI, clR, clC, clD, clW, clV, clN_e, clN_n, clL_e, clL_n] <;> first | assumption | rfl | omega)) rfl) (fun x29 M29 h29 => ?_)
              obtain ⟨e29, f29⟩ := h29
              have f29' := f29.symm
              subst f29'
              subst e29
              refine g_callNX (vs := [_, _]) (d' := d - 1) rfl (s_X2_fail (by omega) hR) dX2_programs_32 kX2_113 (by omega) (by decide) rfl (Nat.le_of_ble_eq_true rfl) (rcv_o (by first | assumption | first | assumption | (simp (disch := omega) only [shI, shR, shL, shC, shD, shW, sh_V, shN_e, shN_n, crI, crL, crC, crW, crV, crR_e, crR_n, crN_e, crN_n, ciR, ciL, ciD, ciN_e, ciN_n, rdI_e, rdI_n, rdC_i, rdC_o, rdW, rdU_e, rdU_n, rdLW, clI, clR, clC, clD, clW, clV, clN_e, clN_n, clL_e, clL_n]; done) | (simp (disch := omega) only [shI, shR, shL, shC, shD, shW, sh_V, shN_e, shN_n, crI, crL, crC, crW, crV, crR_e, crR_n, crN_e, crN_n, ciR, ciL, ciD, ciN_e, ciN_n, rdI_e, rdI_n, rdC_i, rdC_o, rdW, rdU_e, rdU_n, rdLW, clI, clR, clC, clD, clW, clV, clN_e, clN_n, clL_e, clL_n] <;> first | assumption | rfl | omega)) rfl) (fun M32 h32 => ?_) (fun a32 E32 M32 h32 => ?_)
              · exact False.elim (by assumption)
              · exact th_nil rfl (hQ _ _ (BX.f er (h32.d hF (Nat.le_refl _) (Nat.le_refl _) hss)))
        · rcases hq : numP tp e q 0 (w 0 - 1) with _ | ⟨y, z⟩
          · rw [hq] at hr
            dsimp only at hr
            refine x_aload_n dX2_programs_8 rfl rfl ?_
            refine g_callI (vs := [_]) (d' := d - 1) rfl (s_X2_isFigure (by omega) hR (by omega)) dX2_programs_9 kX2_205 (by omega) (by decide) rfl (Nat.le_of_ble_eq_true rfl) (rcv_o (by first | assumption | first | assumption | (simp (disch := omega) only [shI, shR, shL, shC, shD, shW, sh_V, shN_e, shN_n, crI, crL, crC, crW, crV, crR_e, crR_n, crN_e, crN_n, ciR, ciL, ciD, ciN_e, ciN_n, rdI_e, rdI_n, rdC_i, rdC_o, rdW, rdU_e, rdU_n, rdLW, clI, clR, clC, clD, clW, clV, clN_e, clN_n, clL_e, clL_n]; done) | (simp (disch := omega) only [shI, shR, shL, shC, shD, shW, sh_V, shN_e, shN_n, crI, crL, crC, crW, crV, crR_e, crR_n, crN_e, crN_n, ciR, ciL, ciD, ciN_e, ciN_n, rdI_e, rdI_n, rdC_i, rdC_o, rdW, rdU_e, rdU_n, rdLW, clI, clR, clC, clD, clW, clV, clN_e, clN_n, clL_e, clL_n] <;> first | assumption | rfl | omega)) rfl) (fun x9 M9 h9 => ?_)
            obtain ⟨e9, f9⟩ := h9
            have f9' := f9.symm
            subst f9'
            subst e9
            refine x_if_eq (tgt := 80) dX2_programs_12 (by decide) (fun h12 => ?_) (fun h12 => ?_)
            · try simp only [vP_0, vP_1, vP_n0, vP_n1, Classical.not_not] at h12
              exact absurd hc h12
            · try simp only [vP_0, vP_1, vP_n0, vP_n1, Classical.not_not] at h12
              refine x_aload_n dX2_programs_15 rfl rfl ?_
              refine g_getR (kI := 5) rfl dX2_programs_16 fX2_77_2 (by first | assumption | first | assumption | (simp (disch := omega) only [shI, shR, shL, shC, shD, shW, sh_V, shN_e, shN_n, crI, crL, crC, crW, crV, crR_e, crR_n, crN_e, crN_n, ciR, ciL, ciD, ciN_e, ciN_n, rdI_e, rdI_n, rdC_i, rdC_o, rdW, rdU_e, rdU_n, rdLW, clI, clR, clC, clD, clW, clV, clN_e, clN_n, clL_e, clL_n]; done) | (simp (disch := omega) only [shI, shR, shL, shC, shD, shW, sh_V, shN_e, shN_n, crI, crL, crC, crW, crV, crR_e, crR_n, crN_e, crN_n, ciR, ciL, ciD, ciN_e, ciN_n, rdI_e, rdI_n, rdC_i, rdC_o, rdW, rdU_e, rdU_n, rdLW, clI, clR, clC, clD, clW, clV, clN_e, clN_n, clL_e, clL_n] <;> first | assumption | rfl | omega)) (by first | assumption | first | assumption | (simp (disch := omega) only [shI, shR, shL, shC, shD, shW, sh_V, shN_e, shN_n, crI, crL, crC, crW, crV, crR_e, crR_n, crN_e, crN_n, ciR, ciL, ciD, ciN_e, ciN_n, rdI_e, rdI_n, rdC_i, rdC_o, rdW, rdU_e, rdU_n, rdLW, clI, clR, clC, clD, clW, clV, clN_e, clN_n, clL_e, clL_n]; done) | (simp (disch := omega) only [shI, shR, shL, shC, shD, shW, sh_V, shN_e, shN_n, crI, crL, crC, crW, crV, crR_e, crR_n, crN_e, crN_n, ciR, ciL, ciD, ciN_e, ciN_n, rdI_e, rdI_n, rdC_i, rdC_o, rdW, rdU_e, rdU_n, rdLW, clI, clR, clC, clD, clW, clV, clN_e, clN_n, clL_e, clL_n] <;> first | assumption | rfl | omega)) ?_
              refine g_getI (kI := 9) rfl dX2_programs_19 fX2_202_3 (by first | assumption | first | assumption | (simp (disch := omega) only [shI, shR, shL, shC, shD, shW, sh_V, shN_e, shN_n, crI, crL, crC, crW, crV, crR_e, crR_n, crN_e, crN_n, ciR, ciL, ciD, ciN_e, ciN_n, rdI_e, rdI_n, rdC_i, rdC_o, rdW, rdU_e, rdU_n, rdLW, clI, clR, clC, clD, clW, clV, clN_e, clN_n, clL_e, clL_n]; done) | (simp (disch := omega) only [shI, shR, shL, shC, shD, shW, sh_V, shN_e, shN_n, crI, crL, crC, crW, crV, crR_e, crR_n, crN_e, crN_n, ciR, ciL, ciD, ciN_e, ciN_n, rdI_e, rdI_n, rdC_i, rdC_o, rdW, rdU_e, rdU_n, rdLW, clI, clR, clC, clD, clW, clV, clN_e, clN_n, clL_e, clL_n] <;> first | assumption | rfl | omega)) ?_
              try simp (disch := omega) only [rdI_e, rdI_n, rdC_i, rdC_o, rdW, rdR, rdU_e, rdU_n, rdLW, Int.add_zero, mP_p, mP_o, e8, e9]
              refine x_bipush dX2_programs_22 rfl ?_
              refine x_icmp_ne (tgt := 35) dX2_programs_24 (by decide) (fun h24 => ?_) (fun h24 => ?_)
              · refine x_aload_n dX2_programs_35 rfl rfl ?_
                refine g_getR (kI := 5) rfl dX2_programs_36 fX2_77_2 (by first | assumption | first | assumption | (simp (disch := omega) only [shI, shR, shL, shC, shD, shW, sh_V, shN_e, shN_n, crI, crL, crC, crW, crV, crR_e, crR_n, crN_e, crN_n, ciR, ciL, ciD, ciN_e, ciN_n, rdI_e, rdI_n, rdC_i, rdC_o, rdW, rdU_e, rdU_n, rdLW, clI, clR, clC, clD, clW, clV, clN_e, clN_n, clL_e, clL_n]; done) | (simp (disch := omega) only [shI, shR, shL, shC, shD, shW, sh_V, shN_e, shN_n, crI, crL, crC, crW, crV, crR_e, crR_n, crN_e, crN_n, ciR, ciL, ciD, ciN_e, ciN_n, rdI_e, rdI_n, rdC_i, rdC_o, rdW, rdU_e, rdU_n, rdLW, clI, clR, clC, clD, clW, clV, clN_e, clN_n, clL_e, clL_n] <;> first | assumption | rfl | omega)) (by first | assumption | first | assumption | (simp (disch := omega) only [shI, shR, shL, shC, shD, shW, sh_V, shN_e, shN_n, crI, crL, crC, crW, crV, crR_e, crR_n, crN_e, crN_n, ciR, ciL, ciD, ciN_e, ciN_n, rdI_e, rdI_n, rdC_i, rdC_o, rdW, rdU_e, rdU_n, rdLW, clI, clR, clC, clD, clW, clV, clN_e, clN_n, clL_e, clL_n]; done) | (simp (disch := omega) only [shI, shR, shL, shC, shD, shW, sh_V, shN_e, shN_n, crI, crL, crC, crW, crV, crR_e, crR_n, crN_e, crN_n, ciR, ciL, ciD, ciN_e, ciN_n, rdI_e, rdI_n, rdC_i, rdC_o, rdW, rdU_e, rdU_n, rdLW, clI, clR, clC, clD, clW, clV, clN_e, clN_n, clL_e, clL_n] <;> first | assumption | rfl | omega)) ?_
                refine g_getR (kI := 4) rfl dX2_programs_39 fX2_209_3 (by first | assumption | first | assumption | (simp (disch := omega) only [shI, shR, shL, shC, shD, shW, sh_V, shN_e, shN_n, crI, crL, crC, crW, crV, crR_e, crR_n, crN_e, crN_n, ciR, ciL, ciD, ciN_e, ciN_n, rdI_e, rdI_n, rdC_i, rdC_o, rdW, rdU_e, rdU_n, rdLW, clI, clR, clC, clD, clW, clV, clN_e, clN_n, clL_e, clL_n]; done) | (simp (disch := omega) only [shI, shR, shL, shC, shD, shW, sh_V, shN_e, shN_n, crI, crL, crC, crW, crV, crR_e, crR_n, crN_e, crN_n, ciR, ciL, ciD, ciN_e, ciN_n, rdI_e, rdI_n, rdC_i, rdC_o, rdW, rdU_e, rdU_n, rdLW, clI, clR, clC, clD, clW, clV, clN_e, clN_n, clL_e, clL_n] <;> first | assumption | rfl | omega)) (by first | assumption | first | assumption | (simp (disch := omega) only [shI, shR, shL, shC, shD, shW, sh_V, shN_e, shN_n, crI, crL, crC, crW, crV, crR_e, crR_n, crN_e, crN_n, ciR, ciL, ciD, ciN_e, ciN_n, rdI_e, rdI_n, rdC_i, rdC_o, rdW, rdU_e, rdU_n, rdLW, clI, clR, clC, clD, clW, clV, clN_e, clN_n, clL_e, clL_n]; done) | (simp (disch := omega) only [shI, shR, shL, shC, shD, shW, sh_V, shN_e, shN_n, crI, crL, crC, crW, crV, crR_e, crR_n, crN_e, crN_n, ciR, ciL, ciD, ciN_e, ciN_n, rdI_e, rdI_n, rdC_i, rdC_o, rdW, rdU_e, rdU_n, rdLW, clI, clR, clC, clD, clW, clV, clN_e, clN_n, clL_e, clL_n] <;> first | assumption | rfl | omega)) ?_
                refine x_aload_n dX2_programs_42 rfl rfl ?_
                refine g_getR (kI := 5) rfl dX2_programs_43 fX2_77_2 (by first | assumption | first | assumption | (simp (disch := omega) only [shI, shR, shL, shC, shD, shW, sh_V, shN_e, shN_n, crI, crL, crC, crW, crV, crR_e, crR_n, crN_e, crN_n, ciR, ciL, ciD, ciN_e, ciN_n, rdI_e, rdI_n, rdC_i, rdC_o, rdW, rdU_e, rdU_n, rdLW, clI, clR, clC, clD, clW, clV, clN_e, clN_n, clL_e, clL_n]; done) | (simp (disch := omega) only [shI, shR, shL, shC, shD, shW, sh_V, shN_e, shN_n, crI, crL, crC, crW, crV, crR_e, crR_n, crN_e, crN_n, ciR, ciL, ciD, ciN_e, ciN_n, rdI_e, rdI_n, rdC_i, rdC_o, rdW, rdU_e, rdU_n, rdLW, clI, clR, clC, clD, clW, clV, clN_e, clN_n, clL_e, clL_n] <;> first | assumption | rfl | omega)) (by first | assumption | first | assumption | (simp (disch := omega) only [shI, shR, shL, shC, shD, shW, sh_V, shN_e, shN_n, crI, crL, crC, crW, crV, crR_e, crR_n, crN_e, crN_n, ciR, ciL, ciD, ciN_e, ciN_n, rdI_e, rdI_n, rdC_i, rdC_o, rdW, rdU_e, rdU_n, rdLW, clI, clR, clC, clD, clW, clV, clN_e, clN_n, clL_e, clL_n]; done) | (simp (disch := omega) only [shI, shR, shL, shC, shD, shW, sh_V, shN_e, shN_n, crI, crL, crC, crW, crV, crR_e, crR_n, crN_e, crN_n, ciR, ciL, ciD, ciN_e, ciN_n, rdI_e, rdI_n, rdC_i, rdC_o, rdW, rdU_e, rdU_n, rdLW, clI, clR, clC, clD, clW, clV, clN_e, clN_n, clL_e, clL_n] <;> first | assumption | rfl | omega)) ?_
                refine g_getI (kI := 9) rfl dX2_programs_46 fX2_202_3 (by first | assumption | first | assumption | (simp (disch := omega) only [shI, shR, shL, shC, shD, shW, sh_V, shN_e, shN_n, crI, crL, crC, crW, crV, crR_e, crR_n, crN_e, crN_n, ciR, ciL, ciD, ciN_e, ciN_n, rdI_e, rdI_n, rdC_i, rdC_o, rdW, rdU_e, rdU_n, rdLW, clI, clR, clC, clD, clW, clV, clN_e, clN_n, clL_e, clL_n]; done) | (simp (disch := omega) only [shI, shR, shL, shC, shD, shW, sh_V, shN_e, shN_n, crI, crL, crC, crW, crV, crR_e, crR_n, crN_e, crN_n, ciR, ciL, ciD, ciN_e, ciN_n, rdI_e, rdI_n, rdC_i, rdC_o, rdW, rdU_e, rdU_n, rdLW, clI, clR, clC, clD, clW, clV, clN_e, clN_n, clL_e, clL_n] <;> first | assumption | rfl | omega)) ?_
                try simp (disch := omega) only [rdI_e, rdI_n, rdC_i, rdC_o, rdW, rdR, rdU_e, rdU_n, rdLW, Int.add_zero, mP_p, mP_o, e8, e9]
                refine x_aload_n dX2_programs_49 rfl rfl ?_
                refine x_iconst dX2_programs_50 rfl ?_
                refine x_aload_n dX2_programs_51 rfl rfl ?_
                refine g_getR (kI := 5) rfl dX2_programs_52 fX2_77_2 (by first | assumption | first | assumption | (simp (disch := omega) only [shI, shR, shL, shC, shD, shW, sh_V, shN_e, shN_n, crI, crL, crC, crW, crV, crR_e, crR_n, crN_e, crN_n, ciR, ciL, ciD, ciN_e, ciN_n, rdI_e, rdI_n, rdC_i, rdC_o, rdW, rdU_e, rdU_n, rdLW, clI, clR, clC, clD, clW, clV, clN_e, clN_n, clL_e, clL_n]; done) | (simp (disch := omega) only [shI, shR, shL, shC, shD, shW, sh_V, shN_e, shN_n, crI, crL, crC, crW, crV, crR_e, crR_n, crN_e, crN_n, ciR, ciL, ciD, ciN_e, ciN_n, rdI_e, rdI_n, rdC_i, rdC_o, rdW, rdU_e, rdU_n, rdLW, clI, clR, clC, clD, clW, clV, clN_e, clN_n, clL_e, clL_n] <;> first | assumption | rfl | omega)) (by first | assumption | first | assumption | (simp (disch := omega) only [shI, shR, shL, shC, shD, shW, sh_V, shN_e, shN_n, crI, crL, crC, crW, crV, crR_e, crR_n, crN_e, crN_n, ciR, ciL, ciD, ciN_e, ciN_n, rdI_e, rdI_n, rdC_i, rdC_o, rdW, rdU_e, rdU_n, rdLW, clI, clR, clC, clD, clW, clV, clN_e, clN_n, clL_e, clL_n]; done) | (simp (disch := omega) only [shI, shR, shL, shC, shD, shW, sh_V, shN_e, shN_n, crI, crL, crC, crW, crV, crR_e, crR_n, crN_e, crN_n, ciR, ciL, ciD, ciN_e, ciN_n, rdI_e, rdI_n, rdC_i, rdC_o, rdW, rdU_e, rdU_n, rdLW, clI, clR, clC, clD, clW, clV, clN_e, clN_n, clL_e, clL_n] <;> first | assumption | rfl | omega)) ?_
                refine g_getI (kI := 8) rfl dX2_programs_55 fX2_178_3 (by first | assumption | first | assumption | (simp (disch := omega) only [shI, shR, shL, shC, shD, shW, sh_V, shN_e, shN_n, crI, crL, crC, crW, crV, crR_e, crR_n, crN_e, crN_n, ciR, ciL, ciD, ciN_e, ciN_n, rdI_e, rdI_n, rdC_i, rdC_o, rdW, rdU_e, rdU_n, rdLW, clI, clR, clC, clD, clW, clV, clN_e, clN_n, clL_e, clL_n]; done) | (simp (disch := omega) only [shI, shR, shL, shC, shD, shW, sh_V, shN_e, shN_n, crI, crL, crC, crW, crV, crR_e, crR_n, crN_e, crN_n, ciR, ciL, ciD, ciN_e, ciN_n, rdI_e, rdI_n, rdC_i, rdC_o, rdW, rdU_e, rdU_n, rdLW, clI, clR, clC, clD, clW, clV, clN_e, clN_n, clL_e, clL_n] <;> first | assumption | rfl | omega)) ?_
                try simp (disch := omega) only [rdI_e, rdI_n, rdC_i, rdC_o, rdW, rdR, rdU_e, rdU_n, rdLW, Int.add_zero, mP_p, mP_o, e8, e9]
                refine x_iconst dX2_programs_58 rfl ?_
                first | refine x_isubN dX2_programs_59 (by unfold i32; omega) ?_ | refine x_isub dX2_programs_59 ?_
                refine g_callIX (vs := [_, _, _]) (d' := d - 1) rfl (s_X2_number (by omega) hR (by omega)) dX2_programs_60 kX2_124 (by omega) (by decide) rfl (Nat.le_of_ble_eq_true rfl) (rcv_o (by first | assumption | first | assumption | (simp (disch := omega) only [shI, shR, shL, shC, shD, shW, sh_V, shN_e, shN_n, crI, crL, crC, crW, crV, crR_e, crR_n, crN_e, crN_n, ciR, ciL, ciD, ciN_e, ciN_n, rdI_e, rdI_n, rdC_i, rdC_o, rdW, rdU_e, rdU_n, rdLW, clI, clR, clC, clD, clW, clV, clN_e, clN_n, clL_e, clL_n]; done) | (simp (disch := omega) only [shI, shR, shL, shC, shD, shW, sh_V, shN_e, shN_n, crI, crL, crC, crW, crV, crR_e, crR_n, crN_e, crN_n, ciR, ciL, ciD, ciN_e, ciN_n, rdI_e, rdI_n, rdC_i, rdC_o, rdW, rdU_e, rdU_n, rdLW, clI, clR, clC, clD, clW, clV, clN_e, clN_n, clL_e, clL_n] <;> first | assumption | rfl | omega)) rfl) (fun x60 M60 h60 => ?_) (fun a60 E60 M60 h60 => ?_)
                · obtain ⟨z, hz, -⟩ := h60
                  rw [numP_sk, hq] at hz
                  cases hz
                  skip
                · exact th_nil rfl (hQ _ _ (BX.f hr (h60.2.d hF (Nat.le_refl _) (Nat.le_refl _) hss)))
              · omega
          · rw [hq] at hr
            dsimp only at hr
            rw [if_pos (show n < 10 by omega)] at hr
            have hnr := numP_r h0.2 hq
            have ok3 := okB_3 hw hf.2 hk
            have ok4 : okB (us (us w 3 n) (12 + n) z) := ok3.us (by rw [us_n (by omega)]; omega)
            have g1 : RelB (up (up g (8 + 5) n z) 8 9 (n + 1)) 8 (us (us w (12 + n) z) 3 (n + 1)) N := by
              have h1 := hg.ch (q := 0) ok3 (ChO.prg (p := 8) (c := n) (x := z) ⟨by omega, by omega⟩)
              have h2 := h1.ch (q := 0) ok4 (ChO.mny (p := 8) (x := n + 1))
              rw [prgE (by omega)] at h2
              exact h2
            have f1 : Dr M (wI M (up (up g (8 + 5) n z) 8 9 (n + 1))) 0 0 := (hF.I (a := 8 + 5) (i := n) (v := z) (by omega)).I (a := 8) (i := 9) (v := n + 1) (by omega)
            have ew : us w (12 + n) z 0 = w 0 := us_n (by omega)
            refine x_aload_n dX2_programs_8 rfl rfl ?_
            refine g_callI (vs := [_]) (d' := d - 1) rfl (s_X2_isFigure (by omega) hR (by omega)) dX2_programs_9 kX2_205 (by omega) (by decide) rfl (Nat.le_of_ble_eq_true rfl) (rcv_o (by first | assumption | first | assumption | (simp (disch := omega) only [shI, shR, shL, shC, shD, shW, sh_V, shN_e, shN_n, crI, crL, crC, crW, crV, crR_e, crR_n, crN_e, crN_n, ciR, ciL, ciD, ciN_e, ciN_n, rdI_e, rdI_n, rdC_i, rdC_o, rdW, rdU_e, rdU_n, rdLW, clI, clR, clC, clD, clW, clV, clN_e, clN_n, clL_e, clL_n]; done) | (simp (disch := omega) only [shI, shR, shL, shC, shD, shW, sh_V, shN_e, shN_n, crI, crL, crC, crW, crV, crR_e, crR_n, crN_e, crN_n, ciR, ciL, ciD, ciN_e, ciN_n, rdI_e, rdI_n, rdC_i, rdC_o, rdW, rdU_e, rdU_n, rdLW, clI, clR, clC, clD, clW, clV, clN_e, clN_n, clL_e, clL_n] <;> first | assumption | rfl | omega)) rfl) (fun x9 M9 h9 => ?_)
            obtain ⟨e9, f9⟩ := h9
            have f9' := f9.symm
            subst f9'
            subst e9
            refine x_if_eq (tgt := 80) dX2_programs_12 (by decide) (fun h12 => ?_) (fun h12 => ?_)
            · try simp only [vP_0, vP_1, vP_n0, vP_n1, Classical.not_not] at h12
              exact absurd hc h12
            · try simp only [vP_0, vP_1, vP_n0, vP_n1, Classical.not_not] at h12
              refine x_aload_n dX2_programs_15 rfl rfl ?_
              refine g_getR (kI := 5) rfl dX2_programs_16 fX2_77_2 (by first | assumption | first | assumption | (simp (disch := omega) only [shI, shR, shL, shC, shD, shW, sh_V, shN_e, shN_n, crI, crL, crC, crW, crV, crR_e, crR_n, crN_e, crN_n, ciR, ciL, ciD, ciN_e, ciN_n, rdI_e, rdI_n, rdC_i, rdC_o, rdW, rdU_e, rdU_n, rdLW, clI, clR, clC, clD, clW, clV, clN_e, clN_n, clL_e, clL_n]; done) | (simp (disch := omega) only [shI, shR, shL, shC, shD, shW, sh_V, shN_e, shN_n, crI, crL, crC, crW, crV, crR_e, crR_n, crN_e, crN_n, ciR, ciL, ciD, ciN_e, ciN_n, rdI_e, rdI_n, rdC_i, rdC_o, rdW, rdU_e, rdU_n, rdLW, clI, clR, clC, clD, clW, clV, clN_e, clN_n, clL_e, clL_n] <;> first | assumption | rfl | omega)) (by first | assumption | first | assumption | (simp (disch := omega) only [shI, shR, shL, shC, shD, shW, sh_V, shN_e, shN_n, crI, crL, crC, crW, crV, crR_e, crR_n, crN_e, crN_n, ciR, ciL, ciD, ciN_e, ciN_n, rdI_e, rdI_n, rdC_i, rdC_o, rdW, rdU_e, rdU_n, rdLW, clI, clR, clC, clD, clW, clV, clN_e, clN_n, clL_e, clL_n]; done) | (simp (disch := omega) only [shI, shR, shL, shC, shD, shW, sh_V, shN_e, shN_n, crI, crL, crC, crW, crV, crR_e, crR_n, crN_e, crN_n, ciR, ciL, ciD, ciN_e, ciN_n, rdI_e, rdI_n, rdC_i, rdC_o, rdW, rdU_e, rdU_n, rdLW, clI, clR, clC, clD, clW, clV, clN_e, clN_n, clL_e, clL_n] <;> first | assumption | rfl | omega)) ?_
              refine g_getI (kI := 9) rfl dX2_programs_19 fX2_202_3 (by first | assumption | first | assumption | (simp (disch := omega) only [shI, shR, shL, shC, shD, shW, sh_V, shN_e, shN_n, crI, crL, crC, crW, crV, crR_e, crR_n, crN_e, crN_n, ciR, ciL, ciD, ciN_e, ciN_n, rdI_e, rdI_n, rdC_i, rdC_o, rdW, rdU_e, rdU_n, rdLW, clI, clR, clC, clD, clW, clV, clN_e, clN_n, clL_e, clL_n]; done) | (simp (disch := omega) only [shI, shR, shL, shC, shD, shW, sh_V, shN_e, shN_n, crI, crL, crC, crW, crV, crR_e, crR_n, crN_e, crN_n, ciR, ciL, ciD, ciN_e, ciN_n, rdI_e, rdI_n, rdC_i, rdC_o, rdW, rdU_e, rdU_n, rdLW, clI, clR, clC, clD, clW, clV, clN_e, clN_n, clL_e, clL_n] <;> first | assumption | rfl | omega)) ?_
              try simp (disch := omega) only [rdI_e, rdI_n, rdC_i, rdC_o, rdW, rdR, rdU_e, rdU_n, rdLW, Int.add_zero, mP_p, mP_o, e8, e9]
              refine x_bipush dX2_programs_22 rfl ?_
              refine x_icmp_ne (tgt := 35) dX2_programs_24 (by decide) (fun h24 => ?_) (fun h24 => ?_)
              · refine x_aload_n dX2_programs_35 rfl rfl ?_
                refine g_getR (kI := 5) rfl dX2_programs_36 fX2_77_2 (by first | assumption | first | assumption | (simp (disch := omega) only [shI, shR, shL, shC, shD, shW, sh_V, shN_e, shN_n, crI, crL, crC, crW, crV, crR_e, crR_n, crN_e, crN_n, ciR, ciL, ciD, ciN_e, ciN_n, rdI_e, rdI_n, rdC_i, rdC_o, rdW, rdU_e, rdU_n, rdLW, clI, clR, clC, clD, clW, clV, clN_e, clN_n, clL_e, clL_n]; done) | (simp (disch := omega) only [shI, shR, shL, shC, shD, shW, sh_V, shN_e, shN_n, crI, crL, crC, crW, crV, crR_e, crR_n, crN_e, crN_n, ciR, ciL, ciD, ciN_e, ciN_n, rdI_e, rdI_n, rdC_i, rdC_o, rdW, rdU_e, rdU_n, rdLW, clI, clR, clC, clD, clW, clV, clN_e, clN_n, clL_e, clL_n] <;> first | assumption | rfl | omega)) (by first | assumption | first | assumption | (simp (disch := omega) only [shI, shR, shL, shC, shD, shW, sh_V, shN_e, shN_n, crI, crL, crC, crW, crV, crR_e, crR_n, crN_e, crN_n, ciR, ciL, ciD, ciN_e, ciN_n, rdI_e, rdI_n, rdC_i, rdC_o, rdW, rdU_e, rdU_n, rdLW, clI, clR, clC, clD, clW, clV, clN_e, clN_n, clL_e, clL_n]; done) | (simp (disch := omega) only [shI, shR, shL, shC, shD, shW, sh_V, shN_e, shN_n, crI, crL, crC, crW, crV, crR_e, crR_n, crN_e, crN_n, ciR, ciL, ciD, ciN_e, ciN_n, rdI_e, rdI_n, rdC_i, rdC_o, rdW, rdU_e, rdU_n, rdLW, clI, clR, clC, clD, clW, clV, clN_e, clN_n, clL_e, clL_n] <;> first | assumption | rfl | omega)) ?_
                refine g_getR (kI := 4) rfl dX2_programs_39 fX2_209_3 (by first | assumption | first | assumption | (simp (disch := omega) only [shI, shR, shL, shC, shD, shW, sh_V, shN_e, shN_n, crI, crL, crC, crW, crV, crR_e, crR_n, crN_e, crN_n, ciR, ciL, ciD, ciN_e, ciN_n, rdI_e, rdI_n, rdC_i, rdC_o, rdW, rdU_e, rdU_n, rdLW, clI, clR, clC, clD, clW, clV, clN_e, clN_n, clL_e, clL_n]; done) | (simp (disch := omega) only [shI, shR, shL, shC, shD, shW, sh_V, shN_e, shN_n, crI, crL, crC, crW, crV, crR_e, crR_n, crN_e, crN_n, ciR, ciL, ciD, ciN_e, ciN_n, rdI_e, rdI_n, rdC_i, rdC_o, rdW, rdU_e, rdU_n, rdLW, clI, clR, clC, clD, clW, clV, clN_e, clN_n, clL_e, clL_n] <;> first | assumption | rfl | omega)) (by first | assumption | first | assumption | (simp (disch := omega) only [shI, shR, shL, shC, shD, shW, sh_V, shN_e, shN_n, crI, crL, crC, crW, crV, crR_e, crR_n, crN_e, crN_n, ciR, ciL, ciD, ciN_e, ciN_n, rdI_e, rdI_n, rdC_i, rdC_o, rdW, rdU_e, rdU_n, rdLW, clI, clR, clC, clD, clW, clV, clN_e, clN_n, clL_e, clL_n]; done) | (simp (disch := omega) only [shI, shR, shL, shC, shD, shW, sh_V, shN_e, shN_n, crI, crL, crC, crW, crV, crR_e, crR_n, crN_e, crN_n, ciR, ciL, ciD, ciN_e, ciN_n, rdI_e, rdI_n, rdC_i, rdC_o, rdW, rdU_e, rdU_n, rdLW, clI, clR, clC, clD, clW, clV, clN_e, clN_n, clL_e, clL_n] <;> first | assumption | rfl | omega)) ?_
                refine x_aload_n dX2_programs_42 rfl rfl ?_
                refine g_getR (kI := 5) rfl dX2_programs_43 fX2_77_2 (by first | assumption | first | assumption | (simp (disch := omega) only [shI, shR, shL, shC, shD, shW, sh_V, shN_e, shN_n, crI, crL, crC, crW, crV, crR_e, crR_n, crN_e, crN_n, ciR, ciL, ciD, ciN_e, ciN_n, rdI_e, rdI_n, rdC_i, rdC_o, rdW, rdU_e, rdU_n, rdLW, clI, clR, clC, clD, clW, clV, clN_e, clN_n, clL_e, clL_n]; done) | (simp (disch := omega) only [shI, shR, shL, shC, shD, shW, sh_V, shN_e, shN_n, crI, crL, crC, crW, crV, crR_e, crR_n, crN_e, crN_n, ciR, ciL, ciD, ciN_e, ciN_n, rdI_e, rdI_n, rdC_i, rdC_o, rdW, rdU_e, rdU_n, rdLW, clI, clR, clC, clD, clW, clV, clN_e, clN_n, clL_e, clL_n] <;> first | assumption | rfl | omega)) (by first | assumption | first | assumption | (simp (disch := omega) only [shI, shR, shL, shC, shD, shW, sh_V, shN_e, shN_n, crI, crL, crC, crW, crV, crR_e, crR_n, crN_e, crN_n, ciR, ciL, ciD, ciN_e, ciN_n, rdI_e, rdI_n, rdC_i, rdC_o, rdW, rdU_e, rdU_n, rdLW, clI, clR, clC, clD, clW, clV, clN_e, clN_n, clL_e, clL_n]; done) | (simp (disch := omega) only [shI, shR, shL, shC, shD, shW, sh_V, shN_e, shN_n, crI, crL, crC, crW, crV, crR_e, crR_n, crN_e, crN_n, ciR, ciL, ciD, ciN_e, ciN_n, rdI_e, rdI_n, rdC_i, rdC_o, rdW, rdU_e, rdU_n, rdLW, clI, clR, clC, clD, clW, clV, clN_e, clN_n, clL_e, clL_n] <;> first | assumption | rfl | omega)) ?_
                refine g_getI (kI := 9) rfl dX2_programs_46 fX2_202_3 (by first | assumption | first | assumption | (simp (disch := omega) only [shI, shR, shL, shC, shD, shW, sh_V, shN_e, shN_n, crI, crL, crC, crW, crV, crR_e, crR_n, crN_e, crN_n, ciR, ciL, ciD, ciN_e, ciN_n, rdI_e, rdI_n, rdC_i, rdC_o, rdW, rdU_e, rdU_n, rdLW, clI, clR, clC, clD, clW, clV, clN_e, clN_n, clL_e, clL_n]; done) | (simp (disch := omega) only [shI, shR, shL, shC, shD, shW, sh_V, shN_e, shN_n, crI, crL, crC, crW, crV, crR_e, crR_n, crN_e, crN_n, ciR, ciL, ciD, ciN_e, ciN_n, rdI_e, rdI_n, rdC_i, rdC_o, rdW, rdU_e, rdU_n, rdLW, clI, clR, clC, clD, clW, clV, clN_e, clN_n, clL_e, clL_n] <;> first | assumption | rfl | omega)) ?_
                try simp (disch := omega) only [rdI_e, rdI_n, rdC_i, rdC_o, rdW, rdR, rdU_e, rdU_n, rdLW, Int.add_zero, mP_p, mP_o, e8, e9]
                refine x_aload_n dX2_programs_49 rfl rfl ?_
                refine x_iconst dX2_programs_50 rfl ?_
                refine x_aload_n dX2_programs_51 rfl rfl ?_
                refine g_getR (kI := 5) rfl dX2_programs_52 fX2_77_2 (by first | assumption | first | assumption | (simp (disch := omega) only [shI, shR, shL, shC, shD, shW, sh_V, shN_e, shN_n, crI, crL, crC, crW, crV, crR_e, crR_n, crN_e, crN_n, ciR, ciL, ciD, ciN_e, ciN_n, rdI_e, rdI_n, rdC_i, rdC_o, rdW, rdU_e, rdU_n, rdLW, clI, clR, clC, clD, clW, clV, clN_e, clN_n, clL_e, clL_n]; done) | (simp (disch := omega) only [shI, shR, shL, shC, shD, shW, sh_V, shN_e, shN_n, crI, crL, crC, crW, crV, crR_e, crR_n, crN_e, crN_n, ciR, ciL, ciD, ciN_e, ciN_n, rdI_e, rdI_n, rdC_i, rdC_o, rdW, rdU_e, rdU_n, rdLW, clI, clR, clC, clD, clW, clV, clN_e, clN_n, clL_e, clL_n] <;> first | assumption | rfl | omega)) (by first | assumption | first | assumption | (simp (disch := omega) only [shI, shR, shL, shC, shD, shW, sh_V, shN_e, shN_n, crI, crL, crC, crW, crV, crR_e, crR_n, crN_e, crN_n, ciR, ciL, ciD, ciN_e, ciN_n, rdI_e, rdI_n, rdC_i, rdC_o, rdW, rdU_e, rdU_n, rdLW, clI, clR, clC, clD, clW, clV, clN_e, clN_n, clL_e, clL_n]; done) | (simp (disch := omega) only [shI, shR, shL, shC, shD, shW, sh_V, shN_e, shN_n, crI, crL, crC, crW, crV, crR_e, crR_n, crN_e, crN_n, ciR, ciL, ciD, ciN_e, ciN_n, rdI_e, rdI_n, rdC_i, rdC_o, rdW, rdU_e, rdU_n, rdLW, clI, clR, clC, clD, clW, clV, clN_e, clN_n, clL_e, clL_n] <;> first | assumption | rfl | omega)) ?_
                refine g_getI (kI := 8) rfl dX2_programs_55 fX2_178_3 (by first | assumption | first | assumption | (simp (disch := omega) only [shI, shR, shL, shC, shD, shW, sh_V, shN_e, shN_n, crI, crL, crC, crW, crV, crR_e, crR_n, crN_e, crN_n, ciR, ciL, ciD, ciN_e, ciN_n, rdI_e, rdI_n, rdC_i, rdC_o, rdW, rdU_e, rdU_n, rdLW, clI, clR, clC, clD, clW, clV, clN_e, clN_n, clL_e, clL_n]; done) | (simp (disch := omega) only [shI, shR, shL, shC, shD, shW, sh_V, shN_e, shN_n, crI, crL, crC, crW, crV, crR_e, crR_n, crN_e, crN_n, ciR, ciL, ciD, ciN_e, ciN_n, rdI_e, rdI_n, rdC_i, rdC_o, rdW, rdU_e, rdU_n, rdLW, clI, clR, clC, clD, clW, clV, clN_e, clN_n, clL_e, clL_n] <;> first | assumption | rfl | omega)) ?_
                try simp (disch := omega) only [rdI_e, rdI_n, rdC_i, rdC_o, rdW, rdR, rdU_e, rdU_n, rdLW, Int.add_zero, mP_p, mP_o, e8, e9]
                refine x_iconst dX2_programs_58 rfl ?_
                first | refine x_isubN dX2_programs_59 (by unfold i32; omega) ?_ | refine x_isub dX2_programs_59 ?_
                refine g_callIX (vs := [_, _, _]) (d' := d - 1) rfl (s_X2_number (by omega) hR (by omega)) dX2_programs_60 kX2_124 (by omega) (by decide) rfl (Nat.le_of_ble_eq_true rfl) (rcv_o (by first | assumption | first | assumption | (simp (disch := omega) only [shI, shR, shL, shC, shD, shW, sh_V, shN_e, shN_n, crI, crL, crC, crW, crV, crR_e, crR_n, crN_e, crN_n, ciR, ciL, ciD, ciN_e, ciN_n, rdI_e, rdI_n, rdC_i, rdC_o, rdW, rdU_e, rdU_n, rdLW, clI, clR, clC, clD, clW, clV, clN_e, clN_n, clL_e, clL_n]; done) | (simp (disch := omega) only [shI, shR, shL, shC, shD, shW, sh_V, shN_e, shN_n, crI, crL, crC, crW, crV, crR_e, crR_n, crN_e, crN_n, ciR, ciL, ciD, ciN_e, ciN_n, rdI_e, rdI_n, rdC_i, rdC_o, rdW, rdU_e, rdU_n, rdLW, clI, clR, clC, clD, clW, clV, clN_e, clN_n, clL_e, clL_n] <;> first | assumption | rfl | omega)) rfl) (fun x60 M60 h60 => ?_) (fun a60 E60 M60 h60 => ?_)
                · obtain ⟨z', hz, hM⟩ := h60
                  rw [numP_sk, hq] at hz
                  cases hz
                  subst hM
                  refine x_iast (by omega) dX2_programs_63 (by first | assumption | first | assumption | (simp (disch := omega) only [shI, shR, shL, shC, shD, shW, sh_V, shN_e, shN_n, crI, crL, crC, crW, crV, crR_e, crR_n, crN_e, crN_n, ciR, ciL, ciD, ciN_e, ciN_n, rdI_e, rdI_n, rdC_i, rdC_o, rdW, rdU_e, rdU_n, rdLW, clI, clR, clC, clD, clW, clV, clN_e, clN_n, clL_e, clL_n]; done) | (simp (disch := omega) only [shI, shR, shL, shC, shD, shW, sh_V, shN_e, shN_n, crI, crL, crC, crW, crV, crR_e, crR_n, crN_e, crN_n, ciR, ciL, ciD, ciN_e, ciN_n, rdI_e, rdI_n, rdC_i, rdC_o, rdW, rdU_e, rdU_n, rdLW, clI, clR, clC, clD, clW, clV, clN_e, clN_n, clL_e, clL_n] <;> first | assumption | rfl | omega)) (by omega) (by omega) ?_
                  try simp only [mP_w]
                  refine WP.mem (mP_c (by omega)) ?_
                  refine x_aload_n dX2_programs_64 rfl rfl ?_
                  refine g_getR (kI := 5) rfl dX2_programs_65 fX2_77_2 (by first | assumption | first | assumption | (simp (disch := omega) only [shI, shR, shL, shC, shD, shW, sh_V, shN_e, shN_n, crI, crL, crC, crW, crV, crR_e, crR_n, crN_e, crN_n, ciR, ciL, ciD, ciN_e, ciN_n, rdI_e, rdI_n, rdC_i, rdC_o, rdW, rdU_e, rdU_n, rdLW, clI, clR, clC, clD, clW, clV, clN_e, clN_n, clL_e, clL_n]; done) | (simp (disch := omega) only [shI, shR, shL, shC, shD, shW, sh_V, shN_e, shN_n, crI, crL, crC, crW, crV, crR_e, crR_n, crN_e, crN_n, ciR, ciL, ciD, ciN_e, ciN_n, rdI_e, rdI_n, rdC_i, rdC_o, rdW, rdU_e, rdU_n, rdLW, clI, clR, clC, clD, clW, clV, clN_e, clN_n, clL_e, clL_n] <;> first | assumption | rfl | omega)) (by first | assumption | first | assumption | (simp (disch := omega) only [shI, shR, shL, shC, shD, shW, sh_V, shN_e, shN_n, crI, crL, crC, crW, crV, crR_e, crR_n, crN_e, crN_n, ciR, ciL, ciD, ciN_e, ciN_n, rdI_e, rdI_n, rdC_i, rdC_o, rdW, rdU_e, rdU_n, rdLW, clI, clR, clC, clD, clW, clV, clN_e, clN_n, clL_e, clL_n]; done) | (simp (disch := omega) only [shI, shR, shL, shC, shD, shW, sh_V, shN_e, shN_n, crI, crL, crC, crW, crV, crR_e, crR_n, crN_e, crN_n, ciR, ciL, ciD, ciN_e, ciN_n, rdI_e, rdI_n, rdC_i, rdC_o, rdW, rdU_e, rdU_n, rdLW, clI, clR, clC, clD, clW, clV, clN_e, clN_n, clL_e, clL_n] <;> first | assumption | rfl | omega)) ?_
                  refine x_dup dX2_programs_68 rfl ?_
                  refine g_getI (kI := 9) rfl dX2_programs_69 fX2_202_3 (by first | assumption | first | assumption | (simp (disch := omega) only [shI, shR, shL, shC, shD, shW, sh_V, shN_e, shN_n, crI, crL, crC, crW, crV, crR_e, crR_n, crN_e, crN_n, ciR, ciL, ciD, ciN_e, ciN_n, rdI_e, rdI_n, rdC_i, rdC_o, rdW, rdU_e, rdU_n, rdLW, clI, clR, clC, clD, clW, clV, clN_e, clN_n, clL_e, clL_n]; done) | (simp (disch := omega) only [shI, shR, shL, shC, shD, shW, sh_V, shN_e, shN_n, crI, crL, crC, crW, crV, crR_e, crR_n, crN_e, crN_n, ciR, ciL, ciD, ciN_e, ciN_n, rdI_e, rdI_n, rdC_i, rdC_o, rdW, rdU_e, rdU_n, rdLW, clI, clR, clC, clD, clW, clV, clN_e, clN_n, clL_e, clL_n] <;> first | assumption | rfl | omega)) ?_
                  try simp (disch := omega) only [rdI_e, rdI_n, rdC_i, rdC_o, rdW, rdR, rdU_e, rdU_n, rdLW, Int.add_zero, mP_p, mP_o, e8, e9]
                  refine x_iconst dX2_programs_72 rfl ?_
                  first | refine x_iaddN dX2_programs_73 (by unfold i32; omega) ?_ | refine x_iadd dX2_programs_73 ?_
                  refine g_putI (kI := 9) rfl dX2_programs_74 fX2_202_3 (by first | assumption | first | assumption | (simp (disch := omega) only [shI, shR, shL, shC, shD, shW, sh_V, shN_e, shN_n, crI, crL, crC, crW, crV, crR_e, crR_n, crN_e, crN_n, ciR, ciL, ciD, ciN_e, ciN_n, rdI_e, rdI_n, rdC_i, rdC_o, rdW, rdU_e, rdU_n, rdLW, clI, clR, clC, clD, clW, clV, clN_e, clN_n, clL_e, clL_n]; done) | (simp (disch := omega) only [shI, shR, shL, shC, shD, shW, sh_V, shN_e, shN_n, crI, crL, crC, crW, crV, crR_e, crR_n, crN_e, crN_n, ciR, ciL, ciD, ciN_e, ciN_n, rdI_e, rdI_n, rdC_i, rdC_o, rdW, rdU_e, rdU_n, rdLW, clI, clR, clC, clD, clW, clV, clN_e, clN_n, clL_e, clL_n] <;> first | assumption | rfl | omega)) ?_
                  try simp only [mP_w]
                  refine x_goto (tgt := 8) dX2_programs_77 (by decide) ?_
                  refine WP.mem (mP_c (by omega)) (WP.mem (M1 := mP (wI M (up (up g (8 + 5) n z) 8 9 (n + 1))) y) rfl ?_)
                  exact ih _ (by omega) y (n + 1) _ _ fu rfl (by omega) (by omega) hr (hw.us (by omega)) (fun k k0 k1 => by
                    rw [ew]
                    by_cases q : k = n
                    · rw [us_e (by omega)]; omega
                    · rw [us_n (by omega)]; exact hk k k0 (by omega)) g1 f1
                · exact absurd h60.1 (by rw [numP_sk, hq]; exact fun h => nomatch h)
              · omega
      · rw [if_neg hc] at hr
        refine x_aload_n dX2_programs_8 rfl rfl ?_
        refine g_callI (vs := [_]) (d' := d - 1) rfl (s_X2_isFigure (by omega) hR (by omega)) dX2_programs_9 kX2_205 (by omega) (by decide) rfl (Nat.le_of_ble_eq_true rfl) (rcv_o (by first | assumption | first | assumption | (simp (disch := omega) only [shI, shR, shL, shC, shD, shW, sh_V, shN_e, shN_n, crI, crL, crC, crW, crV, crR_e, crR_n, crN_e, crN_n, ciR, ciL, ciD, ciN_e, ciN_n, rdI_e, rdI_n, rdC_i, rdC_o, rdW, rdU_e, rdU_n, rdLW, clI, clR, clC, clD, clW, clV, clN_e, clN_n, clL_e, clL_n]; done) | (simp (disch := omega) only [shI, shR, shL, shC, shD, shW, sh_V, shN_e, shN_n, crI, crL, crC, crW, crV, crR_e, crR_n, crN_e, crN_n, ciR, ciL, ciD, ciN_e, ciN_n, rdI_e, rdI_n, rdC_i, rdC_o, rdW, rdU_e, rdU_n, rdLW, clI, clR, clC, clD, clW, clV, clN_e, clN_n, clL_e, clL_n] <;> first | assumption | rfl | omega)) rfl) (fun x9 M9 h9 => ?_)
        obtain ⟨e9, f9⟩ := h9
        have f9' := f9.symm
        subst f9'
        subst e9
        refine x_if_eq (tgt := 80) dX2_programs_12 (by decide) (fun h12 => ?_) (fun h12 => ?_)
        · try simp only [vP_0, vP_1, vP_n0, vP_n1, Classical.not_not] at h12
          refine x_vreturn rfl dX2_programs_80 ?_
          exact hQ _ _ (BX.s hr (by omega) rfl hF hg)
        · try simp only [vP_0, vP_1, vP_n0, vP_n1, Classical.not_not] at h12
          exact absurd h12 hc
  refine x_aload_n dX2_programs_0 rfl rfl ?_
  refine g_getR (kI := 5) rfl dX2_programs_1 fX2_77_2 (by first | assumption | first | assumption | (simp (disch := omega) only [shI, shR, shL, shC, shD, shW, sh_V, shN_e, shN_n, crI, crL, crC, crW, crV, crR_e, crR_n, crN_e, crN_n, ciR, ciL, ciD, ciN_e, ciN_n, rdI_e, rdI_n, rdC_i, rdC_o, rdW, rdU_e, rdU_n, rdLW, clI, clR, clC, clD, clW, clV, clN_e, clN_n, clL_e, clL_n]; done) | (simp (disch := omega) only [shI, shR, shL, shC, shD, shW, sh_V, shN_e, shN_n, crI, crL, crC, crW, crV, crR_e, crR_n, crN_e, crN_n, ciR, ciL, ciD, ciN_e, ciN_n, rdI_e, rdI_n, rdC_i, rdC_o, rdW, rdU_e, rdU_n, rdLW, clI, clR, clC, clD, clW, clV, clN_e, clN_n, clL_e, clL_n] <;> first | assumption | rfl | omega)) (by first | assumption | first | assumption | (simp (disch := omega) only [shI, shR, shL, shC, shD, shW, sh_V, shN_e, shN_n, crI, crL, crC, crW, crV, crR_e, crR_n, crN_e, crN_n, ciR, ciL, ciD, ciN_e, ciN_n, rdI_e, rdI_n, rdC_i, rdC_o, rdW, rdU_e, rdU_n, rdLW, clI, clR, clC, clD, clW, clV, clN_e, clN_n, clL_e, clL_n]; done) | (simp (disch := omega) only [shI, shR, shL, shC, shD, shW, sh_V, shN_e, shN_n, crI, crL, crC, crW, crV, crR_e, crR_n, crN_e, crN_n, ciR, ciL, ciD, ciN_e, ciN_n, rdI_e, rdI_n, rdC_i, rdC_o, rdW, rdU_e, rdU_n, rdLW, clI, clR, clC, clD, clW, clV, clN_e, clN_n, clL_e, clL_n] <;> first | assumption | rfl | omega)) ?_
  refine x_iconst dX2_programs_4 rfl ?_
  refine g_putI (kI := 9) rfl dX2_programs_5 fX2_202_3 (by first | assumption | first | assumption | (simp (disch := omega) only [shI, shR, shL, shC, shD, shW, sh_V, shN_e, shN_n, crI, crL, crC, crW, crV, crR_e, crR_n, crN_e, crN_n, ciR, ciL, ciD, ciN_e, ciN_n, rdI_e, rdI_n, rdC_i, rdC_o, rdW, rdU_e, rdU_n, rdLW, clI, clR, clC, clD, clW, clV, clN_e, clN_n, clL_e, clL_n]; done) | (simp (disch := omega) only [shI, shR, shL, shC, shD, shW, sh_V, shN_e, shN_n, crI, crL, crC, crW, crV, crR_e, crR_n, crN_e, crN_n, ciR, ciL, ciD, ciN_e, ciN_n, rdI_e, rdI_n, rdC_i, rdC_o, rdW, rdU_e, rdU_n, rdLW, clI, clR, clC, clD, clW, clV, clN_e, clN_n, clL_e, clL_n] <;> first | assumption | rfl | omega)) ?_
  try simp only [mP_w]
  refine WP.mem (mP_c (by omega)) (WP.mem (M1 := mP (wI M (up (mci M) 8 9 0)) p) rfl ?_)
  exact lp _ p 0 (up (mci M) 8 9 0) u 12 rfl hp (by omega) hR0.symm hu (fun k a b => by omega) (hB.ch (q := 0) hu (ChO.mny (p := 8) (x := 0))) (Dr.rfl.I (a := 8) (i := 9) (v := 0) (by omega))
theorem s_X2_fills (hd : 18 ≤ d) (hX : BxH M tp e) (hp : 0 ≤ p ∧ p ≤ e) (hB : RelB (mci M) 8 u N) (hu : okB u) : CS G d mX2_fills [dR 2] (mP M p) (BX M tp e N 0 0 (rCel tp e 10 p 0 u)) := by
  obtain ⟨⟨⟨⟨r0, r3, r4, r5, r6, r7, r53⟩, ⟨c0, c1, c2, c3, c4, c5, c6⟩, x1, x2, x3⟩, -, -, he2, -, hBt⟩, hs8, -⟩ := id hX
  obtain ⟨p0, p1, ⟨d0, d1, d2, d3, d4, d5, d6, d7⟩, ⟨t1, t2, t3, t4, t5, t6⟩, p5, p6, p7⟩ := id hs8
  generalize hR0 : rCel tp e 10 p 0 u = R0
  refine CS.mkQ (by decide) (Nat.le_of_ble_eq_true rfl) fun Q hQ => ?_
  have fin : ∀ (q n : Int) (M' : Mem), Q rN (mP M' q) → WP G d mX2_fills 4 [some (dR 2), some (dI n), some (dI 0)] [] (mP M' q) Q := by
    intro q n M' h
    refine x_iload_n dX2_fills_4 rfl rfl ?_
    refine x_if_eq (tgt := 48) dX2_fills_5 (by decide) (fun h5 => ?_) (fun h5 => ?_)
    · refine x_vreturn rfl dX2_fills_48 ?_
      exact h
    · simp at h5
  have lp : ∀ (t : Nat) (q n : Int) (g : Ci) (w : Vw) (fu : Nat), ((fu : Int)).toNat = t → (0 ≤ q ∧ q ≤ e) → ((fu : Int) + n = 10 ∧ 0 ≤ n ∧ n ≤ 8) → (R0 = rCel tp e fu q n w) → (okB w) → (RelB g 8 w N) → (Dr M (wI M g) 0 0) → WP G d mX2_fills 4 [some (dR 2), some (dI n), some (dI 1)] [] (mP (wI M g) q) Q := by
    intro t
    induction t using Nat.strongRecOn with
    | _ t ih =>
      intro q n g w fu ht h0 hf hr hw hg hF
      obtain ⟨fu, rfl⟩ : ∃ f2, fu = f2 + 1 := ⟨fu - 1, by omega⟩
      have hR := (hX.dr hF).1
      have hs := skB_r (tp := tp) h0.2
      rw [rCel_s] at hr
      by_cases hn : n = 8
      · have er : R0 = .inl (skB tp e q) := by
          rw [hr]
          cases numP tp e q 0 3 with
          | none => rfl
          | some y => exact if_neg (by omega)
        refine x_iload_n dX2_fills_4 rfl rfl ?_
        refine x_if_eq (tgt := 48) dX2_fills_5 (by decide) (fun h5 => ?_) (fun h5 => ?_)
        · simp at h5
        · refine x_iload_n dX2_fills_8 rfl rfl ?_
          refine x_bipush dX2_fills_9 rfl ?_
          refine x_icmp_ne (tgt := 22) dX2_fills_11 (by decide) (fun h11 => ?_) (fun h11 => ?_)
          · omega
          · refine x_aload_n dX2_fills_14 rfl rfl ?_
            refine x_aload_n dX2_fills_15 rfl rfl ?_
            refine g_callI (vs := [_]) (d' := d - 1) rfl (s_X2_here (by omega) hR (by omega)) dX2_fills_16 kX2_117 (by omega) (by decide) rfl (Nat.le_of_ble_eq_true rfl) (rcv_o (by first | assumption | first | assumption | (simp (disch := omega) only [shI, shR, shL, shC, shD, shW, sh_V, shN_e, shN_n, crI, crL, crC, crW, crV, crR_e, crR_n, crN_e, crN_n, ciR, ciL, ciD, ciN_e, ciN_n, rdI_e, rdI_n, rdC_i, rdC_o, rdW, rdU_e, rdU_n, rdLW, clI, clR, clC, clD, clW, clV, clN_e, clN_n, clL_e, clL_n]; done) | (simp (disch := omega) only [shI, shR, shL, shC, shD, shW, sh_V, shN_e, shN_n, crI, crL, crC, crW, crV, crR_e, crR_n, crN_e, crN_n, ciR, ciL, ciD, ciN_e, ciN_n, rdI_e, rdI_n, rdC_i, rdC_o, rdW, rdU_e, rdU_n, rdLW, clI, clR, clC, clD, clW, clV, clN_e, clN_n, clL_e, clL_n] <;> first | assumption | rfl | omega)) rfl) (fun x16 M16 h16 => ?_)
            obtain ⟨e16, f16⟩ := h16
            have f16' := f16.symm
            subst f16'
            subst e16
            refine g_callNX (vs := [_, _]) (d' := d - 1) rfl (s_X2_fail (by omega) hR) dX2_fills_19 kX2_113 (by omega) (by decide) rfl (Nat.le_of_ble_eq_true rfl) (rcv_o (by first | assumption | first | assumption | (simp (disch := omega) only [shI, shR, shL, shC, shD, shW, sh_V, shN_e, shN_n, crI, crL, crC, crW, crV, crR_e, crR_n, crN_e, crN_n, ciR, ciL, ciD, ciN_e, ciN_n, rdI_e, rdI_n, rdC_i, rdC_o, rdW, rdU_e, rdU_n, rdLW, clI, clR, clC, clD, clW, clV, clN_e, clN_n, clL_e, clL_n]; done) | (simp (disch := omega) only [shI, shR, shL, shC, shD, shW, sh_V, shN_e, shN_n, crI, crL, crC, crW, crV, crR_e, crR_n, crN_e, crN_n, ciR, ciL, ciD, ciN_e, ciN_n, rdI_e, rdI_n, rdC_i, rdC_o, rdW, rdU_e, rdU_n, rdLW, clI, clR, clC, clD, clW, clV, clN_e, clN_n, clL_e, clL_n] <;> first | assumption | rfl | omega)) rfl) (fun M19 h19 => ?_) (fun a19 E19 M19 h19 => ?_)
            · exact False.elim (by assumption)
            · exact th_nil rfl (hQ _ _ (BX.f er (h19.d hF (Nat.le_refl _) (Nat.le_refl _) rfl)))
      · rcases hq : numP tp e q 0 3 with _ | ⟨y, z⟩
        · rw [hq] at hr
          dsimp only at hr
          refine x_iload_n dX2_fills_4 rfl rfl ?_
          refine x_if_eq (tgt := 48) dX2_fills_5 (by decide) (fun h5 => ?_) (fun h5 => ?_)
          · simp at h5
          · refine x_iload_n dX2_fills_8 rfl rfl ?_
            refine x_bipush dX2_fills_9 rfl ?_
            refine x_icmp_ne (tgt := 22) dX2_fills_11 (by decide) (fun h11 => ?_) (fun h11 => ?_)
            · refine x_aload_n dX2_fills_22 rfl rfl ?_
              refine g_getR (kI := 5) rfl dX2_fills_23 fX2_77_2 (by first | assumption | first | assumption | (simp (disch := omega) only [shI, shR, shL, shC, shD, shW, sh_V, shN_e, shN_n, crI, crL, crC, crW, crV, crR_e, crR_n, crN_e, crN_n, ciR, ciL, ciD, ciN_e, ciN_n, rdI_e, rdI_n, rdC_i, rdC_o, rdW, rdU_e, rdU_n, rdLW, clI, clR, clC, clD, clW, clV, clN_e, clN_n, clL_e, clL_n]; done) | (simp (disch := omega) only [shI, shR, shL, shC, shD, shW, sh_V, shN_e, shN_n, crI, crL, crC, crW, crV, crR_e, crR_n, crN_e, crN_n, ciR, ciL, ciD, ciN_e, ciN_n, rdI_e, rdI_n, rdC_i, rdC_o, rdW, rdU_e, rdU_n, rdLW, clI, clR, clC, clD, clW, clV, clN_e, clN_n, clL_e, clL_n] <;> first | assumption | rfl | omega)) (by first | assumption | first | assumption | (simp (disch := omega) only [shI, shR, shL, shC, shD, shW, sh_V, shN_e, shN_n, crI, crL, crC, crW, crV, crR_e, crR_n, crN_e, crN_n, ciR, ciL, ciD, ciN_e, ciN_n, rdI_e, rdI_n, rdC_i, rdC_o, rdW, rdU_e, rdU_n, rdLW, clI, clR, clC, clD, clW, clV, clN_e, clN_n, clL_e, clL_n]; done) | (simp (disch := omega) only [shI, shR, shL, shC, shD, shW, sh_V, shN_e, shN_n, crI, crL, crC, crW, crV, crR_e, crR_n, crN_e, crN_n, ciR, ciL, ciD, ciN_e, ciN_n, rdI_e, rdI_n, rdC_i, rdC_o, rdW, rdU_e, rdU_n, rdLW, clI, clR, clC, clD, clW, clV, clN_e, clN_n, clL_e, clL_n] <;> first | assumption | rfl | omega)) ?_
              refine g_getR (kI := 5) rfl dX2_fills_26 fX2_212_3 (by first | assumption | first | assumption | (simp (disch := omega) only [shI, shR, shL, shC, shD, shW, sh_V, shN_e, shN_n, crI, crL, crC, crW, crV, crR_e, crR_n, crN_e, crN_n, ciR, ciL, ciD, ciN_e, ciN_n, rdI_e, rdI_n, rdC_i, rdC_o, rdW, rdU_e, rdU_n, rdLW, clI, clR, clC, clD, clW, clV, clN_e, clN_n, clL_e, clL_n]; done) | (simp (disch := omega) only [shI, shR, shL, shC, shD, shW, sh_V, shN_e, shN_n, crI, crL, crC, crW, crV, crR_e, crR_n, crN_e, crN_n, ciR, ciL, ciD, ciN_e, ciN_n, rdI_e, rdI_n, rdC_i, rdC_o, rdW, rdU_e, rdU_n, rdLW, clI, clR, clC, clD, clW, clV, clN_e, clN_n, clL_e, clL_n] <;> first | assumption | rfl | omega)) (by first | assumption | first | assumption | (simp (disch := omega) only [shI, shR, shL, shC, shD, shW, sh_V, shN_e, shN_n, crI, crL, crC, crW, crV, crR_e, crR_n, crN_e, crN_n, ciR, ciL, ciD, ciN_e, ciN_n, rdI_e, rdI_n, rdC_i, rdC_o, rdW, rdU_e, rdU_n, rdLW, clI, clR, clC, clD, clW, clV, clN_e, clN_n, clL_e, clL_n]; done) | (simp (disch := omega) only [shI, shR, shL, shC, shD, shW, sh_V, shN_e, shN_n, crI, crL, crC, crW, crV, crR_e, crR_n, crN_e, crN_n, ciR, ciL, ciD, ciN_e, ciN_n, rdI_e, rdI_n, rdC_i, rdC_o, rdW, rdU_e, rdU_n, rdLW, clI, clR, clC, clD, clW, clV, clN_e, clN_n, clL_e, clL_n] <;> first | assumption | rfl | omega)) ?_
              refine x_iload_n dX2_fills_29 rfl rfl ?_
              refine x_aload_n dX2_fills_30 rfl rfl ?_
              refine x_iconst dX2_fills_31 rfl ?_
              refine x_iconst dX2_fills_32 rfl ?_
              refine g_callIX (vs := [_, _, _]) (d' := d - 1) rfl (s_X2_number (by omega) hR (by omega)) dX2_fills_33 kX2_124 (by omega) (by decide) rfl (Nat.le_of_ble_eq_true rfl) (rcv_o (by first | assumption | first | assumption | (simp (disch := omega) only [shI, shR, shL, shC, shD, shW, sh_V, shN_e, shN_n, crI, crL, crC, crW, crV, crR_e, crR_n, crN_e, crN_n, ciR, ciL, ciD, ciN_e, ciN_n, rdI_e, rdI_n, rdC_i, rdC_o, rdW, rdU_e, rdU_n, rdLW, clI, clR, clC, clD, clW, clV, clN_e, clN_n, clL_e, clL_n]; done) | (simp (disch := omega) only [shI, shR, shL, shC, shD, shW, sh_V, shN_e, shN_n, crI, crL, crC, crW, crV, crR_e, crR_n, crN_e, crN_n, ciR, ciL, ciD, ciN_e, ciN_n, rdI_e, rdI_n, rdC_i, rdC_o, rdW, rdU_e, rdU_n, rdLW, clI, clR, clC, clD, clW, clV, clN_e, clN_n, clL_e, clL_n] <;> first | assumption | rfl | omega)) rfl) (fun x33 M33 h33 => ?_) (fun a33 E33 M33 h33 => ?_)
              · obtain ⟨z, hz, -⟩ := h33
                rw [hq] at hz
                cases hz
                skip
              · exact th_nil rfl (hQ _ _ (BX.f hr (h33.2.d hF (Nat.le_refl _) (Nat.le_refl _) rfl)))
            · omega
        · rw [hq] at hr
          dsimp only at hr
          rw [if_pos (show n < 8 by omega)] at hr
          have hnr := numP_r h0.2 hq
          have hs3 := skB_r (tp := tp) hnr.2.1
          have g1 : RelB (up g (8 + 6) n z) 8 (us w (22 + n) z) N := hg.ch (q := 0) hw (ChO.cel (p := 8) (c := n) (x := z) ⟨by omega, by omega⟩)
          have f1 : Dr M (wI M (up g (8 + 6) n z)) 0 0 := hF.I (a := 8 + 6) (i := n) (v := z) (by omega)
          have hR1 := (hX.dr f1).1
          by_cases hc : chP tp e 48 57 (skB tp e y)
          · rw [if_pos hc] at hr
            refine x_iload_n dX2_fills_4 rfl rfl ?_
            refine x_if_eq (tgt := 48) dX2_fills_5 (by decide) (fun h5 => ?_) (fun h5 => ?_)
            · simp at h5
            · refine x_iload_n dX2_fills_8 rfl rfl ?_
              refine x_bipush dX2_fills_9 rfl ?_
              refine x_icmp_ne (tgt := 22) dX2_fills_11 (by decide) (fun h11 => ?_) (fun h11 => ?_)
              · refine x_aload_n dX2_fills_22 rfl rfl ?_
                refine g_getR (kI := 5) rfl dX2_fills_23 fX2_77_2 (by first | assumption | first | assumption | (simp (disch := omega) only [shI, shR, shL, shC, shD, shW, sh_V, shN_e, shN_n, crI, crL, crC, crW, crV, crR_e, crR_n, crN_e, crN_n, ciR, ciL, ciD, ciN_e, ciN_n, rdI_e, rdI_n, rdC_i, rdC_o, rdW, rdU_e, rdU_n, rdLW, clI, clR, clC, clD, clW, clV, clN_e, clN_n, clL_e, clL_n]; done) | (simp (disch := omega) only [shI, shR, shL, shC, shD, shW, sh_V, shN_e, shN_n, crI, crL, crC, crW, crV, crR_e, crR_n, crN_e, crN_n, ciR, ciL, ciD, ciN_e, ciN_n, rdI_e, rdI_n, rdC_i, rdC_o, rdW, rdU_e, rdU_n, rdLW, clI, clR, clC, clD, clW, clV, clN_e, clN_n, clL_e, clL_n] <;> first | assumption | rfl | omega)) (by first | assumption | first | assumption | (simp (disch := omega) only [shI, shR, shL, shC, shD, shW, sh_V, shN_e, shN_n, crI, crL, crC, crW, crV, crR_e, crR_n, crN_e, crN_n, ciR, ciL, ciD, ciN_e, ciN_n, rdI_e, rdI_n, rdC_i, rdC_o, rdW, rdU_e, rdU_n, rdLW, clI, clR, clC, clD, clW, clV, clN_e, clN_n, clL_e, clL_n]; done) | (simp (disch := omega) only [shI, shR, shL, shC, shD, shW, sh_V, shN_e, shN_n, crI, crL, crC, crW, crV, crR_e, crR_n, crN_e, crN_n, ciR, ciL, ciD, ciN_e, ciN_n, rdI_e, rdI_n, rdC_i, rdC_o, rdW, rdU_e, rdU_n, rdLW, clI, clR, clC, clD, clW, clV, clN_e, clN_n, clL_e, clL_n] <;> first | assumption | rfl | omega)) ?_
                refine g_getR (kI := 5) rfl dX2_fills_26 fX2_212_3 (by first | assumption | first | assumption | (simp (disch := omega) only [shI, shR, shL, shC, shD, shW, sh_V, shN_e, shN_n, crI, crL, crC, crW, crV, crR_e, crR_n, crN_e, crN_n, ciR, ciL, ciD, ciN_e, ciN_n, rdI_e, rdI_n, rdC_i, rdC_o, rdW, rdU_e, rdU_n, rdLW, clI, clR, clC, clD, clW, clV, clN_e, clN_n, clL_e, clL_n]; done) | (simp (disch := omega) only [shI, shR, shL, shC, shD, shW, sh_V, shN_e, shN_n, crI, crL, crC, crW, crV, crR_e, crR_n, crN_e, crN_n, ciR, ciL, ciD, ciN_e, ciN_n, rdI_e, rdI_n, rdC_i, rdC_o, rdW, rdU_e, rdU_n, rdLW, clI, clR, clC, clD, clW, clV, clN_e, clN_n, clL_e, clL_n] <;> first | assumption | rfl | omega)) (by first | assumption | first | assumption | (simp (disch := omega) only [shI, shR, shL, shC, shD, shW, sh_V, shN_e, shN_n, crI, crL, crC, crW, crV, crR_e, crR_n, crN_e, crN_n, ciR, ciL, ciD, ciN_e, ciN_n, rdI_e, rdI_n, rdC_i, rdC_o, rdW, rdU_e, rdU_n, rdLW, clI, clR, clC, clD, clW, clV, clN_e, clN_n, clL_e, clL_n]; done) | (simp (disch := omega) only [shI, shR, shL, shC, shD, shW, sh_V, shN_e, shN_n, crI, crL, crC, crW, crV, crR_e, crR_n, crN_e, crN_n, ciR, ciL, ciD, ciN_e, ciN_n, rdI_e, rdI_n, rdC_i, rdC_o, rdW, rdU_e, rdU_n, rdLW, clI, clR, clC, clD, clW, clV, clN_e, clN_n, clL_e, clL_n] <;> first | assumption | rfl | omega)) ?_
                refine x_iload_n dX2_fills_29 rfl rfl ?_
                refine x_aload_n dX2_fills_30 rfl rfl ?_
                refine x_iconst dX2_fills_31 rfl ?_
                refine x_iconst dX2_fills_32 rfl ?_
                refine g_callIX (vs := [_, _, _]) (d' := d - 1) rfl (s_X2_number (by omega) hR (by omega)) dX2_fills_33 kX2_124 (by omega) (by decide) rfl (Nat.le_of_ble_eq_true rfl) (rcv_o (by first | assumption | first | assumption | (simp (disch := omega) only [shI, shR, shL, shC, shD, shW, sh_V, shN_e, shN_n, crI, crL, crC, crW, crV, crR_e, crR_n, crN_e, crN_n, ciR, ciL, ciD, ciN_e, ciN_n, rdI_e, rdI_n, rdC_i, rdC_o, rdW, rdU_e, rdU_n, rdLW, clI, clR, clC, clD, clW, clV, clN_e, clN_n, clL_e, clL_n]; done) | (simp (disch := omega) only [shI, shR, shL, shC, shD, shW, sh_V, shN_e, shN_n, crI, crL, crC, crW, crV, crR_e, crR_n, crN_e, crN_n, ciR, ciL, ciD, ciN_e, ciN_n, rdI_e, rdI_n, rdC_i, rdC_o, rdW, rdU_e, rdU_n, rdLW, clI, clR, clC, clD, clW, clV, clN_e, clN_n, clL_e, clL_n] <;> first | assumption | rfl | omega)) rfl) (fun x33 M33 h33 => ?_) (fun a33 E33 M33 h33 => ?_)
                · obtain ⟨z', hz, hM⟩ := h33
                  rw [hq] at hz
                  cases hz
                  subst hM
                  refine x_iast (by omega) dX2_fills_36 (by first | assumption | first | assumption | (simp (disch := omega) only [shI, shR, shL, shC, shD, shW, sh_V, shN_e, shN_n, crI, crL, crC, crW, crV, crR_e, crR_n, crN_e, crN_n, ciR, ciL, ciD, ciN_e, ciN_n, rdI_e, rdI_n, rdC_i, rdC_o, rdW, rdU_e, rdU_n, rdLW, clI, clR, clC, clD, clW, clV, clN_e, clN_n, clL_e, clL_n]; done) | (simp (disch := omega) only [shI, shR, shL, shC, shD, shW, sh_V, shN_e, shN_n, crI, crL, crC, crW, crV, crR_e, crR_n, crN_e, crN_n, ciR, ciL, ciD, ciN_e, ciN_n, rdI_e, rdI_n, rdC_i, rdC_o, rdW, rdU_e, rdU_n, rdLW, clI, clR, clC, clD, clW, clV, clN_e, clN_n, clL_e, clL_n] <;> first | assumption | rfl | omega)) (by omega) (by omega) ?_
                  try simp only [mP_w]
                  refine WP.mem (mP_c (by omega)) (WP.mem (M1 := mP (wI M (up g (8 + 6) n z)) y) rfl ?_)
                  first | refine x_iincN (L' := [some _, some _, some _]) dX2_fills_37 rfl (by decide) (by unfold i32; omega) rfl ?_ | refine x_iinc (L' := [some _, some _, some _]) dX2_fills_37 rfl (by decide) rfl ?_
                  refine x_aload_n dX2_fills_40 rfl rfl ?_
                  refine g_callI (vs := [_]) (d' := d - 1) rfl (s_X2_isFigure (by omega) hR1 (by omega)) dX2_fills_41 kX2_205 (by omega) (by decide) rfl (Nat.le_of_ble_eq_true rfl) (rcv_o (by first | assumption | first | assumption | (simp (disch := omega) only [shI, shR, shL, shC, shD, shW, sh_V, shN_e, shN_n, crI, crL, crC, crW, crV, crR_e, crR_n, crN_e, crN_n, ciR, ciL, ciD, ciN_e, ciN_n, rdI_e, rdI_n, rdC_i, rdC_o, rdW, rdU_e, rdU_n, rdLW, clI, clR, clC, clD, clW, clV, clN_e, clN_n, clL_e, clL_n]; done) | (simp (disch := omega) only [shI, shR, shL, shC, shD, shW, sh_V, shN_e, shN_n, crI, crL, crC, crW, crV, crR_e, crR_n, crN_e, crN_n, ciR, ciL, ciD, ciN_e, ciN_n, rdI_e, rdI_n, rdC_i, rdC_o, rdW, rdU_e, rdU_n, rdLW, clI, clR, clC, clD, clW, clV, clN_e, clN_n, clL_e, clL_n] <;> first | assumption | rfl | omega)) rfl) (fun x41 M41 h41 => ?_)
                  obtain ⟨e41, f41⟩ := h41
                  rw [vP_t hc] at e41
                  have f41' := f41.symm
                  subst f41'
                  subst e41
                  refine x_istore_n (L' := [some _, some _, some _]) dX2_fills_44 rfl (by decide) rfl ?_
                  refine x_goto (tgt := 4) dX2_fills_45 (by decide) ?_
                  exact ih _ (by omega) (skB tp e y) (n + 1) _ _ fu rfl (by omega) (by omega) hr (hw.us (by omega)) g1 f1
                · exact absurd h33.1 (by rw [hq]; exact fun h => nomatch h)
              · omega
          · rw [if_neg hc] at hr
            refine x_iload_n dX2_fills_4 rfl rfl ?_
            refine x_if_eq (tgt := 48) dX2_fills_5 (by decide) (fun h5 => ?_) (fun h5 => ?_)
            · simp at h5
            · refine x_iload_n dX2_fills_8 rfl rfl ?_
              refine x_bipush dX2_fills_9 rfl ?_
              refine x_icmp_ne (tgt := 22) dX2_fills_11 (by decide) (fun h11 => ?_) (fun h11 => ?_)
              · refine x_aload_n dX2_fills_22 rfl rfl ?_
                refine g_getR (kI := 5) rfl dX2_fills_23 fX2_77_2 (by first | assumption | first | assumption | (simp (disch := omega) only [shI, shR, shL, shC, shD, shW, sh_V, shN_e, shN_n, crI, crL, crC, crW, crV, crR_e, crR_n, crN_e, crN_n, ciR, ciL, ciD, ciN_e, ciN_n, rdI_e, rdI_n, rdC_i, rdC_o, rdW, rdU_e, rdU_n, rdLW, clI, clR, clC, clD, clW, clV, clN_e, clN_n, clL_e, clL_n]; done) | (simp (disch := omega) only [shI, shR, shL, shC, shD, shW, sh_V, shN_e, shN_n, crI, crL, crC, crW, crV, crR_e, crR_n, crN_e, crN_n, ciR, ciL, ciD, ciN_e, ciN_n, rdI_e, rdI_n, rdC_i, rdC_o, rdW, rdU_e, rdU_n, rdLW, clI, clR, clC, clD, clW, clV, clN_e, clN_n, clL_e, clL_n] <;> first | assumption | rfl | omega)) (by first | assumption | first | assumption | (simp (disch := omega) only [shI, shR, shL, shC, shD, shW, sh_V, shN_e, shN_n, crI, crL, crC, crW, crV, crR_e, crR_n, crN_e, crN_n, ciR, ciL, ciD, ciN_e, ciN_n, rdI_e, rdI_n, rdC_i, rdC_o, rdW, rdU_e, rdU_n, rdLW, clI, clR, clC, clD, clW, clV, clN_e, clN_n, clL_e, clL_n]; done) | (simp (disch := omega) only [shI, shR, shL, shC, shD, shW, sh_V, shN_e, shN_n, crI, crL, crC, crW, crV, crR_e, crR_n, crN_e, crN_n, ciR, ciL, ciD, ciN_e, ciN_n, rdI_e, rdI_n, rdC_i, rdC_o, rdW, rdU_e, rdU_n, rdLW, clI, clR, clC, clD, clW, clV, clN_e, clN_n, clL_e, clL_n] <;> first | assumption | rfl | omega)) ?_
                refine g_getR (kI := 5) rfl dX2_fills_26 fX2_212_3 (by first | assumption | first | assumption | (simp (disch := omega) only [shI, shR, shL, shC, shD, shW, sh_V, shN_e, shN_n, crI, crL, crC, crW, crV, crR_e, crR_n, crN_e, crN_n, ciR, ciL, ciD, ciN_e, ciN_n, rdI_e, rdI_n, rdC_i, rdC_o, rdW, rdU_e, rdU_n, rdLW, clI, clR, clC, clD, clW, clV, clN_e, clN_n, clL_e, clL_n]; done) | (simp (disch := omega) only [shI, shR, shL, shC, shD, shW, sh_V, shN_e, shN_n, crI, crL, crC, crW, crV, crR_e, crR_n, crN_e, crN_n, ciR, ciL, ciD, ciN_e, ciN_n, rdI_e, rdI_n, rdC_i, rdC_o, rdW, rdU_e, rdU_n, rdLW, clI, clR, clC, clD, clW, clV, clN_e, clN_n, clL_e, clL_n] <;> first | assumption | rfl | omega)) (by first | assumption | first | assumption | (simp (disch := omega) only [shI, shR, shL, shC, shD, shW, sh_V, shN_e, shN_n, crI, crL, crC, crW, crV, crR_e, crR_n, crN_e, crN_n, ciR, ciL, ciD, ciN_e, ciN_n, rdI_e, rdI_n, rdC_i, rdC_o, rdW, rdU_e, rdU_n, rdLW, clI, clR, clC, clD, clW, clV, clN_e, clN_n, clL_e, clL_n]; done) | (simp (disch := omega) only [shI, shR, shL, shC, shD, shW, sh_V, shN_e, shN_n, crI, crL, crC, crW, crV, crR_e, crR_n, crN_e, crN_n, ciR, ciL, ciD, ciN_e, ciN_n, rdI_e, rdI_n, rdC_i, rdC_o, rdW, rdU_e, rdU_n, rdLW, clI, clR, clC, clD, clW, clV, clN_e, clN_n, clL_e, clL_n] <;> first | assumption | rfl | omega)) ?_
                refine x_iload_n dX2_fills_29 rfl rfl ?_
                refine x_aload_n dX2_fills_30 rfl rfl ?_
                refine x_iconst dX2_fills_31 rfl ?_
                refine x_iconst dX2_fills_32 rfl ?_
                refine g_callIX (vs := [_, _, _]) (d' := d - 1) rfl (s_X2_number (by omega) hR (by omega)) dX2_fills_33 kX2_124 (by omega) (by decide) rfl (Nat.le_of_ble_eq_true rfl) (rcv_o (by first | assumption | first | assumption | (simp (disch := omega) only [shI, shR, shL, shC, shD, shW, sh_V, shN_e, shN_n, crI, crL, crC, crW, crV, crR_e, crR_n, crN_e, crN_n, ciR, ciL, ciD, ciN_e, ciN_n, rdI_e, rdI_n, rdC_i, rdC_o, rdW, rdU_e, rdU_n, rdLW, clI, clR, clC, clD, clW, clV, clN_e, clN_n, clL_e, clL_n]; done) | (simp (disch := omega) only [shI, shR, shL, shC, shD, shW, sh_V, shN_e, shN_n, crI, crL, crC, crW, crV, crR_e, crR_n, crN_e, crN_n, ciR, ciL, ciD, ciN_e, ciN_n, rdI_e, rdI_n, rdC_i, rdC_o, rdW, rdU_e, rdU_n, rdLW, clI, clR, clC, clD, clW, clV, clN_e, clN_n, clL_e, clL_n] <;> first | assumption | rfl | omega)) rfl) (fun x33 M33 h33 => ?_) (fun a33 E33 M33 h33 => ?_)
                · obtain ⟨z', hz, hM⟩ := h33
                  rw [hq] at hz
                  cases hz
                  subst hM
                  refine x_iast (by omega) dX2_fills_36 (by first | assumption | first | assumption | (simp (disch := omega) only [shI, shR, shL, shC, shD, shW, sh_V, shN_e, shN_n, crI, crL, crC, crW, crV, crR_e, crR_n, crN_e, crN_n, ciR, ciL, ciD, ciN_e, ciN_n, rdI_e, rdI_n, rdC_i, rdC_o, rdW, rdU_e, rdU_n, rdLW, clI, clR, clC, clD, clW, clV, clN_e, clN_n, clL_e, clL_n]; done) | (simp (disch := omega) only [shI, shR, shL, shC, shD, shW, sh_V, shN_e, shN_n, crI, crL, crC, crW, crV, crR_e, crR_n, crN_e, crN_n, ciR, ciL, ciD, ciN_e, ciN_n, rdI_e, rdI_n, rdC_i, rdC_o, rdW, rdU_e, rdU_n, rdLW, clI, clR, clC, clD, clW, clV, clN_e, clN_n, clL_e, clL_n] <;> first | assumption | rfl | omega)) (by omega) (by omega) ?_
                  try simp only [mP_w]
                  refine WP.mem (mP_c (by omega)) (WP.mem (M1 := mP (wI M (up g (8 + 6) n z)) y) rfl ?_)
                  first | refine x_iincN (L' := [some _, some _, some _]) dX2_fills_37 rfl (by decide) (by unfold i32; omega) rfl ?_ | refine x_iinc (L' := [some _, some _, some _]) dX2_fills_37 rfl (by decide) rfl ?_
                  refine x_aload_n dX2_fills_40 rfl rfl ?_
                  refine g_callI (vs := [_]) (d' := d - 1) rfl (s_X2_isFigure (by omega) hR1 (by omega)) dX2_fills_41 kX2_205 (by omega) (by decide) rfl (Nat.le_of_ble_eq_true rfl) (rcv_o (by first | assumption | first | assumption | (simp (disch := omega) only [shI, shR, shL, shC, shD, shW, sh_V, shN_e, shN_n, crI, crL, crC, crW, crV, crR_e, crR_n, crN_e, crN_n, ciR, ciL, ciD, ciN_e, ciN_n, rdI_e, rdI_n, rdC_i, rdC_o, rdW, rdU_e, rdU_n, rdLW, clI, clR, clC, clD, clW, clV, clN_e, clN_n, clL_e, clL_n]; done) | (simp (disch := omega) only [shI, shR, shL, shC, shD, shW, sh_V, shN_e, shN_n, crI, crL, crC, crW, crV, crR_e, crR_n, crN_e, crN_n, ciR, ciL, ciD, ciN_e, ciN_n, rdI_e, rdI_n, rdC_i, rdC_o, rdW, rdU_e, rdU_n, rdLW, clI, clR, clC, clD, clW, clV, clN_e, clN_n, clL_e, clL_n] <;> first | assumption | rfl | omega)) rfl) (fun x41 M41 h41 => ?_)
                  obtain ⟨e41, f41⟩ := h41
                  rw [vP_f hc] at e41
                  have f41' := f41.symm
                  subst f41'
                  subst e41
                  refine x_istore_n (L' := [some _, some _, some _]) dX2_fills_44 rfl (by decide) rfl ?_
                  refine x_goto (tgt := 4) dX2_fills_45 (by decide) ?_
                  exact fin _ _ (wI M (up g (8 + 6) n z)) (hQ _ _ (BX.s hr (by omega) rfl f1 g1))
                · exact absurd h33.1 (by rw [hq]; exact fun h => nomatch h)
              · omega
  refine x_iconst dX2_fills_0 rfl ?_
  refine x_istore_n (L' := [some _, some _, none]) dX2_fills_1 rfl (by decide) rfl ?_
  refine x_iconst dX2_fills_2 rfl ?_
  refine x_istore_n (L' := [some _, some _, some _]) dX2_fills_3 rfl (by decide) rfl ?_
  exact lp _ p 0 (mci M) u 10 rfl hp (by omega) hR0.symm hu hB Dr.rfl
end X2

