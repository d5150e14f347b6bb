/-! GuestViewModel: reading of a law, conditions -/
section X8
variable {G : GW} {d : Nat} {M : Mem} {m p b dp c e lo hi k n o a x : Int} {w v u : Vw} {tp : Int → Int}
theorem s_X8_readTag (hd : 20 ≤ d) (hR : RdH M m tp e) (hp : (0 ≤ p ∧ p ≤ e) ∧ 0 ≤ c ∧ c < p) : CS G d mX8_readTag [dR m] (mQr M m p b dp c (drf v u)) (postI fun x M1 => (tagW tp (skB tp e p) (wdB tp e (skB tp e p)) < 0 → x = 0 ∧ M1 = mQr M m (skB tp e p) (skB tp e p) dp c (drf v u)) ∧ (¬ tagW tp (skB tp e p) (wdB tp e (skB tp e p)) < 0 → x = 1 ∧ M1 = mQr M m (wdB tp e (skB tp e p)) (skB tp e p) dp (c + 1) (drf v (us (us u (417 + 2 * c) (7 + tagW tp (skB tp e p) (wdB tp e (skB tp e p)))) (418 + 2 * c) 0)))) := by
  obtain ⟨hT, he, htp, he2, hX⟩ := id hR
  have hs := skB_r (tp := tp) hp.1.2
  have hs2 := wdB_r (tp := tp) hs.2
  have hT_ := hT; obtain ⟨p0, p1, ⟨c1, c2, c3, c4, c5, c6, c7, c8, c9, c10, c11, c12, c13, c14, c15⟩, ⟨t1, t2, t3, t4, t5, t6, t7, t8, t9, t10, t11, t12, t13, t14, t15⟩⟩ := hT_
  refine CS.mkQ (by decide) (Nat.le_of_ble_eq_true rfl) fun Q hQ => ?_
  have eX := tagX (tp := tp) (b := skB tp e p) (q := wdB tp e (skB tp e p))
  refine x_aload_n dX8_readTag_0 rfl rfl ?_
  refine g_callN (vs := [_]) (d' := d - 1) rfl (s_X8_letters (by omega) hR (by omega)) dX8_readTag_1 kX8_121 (by omega) (by decide) rfl (Nat.le_of_ble_eq_true rfl) (rcv_o (by first | assumption | exact hT.2.1) rfl) (fun M1 h1 => ?_)
  have f1 := h1.symm
  subst f1
  refine x_aload_n dX8_readTag_4 rfl rfl ?_
  refine x_ldcs dX8_readTag_5 (List.mem_of_getElem? (i := 35) rfl) ?_
  refine g_callI (vs := [_, _]) (d' := d - 1) rfl (s_X8_isWord (i := 7) (by omega) hR (by omega) (by omega) rfl) dX8_readTag_7 kX8_124 (by omega) (by decide) rfl (Nat.le_of_ble_eq_true rfl) (rcv_o (by first | assumption | exact hT.2.1) rfl) (fun x7 M7 h7 => ?_)
  obtain ⟨e7, f7⟩ := h7
  have f7' := f7.symm
  subst f7'
  subst e7
  try simp (disch := omega) only [rdI_e, rdI_n, rdC_i, rdC_o, rdW, rdR, rdU_e, rdU_n, rdLW, Int.add_zero, mQ_p, mQ_b, mQ_d, mQ_c, mQ_w, mQ_e, mQ_t, he, htp]
  refine x_if_eq (tgt := 18) dX8_readTag_10 (by decide) (fun h10 => ?_) (fun h10 => ?_)
  · try simp only [vP_0, vP_1, vP_n0, vP_n1, Classical.not_not] at h10
    refine x_aload_n dX8_readTag_18 rfl rfl ?_
    refine x_ldcs dX8_readTag_19 (List.mem_of_getElem? (i := 58) rfl) ?_
    refine g_callI (vs := [_, _]) (d' := d - 1) rfl (s_X8_isWord (i := 8) (by omega) hR (by omega) (by omega) rfl) dX8_readTag_21 kX8_124 (by omega) (by decide) rfl (Nat.le_of_ble_eq_true rfl) (rcv_o (by first | assumption | exact hT.2.1) rfl) (fun x21 M21 h21 => ?_)
    obtain ⟨e21, f21⟩ := h21
    have f21' := f21.symm
    subst f21'
    subst e21
    try simp (disch := omega) only [rdI_e, rdI_n, rdC_i, rdC_o, rdW, rdR, rdU_e, rdU_n, rdLW, Int.add_zero, mQ_p, mQ_b, mQ_d, mQ_c, mQ_w, mQ_e, mQ_t, he, htp]
    refine x_if_eq (tgt := 32) dX8_readTag_24 (by decide) (fun h24 => ?_) (fun h24 => ?_)
    · try simp only [vP_0, vP_1, vP_n0, vP_n1, Classical.not_not] at h24
      refine x_aload_n dX8_readTag_32 rfl rfl ?_
      refine x_ldcs dX8_readTag_33 (List.mem_of_getElem? (i := 59) rfl) ?_
      refine g_callI (vs := [_, _]) (d' := d - 1) rfl (s_X8_isWord (i := 9) (by omega) hR (by omega) (by omega) rfl) dX8_readTag_35 kX8_124 (by omega) (by decide) rfl (Nat.le_of_ble_eq_true rfl) (rcv_o (by first | assumption | exact hT.2.1) rfl) (fun x35 M35 h35 => ?_)
      obtain ⟨e35, f35⟩ := h35
      have f35' := f35.symm
      subst f35'
      subst e35
      try simp (disch := omega) only [rdI_e, rdI_n, rdC_i, rdC_o, rdW, rdR, rdU_e, rdU_n, rdLW, Int.add_zero, mQ_p, mQ_b, mQ_d, mQ_c, mQ_w, mQ_e, mQ_t, he, htp]
      refine x_if_eq (tgt := 46) dX8_readTag_38 (by decide) (fun h38 => ?_) (fun h38 => ?_)
      · try simp only [vP_0, vP_1, vP_n0, vP_n1, Classical.not_not] at h38
        refine x_iconst dX8_readTag_46 rfl ?_
        refine x_istore_n (L' := [some _, some _]) dX8_readTag_47 rfl (by decide) rfl ?_
        refine x_iload_n dX8_readTag_48 rfl rfl ?_
        refine x_if_lt (tgt := 61) dX8_readTag_49 (by decide) (fun h49 => ?_) (fun h49 => ?_)
        · refine x_aload_n dX8_readTag_61 rfl rfl ?_
          refine x_aload_n dX8_readTag_62 rfl rfl ?_
          refine g_getI (kI := 12) rfl dX8_readTag_63 fX8_106_8 (by first | assumption | exact hT.2.1) ?_
          try simp (disch := omega) only [rdI_e, rdI_n, rdC_i, rdC_o, rdW, rdR, rdU_e, rdU_n, rdLW, Int.add_zero, mQ_p, mQ_b, mQ_d, mQ_c, mQ_w, mQ_e, mQ_t, he, htp]
          refine g_putI (kI := 10) rfl dX8_readTag_66 fX8_96_8 (by first | assumption | exact hT.2.1) ?_
          try simp only [mQ_wp, mQ_wb, mQ_wd, mQ_wc, mQ_ww]
          refine x_iload_n dX8_readTag_69 rfl rfl ?_
          refine x_if_lt (tgt := 77) dX8_readTag_70 (by decide) (fun h70 => ?_) (fun h70 => ?_)
          · refine x_iconst dX8_readTag_77 rfl ?_
            refine x_zreturn (by first | exact Or.inl rfl | exact Or.inr rfl | exact vB_r _ | exact vP_r _ | assumption | omega) rfl dX8_readTag_78 ?_
            first
            | (rw [if_pos h10] at eX
               first
               | exact absurd h49 (by omega)
               | exact absurd h70 (by omega)
               | exact hQ _ _ ⟨_, rfl, fun q => absurd q (by omega), fun _ => ⟨rfl, by rw [eX]; rfl⟩⟩)
            | (rw [if_neg h10, if_pos h24] at eX
               first
               | exact absurd h49 (by omega)
               | exact absurd h70 (by omega)
               | exact hQ _ _ ⟨_, rfl, fun q => absurd q (by omega), fun _ => ⟨rfl, by rw [eX]; rfl⟩⟩)
            | (rw [if_neg h10, if_neg h24, if_pos h38] at eX
               first
               | exact absurd h49 (by omega)
               | exact absurd h70 (by omega)
               | exact hQ _ _ ⟨_, rfl, fun q => absurd q (by omega), fun _ => ⟨rfl, by rw [eX]; rfl⟩⟩)
            | (rw [if_neg h10, if_neg h24, if_neg h38] at eX
               first
               | exact absurd h49 (by omega)
               | exact absurd h70 (by omega)
               | exact hQ _ _ ⟨_, rfl, fun _ => ⟨rfl, rfl⟩, fun q => absurd (show tagW tp (skB tp e p) (wdB tp e (skB tp e p)) < 0 by omega) q⟩)
          · refine x_iconst dX8_readTag_73 rfl ?_
            refine x_goto (tgt := 78) dX8_readTag_74 (by decide) ?_
            refine x_zreturn (by first | exact Or.inl rfl | exact Or.inr rfl | exact vB_r _ | exact vP_r _ | assumption | omega) rfl dX8_readTag_78 ?_
            first
            | (rw [if_pos h10] at eX
               first
               | exact absurd h49 (by omega)
               | exact absurd h70 (by omega)
               | exact hQ _ _ ⟨_, rfl, fun q => absurd q (by omega), fun _ => ⟨rfl, by rw [eX]; rfl⟩⟩)
            | (rw [if_neg h10, if_pos h24] at eX
               first
               | exact absurd h49 (by omega)
               | exact absurd h70 (by omega)
               | exact hQ _ _ ⟨_, rfl, fun q => absurd q (by omega), fun _ => ⟨rfl, by rw [eX]; rfl⟩⟩)
            | (rw [if_neg h10, if_neg h24, if_pos h38] at eX
               first
               | exact absurd h49 (by omega)
               | exact absurd h70 (by omega)
               | exact hQ _ _ ⟨_, rfl, fun q => absurd q (by omega), fun _ => ⟨rfl, by rw [eX]; rfl⟩⟩)
            | (rw [if_neg h10, if_neg h24, if_neg h38] at eX
               first
               | exact absurd h49 (by omega)
               | exact absurd h70 (by omega)
               | exact hQ _ _ ⟨_, rfl, fun _ => ⟨rfl, rfl⟩, fun q => absurd (show tagW tp (skB tp e p) (wdB tp e (skB tp e p)) < 0 by omega) q⟩)
        · refine x_aload_n dX8_readTag_52 rfl rfl ?_
          refine x_iload_n dX8_readTag_53 rfl rfl ?_
          refine x_iconst dX8_readTag_54 rfl ?_
          refine g_callN (vs := [_, _, _]) (d' := d - 1) rfl (s_X8_emits (by omega) hR (by omega)) dX8_readTag_55 kX8_220 (by omega) (by decide) rfl (Nat.le_of_ble_eq_true rfl) (rcv_o (by first | assumption | exact hT.2.1) rfl) (fun M55 h55 => ?_)
          have f55 := h55.symm
          subst f55
          refine x_goto (tgt := 69) dX8_readTag_58 (by decide) ?_
          refine x_iload_n dX8_readTag_69 rfl rfl ?_
          refine x_if_lt (tgt := 77) dX8_readTag_70 (by decide) (fun h70 => ?_) (fun h70 => ?_)
          · refine x_iconst dX8_readTag_77 rfl ?_
            refine x_zreturn (by first | exact Or.inl rfl | exact Or.inr rfl | exact vB_r _ | exact vP_r _ | assumption | omega) rfl dX8_readTag_78 ?_
            first
            | (rw [if_pos h10] at eX
               first
               | exact absurd h49 (by omega)
               | exact absurd h70 (by omega)
               | exact hQ _ _ ⟨_, rfl, fun q => absurd q (by omega), fun _ => ⟨rfl, by rw [eX]; rfl⟩⟩)
            | (rw [if_neg h10, if_pos h24] at eX
               first
               | exact absurd h49 (by omega)
               | exact absurd h70 (by omega)
               | exact hQ _ _ ⟨_, rfl, fun q => absurd q (by omega), fun _ => ⟨rfl, by rw [eX]; rfl⟩⟩)
            | (rw [if_neg h10, if_neg h24, if_pos h38] at eX
               first
               | exact absurd h49 (by omega)
               | exact absurd h70 (by omega)
               | exact hQ _ _ ⟨_, rfl, fun q => absurd q (by omega), fun _ => ⟨rfl, by rw [eX]; rfl⟩⟩)
            | (rw [if_neg h10, if_neg h24, if_neg h38] at eX
               first
               | exact absurd h49 (by omega)
               | exact absurd h70 (by omega)
               | exact hQ _ _ ⟨_, rfl, fun _ => ⟨rfl, rfl⟩, fun q => absurd (show tagW tp (skB tp e p) (wdB tp e (skB tp e p)) < 0 by omega) q⟩)
          · refine x_iconst dX8_readTag_73 rfl ?_
            refine x_goto (tgt := 78) dX8_readTag_74 (by decide) ?_
            refine x_zreturn (by first | exact Or.inl rfl | exact Or.inr rfl | exact vB_r _ | exact vP_r _ | assumption | omega) rfl dX8_readTag_78 ?_
            first
            | (rw [if_pos h10] at eX
               first
               | exact absurd h49 (by omega)
               | exact absurd h70 (by omega)
               | exact hQ _ _ ⟨_, rfl, fun q => absurd q (by omega), fun _ => ⟨rfl, by rw [eX]; rfl⟩⟩)
            | (rw [if_neg h10, if_pos h24] at eX
               first
               | exact absurd h49 (by omega)
               | exact absurd h70 (by omega)
               | exact hQ _ _ ⟨_, rfl, fun q => absurd q (by omega), fun _ => ⟨rfl, by rw [eX]; rfl⟩⟩)
            | (rw [if_neg h10, if_neg h24, if_pos h38] at eX
               first
               | exact absurd h49 (by omega)
               | exact absurd h70 (by omega)
               | exact hQ _ _ ⟨_, rfl, fun q => absurd q (by omega), fun _ => ⟨rfl, by rw [eX]; rfl⟩⟩)
            | (rw [if_neg h10, if_neg h24, if_neg h38] at eX
               first
               | exact absurd h49 (by omega)
               | exact absurd h70 (by omega)
               | exact hQ _ _ ⟨_, rfl, fun _ => ⟨rfl, rfl⟩, fun q => absurd (show tagW tp (skB tp e p) (wdB tp e (skB tp e p)) < 0 by omega) q⟩)
      · try simp only [vP_0, vP_1, vP_n0, vP_n1, Classical.not_not] at h38
        refine x_bipush dX8_readTag_41 rfl ?_
        refine x_goto (tgt := 47) dX8_readTag_43 (by decide) ?_
        refine x_istore_n (L' := [some _, some _]) dX8_readTag_47 rfl (by decide) rfl ?_
        refine x_iload_n dX8_readTag_48 rfl rfl ?_
        refine x_if_lt (tgt := 61) dX8_readTag_49 (by decide) (fun h49 => ?_) (fun h49 => ?_)
        · refine x_aload_n dX8_readTag_61 rfl rfl ?_
          refine x_aload_n dX8_readTag_62 rfl rfl ?_
          refine g_getI (kI := 12) rfl dX8_readTag_63 fX8_106_8 (by first | assumption | exact hT.2.1) ?_
          try simp (disch := omega) only [rdI_e, rdI_n, rdC_i, rdC_o, rdW, rdR, rdU_e, rdU_n, rdLW, Int.add_zero, mQ_p, mQ_b, mQ_d, mQ_c, mQ_w, mQ_e, mQ_t, he, htp]
          refine g_putI (kI := 10) rfl dX8_readTag_66 fX8_96_8 (by first | assumption | exact hT.2.1) ?_
          try simp only [mQ_wp, mQ_wb, mQ_wd, mQ_wc, mQ_ww]
          refine x_iload_n dX8_readTag_69 rfl rfl ?_
          refine x_if_lt (tgt := 77) dX8_readTag_70 (by decide) (fun h70 => ?_) (fun h70 => ?_)
          · refine x_iconst dX8_readTag_77 rfl ?_
            refine x_zreturn (by first | exact Or.inl rfl | exact Or.inr rfl | exact vB_r _ | exact vP_r _ | assumption | omega) rfl dX8_readTag_78 ?_
            first
            | (rw [if_pos h10] at eX
               first
               | exact absurd h49 (by omega)
               | exact absurd h70 (by omega)
               | exact hQ _ _ ⟨_, rfl, fun q => absurd q (by omega), fun _ => ⟨rfl, by rw [eX]; rfl⟩⟩)
            | (rw [if_neg h10, if_pos h24] at eX
               first
               | exact absurd h49 (by omega)
               | exact absurd h70 (by omega)
               | exact hQ _ _ ⟨_, rfl, fun q => absurd q (by omega), fun _ => ⟨rfl, by rw [eX]; rfl⟩⟩)
            | (rw [if_neg h10, if_neg h24, if_pos h38] at eX
               first
               | exact absurd h49 (by omega)
               | exact absurd h70 (by omega)
               | exact hQ _ _ ⟨_, rfl, fun q => absurd q (by omega), fun _ => ⟨rfl, by rw [eX]; rfl⟩⟩)
            | (rw [if_neg h10, if_neg h24, if_neg h38] at eX
               first
               | exact absurd h49 (by omega)
               | exact absurd h70 (by omega)
               | exact hQ _ _ ⟨_, rfl, fun _ => ⟨rfl, rfl⟩, fun q => absurd (show tagW tp (skB tp e p) (wdB tp e (skB tp e p)) < 0 by omega) q⟩)
          · refine x_iconst dX8_readTag_73 rfl ?_
            refine x_goto (tgt := 78) dX8_readTag_74 (by decide) ?_
            refine x_zreturn (by first | exact Or.inl rfl | exact Or.inr rfl | exact vB_r _ | exact vP_r _ | assumption | omega) rfl dX8_readTag_78 ?_
            first
            | (rw [if_pos h10] at eX
               first
               | exact absurd h49 (by omega)
               | exact absurd h70 (by omega)
               | exact hQ _ _ ⟨_, rfl, fun q => absurd q (by omega), fun _ => ⟨rfl, by rw [eX]; rfl⟩⟩)
            | (rw [if_neg h10, if_pos h24] at eX
               first
               | exact absurd h49 (by omega)
               | exact absurd h70 (by omega)
               | exact hQ _ _ ⟨_, rfl, fun q => absurd q (by omega), fun _ => ⟨rfl, by rw [eX]; rfl⟩⟩)
            | (rw [if_neg h10, if_neg h24, if_pos h38] at eX
               first
               | exact absurd h49 (by omega)
               | exact absurd h70 (by omega)
               | exact hQ _ _ ⟨_, rfl, fun q => absurd q (by omega), fun _ => ⟨rfl, by rw [eX]; rfl⟩⟩)
            | (rw [if_neg h10, if_neg h24, if_neg h38] at eX
               first
               | exact absurd h49 (by omega)
               | exact absurd h70 (by omega)
               | exact hQ _ _ ⟨_, rfl, fun _ => ⟨rfl, rfl⟩, fun q => absurd (show tagW tp (skB tp e p) (wdB tp e (skB tp e p)) < 0 by omega) q⟩)
        · refine x_aload_n dX8_readTag_52 rfl rfl ?_
          refine x_iload_n dX8_readTag_53 rfl rfl ?_
          refine x_iconst dX8_readTag_54 rfl ?_
          refine g_callN (vs := [_, _, _]) (d' := d - 1) rfl (s_X8_emits (by omega) hR (by omega)) dX8_readTag_55 kX8_220 (by omega) (by decide) rfl (Nat.le_of_ble_eq_true rfl) (rcv_o (by first | assumption | exact hT.2.1) rfl) (fun M55 h55 => ?_)
          have f55 := h55.symm
          subst f55
          refine x_goto (tgt := 69) dX8_readTag_58 (by decide) ?_
          refine x_iload_n dX8_readTag_69 rfl rfl ?_
          refine x_if_lt (tgt := 77) dX8_readTag_70 (by decide) (fun h70 => ?_) (fun h70 => ?_)
          · refine x_iconst dX8_readTag_77 rfl ?_
            refine x_zreturn (by first | exact Or.inl rfl | exact Or.inr rfl | exact vB_r _ | exact vP_r _ | assumption | omega) rfl dX8_readTag_78 ?_
            first
            | (rw [if_pos h10] at eX
               first
               | exact absurd h49 (by omega)
               | exact absurd h70 (by omega)
               | exact hQ _ _ ⟨_, rfl, fun q => absurd q (by omega), fun _ => ⟨rfl, by rw [eX]; rfl⟩⟩)
            | (rw [if_neg h10, if_pos h24] at eX
               first
               | exact absurd h49 (by omega)
               | exact absurd h70 (by omega)
               | exact hQ _ _ ⟨_, rfl, fun q => absurd q (by omega), fun _ => ⟨rfl, by rw [eX]; rfl⟩⟩)
            | (rw [if_neg h10, if_neg h24, if_pos h38] at eX
               first
               | exact absurd h49 (by omega)
               | exact absurd h70 (by omega)
               | exact hQ _ _ ⟨_, rfl, fun q => absurd q (by omega), fun _ => ⟨rfl, by rw [eX]; rfl⟩⟩)
            | (rw [if_neg h10, if_neg h24, if_neg h38] at eX
               first
               | exact absurd h49 (by omega)
               | exact absurd h70 (by omega)
               | exact hQ _ _ ⟨_, rfl, fun _ => ⟨rfl, rfl⟩, fun q => absurd (show tagW tp (skB tp e p) (wdB tp e (skB tp e p)) < 0 by omega) q⟩)
          · refine x_iconst dX8_readTag_73 rfl ?_
            refine x_goto (tgt := 78) dX8_readTag_74 (by decide) ?_
            refine x_zreturn (by first | exact Or.inl rfl | exact Or.inr rfl | exact vB_r _ | exact vP_r _ | assumption | omega) rfl dX8_readTag_78 ?_
            first
            | (rw [if_pos h10] at eX
               first
               | exact absurd h49 (by omega)
               | exact absurd h70 (by omega)
               | exact hQ _ _ ⟨_, rfl, fun q => absurd q (by omega), fun _ => ⟨rfl, by rw [eX]; rfl⟩⟩)
            | (rw [if_neg h10, if_pos h24] at eX
               first
               | exact absurd h49 (by omega)
               | exact absurd h70 (by omega)
               | exact hQ _ _ ⟨_, rfl, fun q => absurd q (by omega), fun _ => ⟨rfl, by rw [eX]; rfl⟩⟩)
            | (rw [if_neg h10, if_neg h24, if_pos h38] at eX
               first
               | exact absurd h49 (by omega)
               | exact absurd h70 (by omega)
               | exact hQ _ _ ⟨_, rfl, fun q => absurd q (by omega), fun _ => ⟨rfl, by rw [eX]; rfl⟩⟩)
            | (rw [if_neg h10, if_neg h24, if_neg h38] at eX
               first
               | exact absurd h49 (by omega)
               | exact absurd h70 (by omega)
               | exact hQ _ _ ⟨_, rfl, fun _ => ⟨rfl, rfl⟩, fun q => absurd (show tagW tp (skB tp e p) (wdB tp e (skB tp e p)) < 0 by omega) q⟩)
    · try simp only [vP_0, vP_1, vP_n0, vP_n1, Classical.not_not] at h24
      refine x_bipush dX8_readTag_27 rfl ?_
      refine x_goto (tgt := 47) dX8_readTag_29 (by decide) ?_
      refine x_istore_n (L' := [some _, some _]) dX8_readTag_47 rfl (by decide) rfl ?_
      refine x_iload_n dX8_readTag_48 rfl rfl ?_
      refine x_if_lt (tgt := 61) dX8_readTag_49 (by decide) (fun h49 => ?_) (fun h49 => ?_)
      · refine x_aload_n dX8_readTag_61 rfl rfl ?_
        refine x_aload_n dX8_readTag_62 rfl rfl ?_
        refine g_getI (kI := 12) rfl dX8_readTag_63 fX8_106_8 (by first | assumption | exact hT.2.1) ?_
        try simp (disch := omega) only [rdI_e, rdI_n, rdC_i, rdC_o, rdW, rdR, rdU_e, rdU_n, rdLW, Int.add_zero, mQ_p, mQ_b, mQ_d, mQ_c, mQ_w, mQ_e, mQ_t, he, htp]
        refine g_putI (kI := 10) rfl dX8_readTag_66 fX8_96_8 (by first | assumption | exact hT.2.1) ?_
        try simp only [mQ_wp, mQ_wb, mQ_wd, mQ_wc, mQ_ww]
        refine x_iload_n dX8_readTag_69 rfl rfl ?_
        refine x_if_lt (tgt := 77) dX8_readTag_70 (by decide) (fun h70 => ?_) (fun h70 => ?_)
        · refine x_iconst dX8_readTag_77 rfl ?_
          refine x_zreturn (by first | exact Or.inl rfl | exact Or.inr rfl | exact vB_r _ | exact vP_r _ | assumption | omega) rfl dX8_readTag_78 ?_
          first
          | (rw [if_pos h10] at eX
             first
             | exact absurd h49 (by omega)
             | exact absurd h70 (by omega)
             | exact hQ _ _ ⟨_, rfl, fun q => absurd q (by omega), fun _ => ⟨rfl, by rw [eX]; rfl⟩⟩)
          | (rw [if_neg h10, if_pos h24] at eX
             first
             | exact absurd h49 (by omega)
             | exact absurd h70 (by omega)
             | exact hQ _ _ ⟨_, rfl, fun q => absurd q (by omega), fun _ => ⟨rfl, by rw [eX]; rfl⟩⟩)
          | (rw [if_neg h10, if_neg h24, if_pos h38] at eX
             first
             | exact absurd h49 (by omega)
             | exact absurd h70 (by omega)
             | exact hQ _ _ ⟨_, rfl, fun q => absurd q (by omega), fun _ => ⟨rfl, by rw [eX]; rfl⟩⟩)
          | (rw [if_neg h10, if_neg h24, if_neg h38] at eX
             first
             | exact absurd h49 (by omega)
             | exact absurd h70 (by omega)
             | exact hQ _ _ ⟨_, rfl, fun _ => ⟨rfl, rfl⟩, fun q => absurd (show tagW tp (skB tp e p) (wdB tp e (skB tp e p)) < 0 by omega) q⟩)
        · refine x_iconst dX8_readTag_73 rfl ?_
          refine x_goto (tgt := 78) dX8_readTag_74 (by decide) ?_
          refine x_zreturn (by first | exact Or.inl rfl | exact Or.inr rfl | exact vB_r _ | exact vP_r _ | assumption | omega) rfl dX8_readTag_78 ?_
          first
          | (rw [if_pos h10] at eX
             first
             | exact absurd h49 (by omega)
             | exact absurd h70 (by omega)
             | exact hQ _ _ ⟨_, rfl, fun q => absurd q (by omega), fun _ => ⟨rfl, by rw [eX]; rfl⟩⟩)
          | (rw [if_neg h10, if_pos h24] at eX
             first
             | exact absurd h49 (by omega)
             | exact absurd h70 (by omega)
             | exact hQ _ _ ⟨_, rfl, fun q => absurd q (by omega), fun _ => ⟨rfl, by rw [eX]; rfl⟩⟩)
          | (rw [if_neg h10, if_neg h24, if_pos h38] at eX
             first
             | exact absurd h49 (by omega)
             | exact absurd h70 (by omega)
             | exact hQ _ _ ⟨_, rfl, fun q => absurd q (by omega), fun _ => ⟨rfl, by rw [eX]; rfl⟩⟩)
          | (rw [if_neg h10, if_neg h24, if_neg h38] at eX
             first
             | exact absurd h49 (by omega)
             | exact absurd h70 (by omega)
             | exact hQ _ _ ⟨_, rfl, fun _ => ⟨rfl, rfl⟩, fun q => absurd (show tagW tp (skB tp e p) (wdB tp e (skB tp e p)) < 0 by omega) q⟩)
      · refine x_aload_n dX8_readTag_52 rfl rfl ?_
        refine x_iload_n dX8_readTag_53 rfl rfl ?_
        refine x_iconst dX8_readTag_54 rfl ?_
        refine g_callN (vs := [_, _, _]) (d' := d - 1) rfl (s_X8_emits (by omega) hR (by omega)) dX8_readTag_55 kX8_220 (by omega) (by decide) rfl (Nat.le_of_ble_eq_true rfl) (rcv_o (by first | assumption | exact hT.2.1) rfl) (fun M55 h55 => ?_)
        have f55 := h55.symm
        subst f55
        refine x_goto (tgt := 69) dX8_readTag_58 (by decide) ?_
        refine x_iload_n dX8_readTag_69 rfl rfl ?_
        refine x_if_lt (tgt := 77) dX8_readTag_70 (by decide) (fun h70 => ?_) (fun h70 => ?_)
        · refine x_iconst dX8_readTag_77 rfl ?_
          refine x_zreturn (by first | exact Or.inl rfl | exact Or.inr rfl | exact vB_r _ | exact vP_r _ | assumption | omega) rfl dX8_readTag_78 ?_
          first
          | (rw [if_pos h10] at eX
             first
             | exact absurd h49 (by omega)
             | exact absurd h70 (by omega)
             | exact hQ _ _ ⟨_, rfl, fun q => absurd q (by omega), fun _ => ⟨rfl, by rw [eX]; rfl⟩⟩)
          | (rw [if_neg h10, if_pos h24] at eX
             first
             | exact absurd h49 (by omega)
             | exact absurd h70 (by omega)
             | exact hQ _ _ ⟨_, rfl, fun q => absurd q (by omega), fun _ => ⟨rfl, by rw [eX]; rfl⟩⟩)
          | (rw [if_neg h10, if_neg h24, if_pos h38] at eX
             first
             | exact absurd h49 (by omega)
             | exact absurd h70 (by omega)
             | exact hQ _ _ ⟨_, rfl, fun q => absurd q (by omega), fun _ => ⟨rfl, by rw [eX]; rfl⟩⟩)
          | (rw [if_neg h10, if_neg h24, if_neg h38] at eX
             first
             | exact absurd h49 (by omega)
             | exact absurd h70 (by omega)
             | exact hQ _ _ ⟨_, rfl, fun _ => ⟨rfl, rfl⟩, fun q => absurd (show tagW tp (skB tp e p) (wdB tp e (skB tp e p)) < 0 by omega) q⟩)
        · refine x_iconst dX8_readTag_73 rfl ?_
          refine x_goto (tgt := 78) dX8_readTag_74 (by decide) ?_
          refine x_zreturn (by first | exact Or.inl rfl | exact Or.inr rfl | exact vB_r _ | exact vP_r _ | assumption | omega) rfl dX8_readTag_78 ?_
          first
          | (rw [if_pos h10] at eX
             first
             | exact absurd h49 (by omega)
             | exact absurd h70 (by omega)
             | exact hQ _ _ ⟨_, rfl, fun q => absurd q (by omega), fun _ => ⟨rfl, by rw [eX]; rfl⟩⟩)
          | (rw [if_neg h10, if_pos h24] at eX
             first
             | exact absurd h49 (by omega)
             | exact absurd h70 (by omega)
             | exact hQ _ _ ⟨_, rfl, fun q => absurd q (by omega), fun _ => ⟨rfl, by rw [eX]; rfl⟩⟩)
          | (rw [if_neg h10, if_neg h24, if_pos h38] at eX
             first
             | exact absurd h49 (by omega)
             | exact absurd h70 (by omega)
             | exact hQ _ _ ⟨_, rfl, fun q => absurd q (by omega), fun _ => ⟨rfl, by rw [eX]; rfl⟩⟩)
          | (rw [if_neg h10, if_neg h24, if_neg h38] at eX
             first
             | exact absurd h49 (by omega)
             | exact absurd h70 (by omega)
             | exact hQ _ _ ⟨_, rfl, fun _ => ⟨rfl, rfl⟩, fun q => absurd (show tagW tp (skB tp e p) (wdB tp e (skB tp e p)) < 0 by omega) q⟩)
  · try simp only [vP_0, vP_1, vP_n0, vP_n1, Classical.not_not] at h10
    refine x_bipush dX8_readTag_13 rfl ?_
    refine x_goto (tgt := 47) dX8_readTag_15 (by decide) ?_
    refine x_istore_n (L' := [some _, some _]) dX8_readTag_47 rfl (by decide) rfl ?_
    refine x_iload_n dX8_readTag_48 rfl rfl ?_
    refine x_if_lt (tgt := 61) dX8_readTag_49 (by decide) (fun h49 => ?_) (fun h49 => ?_)
    · refine x_aload_n dX8_readTag_61 rfl rfl ?_
      refine x_aload_n dX8_readTag_62 rfl rfl ?_
      refine g_getI (kI := 12) rfl dX8_readTag_63 fX8_106_8 (by first | assumption | exact hT.2.1) ?_
      try simp (disch := omega) only [rdI_e, rdI_n, rdC_i, rdC_o, rdW, rdR, rdU_e, rdU_n, rdLW, Int.add_zero, mQ_p, mQ_b, mQ_d, mQ_c, mQ_w, mQ_e, mQ_t, he, htp]
      refine g_putI (kI := 10) rfl dX8_readTag_66 fX8_96_8 (by first | assumption | exact hT.2.1) ?_
      try simp only [mQ_wp, mQ_wb, mQ_wd, mQ_wc, mQ_ww]
      refine x_iload_n dX8_readTag_69 rfl rfl ?_
      refine x_if_lt (tgt := 77) dX8_readTag_70 (by decide) (fun h70 => ?_) (fun h70 => ?_)
      · refine x_iconst dX8_readTag_77 rfl ?_
        refine x_zreturn (by first | exact Or.inl rfl | exact Or.inr rfl | exact vB_r _ | exact vP_r _ | assumption | omega) rfl dX8_readTag_78 ?_
        first
        | (rw [if_pos h10] at eX
           first
           | exact absurd h49 (by omega)
           | exact absurd h70 (by omega)
           | exact hQ _ _ ⟨_, rfl, fun q => absurd q (by omega), fun _ => ⟨rfl, by rw [eX]; rfl⟩⟩)
        | (rw [if_neg h10, if_pos h24] at eX
           first
           | exact absurd h49 (by omega)
           | exact absurd h70 (by omega)
           | exact hQ _ _ ⟨_, rfl, fun q => absurd q (by omega), fun _ => ⟨rfl, by rw [eX]; rfl⟩⟩)
        | (rw [if_neg h10, if_neg h24, if_pos h38] at eX
           first
           | exact absurd h49 (by omega)
           | exact absurd h70 (by omega)
           | exact hQ _ _ ⟨_, rfl, fun q => absurd q (by omega), fun _ => ⟨rfl, by rw [eX]; rfl⟩⟩)
        | (rw [if_neg h10, if_neg h24, if_neg h38] at eX
           first
           | exact absurd h49 (by omega)
           | exact absurd h70 (by omega)
           | exact hQ _ _ ⟨_, rfl, fun _ => ⟨rfl, rfl⟩, fun q => absurd (show tagW tp (skB tp e p) (wdB tp e (skB tp e p)) < 0 by omega) q⟩)
      · refine x_iconst dX8_readTag_73 rfl ?_
        refine x_goto (tgt := 78) dX8_readTag_74 (by decide) ?_
        refine x_zreturn (by first | exact Or.inl rfl | exact Or.inr rfl | exact vB_r _ | exact vP_r _ | assumption | omega) rfl dX8_readTag_78 ?_
        first
        | (rw [if_pos h10] at eX
           first
           | exact absurd h49 (by omega)
           | exact absurd h70 (by omega)
           | exact hQ _ _ ⟨_, rfl, fun q => absurd q (by omega), fun _ => ⟨rfl, by rw [eX]; rfl⟩⟩)
        | (rw [if_neg h10, if_pos h24] at eX
           first
           | exact absurd h49 (by omega)
           | exact absurd h70 (by omega)
           | exact hQ _ _ ⟨_, rfl, fun q => absurd q (by omega), fun _ => ⟨rfl, by rw [eX]; rfl⟩⟩)
        | (rw [if_neg h10, if_neg h24, if_pos h38] at eX
           first
           | exact absurd h49 (by omega)
           | exact absurd h70 (by omega)
           | exact hQ _ _ ⟨_, rfl, fun q => absurd q (by omega), fun _ => ⟨rfl, by rw [eX]; rfl⟩⟩)
        | (rw [if_neg h10, if_neg h24, if_neg h38] at eX
           first
           | exact absurd h49 (by omega)
           | exact absurd h70 (by omega)
           | exact hQ _ _ ⟨_, rfl, fun _ => ⟨rfl, rfl⟩, fun q => absurd (show tagW tp (skB tp e p) (wdB tp e (skB tp e p)) < 0 by omega) q⟩)
    · refine x_aload_n dX8_readTag_52 rfl rfl ?_
      refine x_iload_n dX8_readTag_53 rfl rfl ?_
      refine x_iconst dX8_readTag_54 rfl ?_
      refine g_callN (vs := [_, _, _]) (d' := d - 1) rfl (s_X8_emits (by omega) hR (by omega)) dX8_readTag_55 kX8_220 (by omega) (by decide) rfl (Nat.le_of_ble_eq_true rfl) (rcv_o (by first | assumption | exact hT.2.1) rfl) (fun M55 h55 => ?_)
      have f55 := h55.symm
      subst f55
      refine x_goto (tgt := 69) dX8_readTag_58 (by decide) ?_
      refine x_iload_n dX8_readTag_69 rfl rfl ?_
      refine x_if_lt (tgt := 77) dX8_readTag_70 (by decide) (fun h70 => ?_) (fun h70 => ?_)
      · refine x_iconst dX8_readTag_77 rfl ?_
        refine x_zreturn (by first | exact Or.inl rfl | exact Or.inr rfl | exact vB_r _ | exact vP_r _ | assumption | omega) rfl dX8_readTag_78 ?_
        first
        | (rw [if_pos h10] at eX
           first
           | exact absurd h49 (by omega)
           | exact absurd h70 (by omega)
           | exact hQ _ _ ⟨_, rfl, fun q => absurd q (by omega), fun _ => ⟨rfl, by rw [eX]; rfl⟩⟩)
        | (rw [if_neg h10, if_pos h24] at eX
           first
           | exact absurd h49 (by omega)
           | exact absurd h70 (by omega)
           | exact hQ _ _ ⟨_, rfl, fun q => absurd q (by omega), fun _ => ⟨rfl, by rw [eX]; rfl⟩⟩)
        | (rw [if_neg h10, if_neg h24, if_pos h38] at eX
           first
           | exact absurd h49 (by omega)
           | exact absurd h70 (by omega)
           | exact hQ _ _ ⟨_, rfl, fun q => absurd q (by omega), fun _ => ⟨rfl, by rw [eX]; rfl⟩⟩)
        | (rw [if_neg h10, if_neg h24, if_neg h38] at eX
           first
           | exact absurd h49 (by omega)
           | exact absurd h70 (by omega)
           | exact hQ _ _ ⟨_, rfl, fun _ => ⟨rfl, rfl⟩, fun q => absurd (show tagW tp (skB tp e p) (wdB tp e (skB tp e p)) < 0 by omega) q⟩)
      · refine x_iconst dX8_readTag_73 rfl ?_
        refine x_goto (tgt := 78) dX8_readTag_74 (by decide) ?_
        refine x_zreturn (by first | exact Or.inl rfl | exact Or.inr rfl | exact vB_r _ | exact vP_r _ | assumption | omega) rfl dX8_readTag_78 ?_
        first
        | (rw [if_pos h10] at eX
           first
           | exact absurd h49 (by omega)
           | exact absurd h70 (by omega)
           | exact hQ _ _ ⟨_, rfl, fun q => absurd q (by omega), fun _ => ⟨rfl, by rw [eX]; rfl⟩⟩)
        | (rw [if_neg h10, if_pos h24] at eX
           first
           | exact absurd h49 (by omega)
           | exact absurd h70 (by omega)
           | exact hQ _ _ ⟨_, rfl, fun q => absurd q (by omega), fun _ => ⟨rfl, by rw [eX]; rfl⟩⟩)
        | (rw [if_neg h10, if_neg h24, if_pos h38] at eX
           first
           | exact absurd h49 (by omega)
           | exact absurd h70 (by omega)
           | exact hQ _ _ ⟨_, rfl, fun q => absurd q (by omega), fun _ => ⟨rfl, by rw [eX]; rfl⟩⟩)
        | (rw [if_neg h10, if_neg h24, if_neg h38] at eX
           first
           | exact absurd h49 (by omega)
           | exact absurd h70 (by omega)
           | exact hQ _ _ ⟨_, rfl, fun _ => ⟨rfl, rfl⟩, fun q => absurd (show tagW tp (skB tp e p) (wdB tp e (skB tp e p)) < 0 by omega) q⟩)
theorem s_X8_readAllOf {f : LgS → LgR} (hf : Un e f) (hd : 24 ≤ d) (hR : RdH M m tp e) (hA : ∀ p b c u, (0 ≤ p ∧ p ≤ e) ∧ 0 ≤ c ∧ c < p → CS G (d - 1) mX8_readAtom [dR m] (mQr M m p b dp c (drf v u)) (postI fun x M1 => LOut M m dp v (f (p, c, u)) x M1)) (hp : (0 ≤ p ∧ p ≤ e) ∧ 0 ≤ c ∧ c < p) : CS G d mX8_readAllOf [dR m] (mQr M m p b dp c (drf v u)) (postI fun x M1 => LOut M m dp v (rAll tp e f (p, c, u)) x M1) := by
  obtain ⟨hT, he, htp, he2, hX⟩ := id hR
  have hT_ := hT; obtain ⟨p0, p1, ⟨c1, c2, c3, c4, c5, c6, c7, c8, c9, c10, c11, c12, c13, c14, c15⟩, ⟨t1, t2, t3, t4, t5, t6, t7, t8, t9, t10, t11, t12, t13, t14, t15⟩⟩ := hT_
  refine CS.mkQ (by decide) (Nat.le_of_ble_eq_true rfl) fun Q hQ => ?_
  have hstep : ∀ (t : Nat) (s : LgS), rRow tp e f 32 15 (t + 1) s = (if isW tp (skB tp e s.1) (wdB tp e (skB tp e s.1)) (txB 32) then
      match f (wdB tp e (skB tp e s.1), s.2) with
      | .inl x => .inl x
      | .inr y => rRow tp e f 32 15 t (em y 15 0)
    else .inr (skB tp e s.1, s.2)) := fun _ _ => rfl
  have hlen : (0 : Int) < ((txB 32).length : Int) := by decide
  have lp : ∀ (t : Nat) (p0 b0 c0 : Int) (u0 : Vw) (fu : Nat), ((fu : Int)).toNat = t → ((0 ≤ p0 ∧ p0 ≤ e) ∧ 0 ≤ c0 ∧ c0 < p0) → (e - p0 < fu) → (rAll tp e f (p, c, u) = rRow tp e f 32 15 fu (p0, c0, u0)) → WP G d mX8_readAllOf 9 [some (dR m)] [] (mQr M m p0 b0 dp c0 (drf v u0)) Q := by
    intro t
    induction t using Nat.strongRecOn with
    | _ t ih =>
      intro p0 b0 c0 u0 fu ht q0 hfu hr
      obtain ⟨fu, rfl⟩ : ∃ f2, fu = f2 + 1 := ⟨fu - 1, by omega⟩
      have hs := skB_r (tp := tp) q0.1.2
      have hs2 := wdB_r (tp := tp) hs.2
      rw [hstep fu] at hr
      by_cases hg : isW tp (skB tp e p0) (wdB tp e (skB tp e p0)) (txB 32)
      · have hg1 := hg.1
        replace hr := hr.trans (if_pos hg)
        rcases hm : f (wdB tp e (skB tp e p0), c0, u0) with g | ⟨y1, y2, y3⟩
        · have hr2 : rAll tp e f (p, c, u) = .inl g := by
            rw [hr]
            show (match f (wdB tp e (skB tp e p0), c0, u0) with
              | .inl x => .inl x
              | .inr y => rRow tp e f 32 15 fu (em y 15 0)) = (.inl g : LgR)
            rw [hm]
          refine x_aload_n dX8_readAllOf_9 rfl rfl ?_
          refine x_ldcs dX8_readAllOf_10 (List.mem_of_getElem? (i := 66) rfl) ?_
          refine g_callI (vs := [_, _]) (d' := d - 1) rfl (s_X8_passes (i := 32) (by omega) hR (by omega) (by omega) rfl) dX8_readAllOf_12 kX8_162 (by omega) (by decide) rfl (Nat.le_of_ble_eq_true rfl) (rcv_o (by first | assumption | exact hT.2.1) rfl) (fun x12 M12 h12 => ?_)
          obtain ⟨e12, t12, -⟩ := h12
          have hM := t12 hg
          subst hM
          rw [vP_t hg] at e12
          subst e12
          refine x_if_eq (tgt := 37) dX8_readAllOf_15 (by decide) (fun h15 => ?_) (fun h15 => ?_)
          · try simp only [vP_0, vP_1, vP_n0, vP_n1, Classical.not_not] at h15
            simp at h15
          · try simp only [vP_0, vP_1, vP_n0, vP_n1, Classical.not_not] at h15
            refine x_aload_n dX8_readAllOf_18 rfl rfl ?_
            refine g_callI (vs := [_]) (d' := d - 1) rfl (hA _ _ _ _ (by omega)) dX8_readAllOf_19 kX8_242 (by omega) (by decide) rfl (Nat.le_of_ble_eq_true rfl) (rcv_o (by first | assumption | exact hT.2.1) rfl) (fun x19 M19 h19 => ?_)
            obtain ⟨eA, p1, d1, c1, u1, hM⟩ := h19.1 g hm
            subst eA
            subst hM
            refine x_if_ne (tgt := 27) dX8_readAllOf_22 (by decide) (fun h22 => ?_) (fun h22 => ?_)
            · try simp only [vP_0, vP_1, vP_n0, vP_n1, Classical.not_not] at h22
              simp at h22
            · try simp only [vP_0, vP_1, vP_n0, vP_n1, Classical.not_not] at h22
              refine x_iconst dX8_readAllOf_25 rfl ?_
              refine x_zreturn (by first | exact Or.inl rfl | exact Or.inr rfl | exact vB_r _ | exact vP_r _ | assumption | omega) rfl dX8_readAllOf_26 ?_
              exact hQ _ _ ⟨_, rfl, LOut.f hr2⟩
        · have hr2 : rAll tp e f (p, c, u) = rRow tp e f 32 15 fu (em (y1, y2, y3) 15 0) := by
            rw [hr]
            show (match f (wdB tp e (skB tp e p0), c0, u0) with
              | .inl x => .inl x
              | .inr y => rRow tp e f 32 15 fu (em y 15 0)) = (rRow tp e f 32 15 fu (em (y1, y2, y3) 15 0) : LgR)
            rw [hm]
          have gg := hf _ _ hs2.2 hm 0
          have g1 : wdB tp e (skB tp e p0) ≤ y1 ∧ y1 ≤ e := gg.1
          have g2 : c0 ≤ y2 := gg.2.1
          have g3 : y2 - c0 + 0 ≤ y1 - wdB tp e (skB tp e p0) := gg.2.2.1
          refine x_aload_n dX8_readAllOf_9 rfl rfl ?_
          refine x_ldcs dX8_readAllOf_10 (List.mem_of_getElem? (i := 66) rfl) ?_
          refine g_callI (vs := [_, _]) (d' := d - 1) rfl (s_X8_passes (i := 32) (by omega) hR (by omega) (by omega) rfl) dX8_readAllOf_12 kX8_162 (by omega) (by decide) rfl (Nat.le_of_ble_eq_true rfl) (rcv_o (by first | assumption | exact hT.2.1) rfl) (fun x12 M12 h12 => ?_)
          obtain ⟨e12, t12, -⟩ := h12
          have hM := t12 hg
          subst hM
          rw [vP_t hg] at e12
          subst e12
          refine x_if_eq (tgt := 37) dX8_readAllOf_15 (by decide) (fun h15 => ?_) (fun h15 => ?_)
          · try simp only [vP_0, vP_1, vP_n0, vP_n1, Classical.not_not] at h15
            simp at h15
          · try simp only [vP_0, vP_1, vP_n0, vP_n1, Classical.not_not] at h15
            refine x_aload_n dX8_readAllOf_18 rfl rfl ?_
            refine g_callI (vs := [_]) (d' := d - 1) rfl (hA _ _ _ _ (by omega)) dX8_readAllOf_19 kX8_242 (by omega) (by decide) rfl (Nat.le_of_ble_eq_true rfl) (rcv_o (by first | assumption | exact hT.2.1) rfl) (fun x19 M19 h19 => ?_)
            obtain ⟨eA, b1, hM⟩ := h19.2 _ hm
            subst eA
            have hM2 : M19 = mQr M m y1 b1 dp y2 (drf v y3) := hM
            subst hM2
            refine x_if_ne (tgt := 27) dX8_readAllOf_22 (by decide) (fun h22 => ?_) (fun h22 => ?_)
            · try simp only [vP_0, vP_1, vP_n0, vP_n1, Classical.not_not] at h22
              refine x_aload_n dX8_readAllOf_27 rfl rfl ?_
              refine x_bipush dX8_readAllOf_28 rfl ?_
              refine x_iconst dX8_readAllOf_30 rfl ?_
              refine g_callN (vs := [_, _, _]) (d' := d - 1) rfl (s_X8_emits (by omega) hR (by omega)) dX8_readAllOf_31 kX8_220 (by omega) (by decide) rfl (Nat.le_of_ble_eq_true rfl) (rcv_o (by first | assumption | exact hT.2.1) rfl) (fun M31 h31 => ?_)
              have f31 := h31.symm
              subst f31
              refine x_goto (tgt := 9) dX8_readAllOf_34 (by decide) ?_
              exact ih _ (by omega) y1 _ (y2 + 1) _ fu rfl (by omega) (by omega) hr2
            · try simp only [vP_0, vP_1, vP_n0, vP_n1, Classical.not_not] at h22
              simp at h22
      · replace hr := hr.trans (if_neg hg)
        refine x_aload_n dX8_readAllOf_9 rfl rfl ?_
        refine x_ldcs dX8_readAllOf_10 (List.mem_of_getElem? (i := 66) rfl) ?_
        refine g_callI (vs := [_, _]) (d' := d - 1) rfl (s_X8_passes (i := 32) (by omega) hR (by omega) (by omega) rfl) dX8_readAllOf_12 kX8_162 (by omega) (by decide) rfl (Nat.le_of_ble_eq_true rfl) (rcv_o (by first | assumption | exact hT.2.1) rfl) (fun x12 M12 h12 => ?_)
        obtain ⟨e12, -, f12⟩ := h12
        have hM := f12 hg
        subst hM
        rw [vP_f hg] at e12
        subst e12
        refine x_if_eq (tgt := 37) dX8_readAllOf_15 (by decide) (fun h15 => ?_) (fun h15 => ?_)
        · try simp only [vP_0, vP_1, vP_n0, vP_n1, Classical.not_not] at h15
          refine x_iconst dX8_readAllOf_37 rfl ?_
          refine x_zreturn (by first | exact Or.inl rfl | exact Or.inr rfl | exact vB_r _ | exact vP_r _ | assumption | omega) rfl dX8_readAllOf_38 ?_
          exact hQ _ _ ⟨_, rfl, LOut.s hr⟩
        · try simp only [vP_0, vP_1, vP_n0, vP_n1, Classical.not_not] at h15
          simp at h15
  rcases hm : f (p, c, u) with g | ⟨y1, y2, y3⟩
  · have hr2 : rAll tp e f (p, c, u) = .inl g := by
      unfold rAll
      rw [hm]
    refine x_aload_n dX8_readAllOf_0 rfl rfl ?_
    refine g_callI (vs := [_]) (d' := d - 1) rfl (hA _ _ _ _ (by omega)) dX8_readAllOf_1 kX8_242 (by omega) (by decide) rfl (Nat.le_of_ble_eq_true rfl) (rcv_o (by first | assumption | exact hT.2.1) rfl) (fun x1 M1 h1 => ?_)
    obtain ⟨eA, p1, d1, c1, u1, hM⟩ := h1.1 g hm
    subst eA
    subst hM
    refine x_if_ne (tgt := 9) dX8_readAllOf_4 (by decide) (fun h4 => ?_) (fun h4 => ?_)
    · try simp only [vP_0, vP_1, vP_n0, vP_n1, Classical.not_not] at h4
      simp at h4
    · try simp only [vP_0, vP_1, vP_n0, vP_n1, Classical.not_not] at h4
      refine x_iconst dX8_readAllOf_7 rfl ?_
      refine x_zreturn (by first | exact Or.inl rfl | exact Or.inr rfl | exact vB_r _ | exact vP_r _ | assumption | omega) rfl dX8_readAllOf_8 ?_
      exact hQ _ _ ⟨_, rfl, LOut.f hr2⟩
  · have hr2 : rAll tp e f (p, c, u) = rRow tp e f 32 15 (e.toNat + 1) (y1, y2, y3) := by
      unfold rAll
      rw [hm]
    have gg := hf _ _ hp.1.2 hm 0
    have g1 : p ≤ y1 ∧ y1 ≤ e := gg.1
    have g2 : c ≤ y2 := gg.2.1
    have g3 : y2 - c + 0 ≤ y1 - p := gg.2.2.1
    refine x_aload_n dX8_readAllOf_0 rfl rfl ?_
    refine g_callI (vs := [_]) (d' := d - 1) rfl (hA _ _ _ _ (by omega)) dX8_readAllOf_1 kX8_242 (by omega) (by decide) rfl (Nat.le_of_ble_eq_true rfl) (rcv_o (by first | assumption | exact hT.2.1) rfl) (fun x1 M1 h1 => ?_)
    obtain ⟨eA, b1, hM⟩ := h1.2 _ hm
    subst eA
    have hM2 : M1 = mQr M m y1 b1 dp y2 (drf v y3) := hM
    subst hM2
    refine x_if_ne (tgt := 9) dX8_readAllOf_4 (by decide) (fun h4 => ?_) (fun h4 => ?_)
    · try simp only [vP_0, vP_1, vP_n0, vP_n1, Classical.not_not] at h4
      exact lp _ y1 _ y2 _ (e.toNat + 1) rfl (by omega) (by omega) hr2
    · try simp only [vP_0, vP_1, vP_n0, vP_n1, Classical.not_not] at h4
      simp at h4
theorem s_X8_readCond {f : LgS → LgR} (hf : Un e f) (hd : 25 ≤ d) (hR : RdH M m tp e) (hA : ∀ p b c u, (0 ≤ p ∧ p ≤ e) ∧ 0 ≤ c ∧ c < p → CS G (d - 1) mX8_readAllOf [dR m] (mQr M m p b dp c (drf v u)) (postI fun x M1 => LOut M m dp v (rAll tp e f (p, c, u)) x M1)) (hp : (0 ≤ p ∧ p ≤ e) ∧ 0 ≤ c ∧ c < p) : CS G d mX8_readCond [dR m] (mQr M m p b dp c (drf v u)) (postI fun x M1 => LOut M m dp v (rCnd tp e f (p, c, u)) x M1) := by
  obtain ⟨hT, he, htp, he2, hX⟩ := id hR
  have hT_ := hT; obtain ⟨p0, p1, ⟨c1, c2, c3, c4, c5, c6, c7, c8, c9, c10, c11, c12, c13, c14, c15⟩, ⟨t1, t2, t3, t4, t5, t6, t7, t8, t9, t10, t11, t12, t13, t14, t15⟩⟩ := hT_
  refine CS.mkQ (by decide) (Nat.le_of_ble_eq_true rfl) fun Q hQ => ?_
  have hstep : ∀ (t : Nat) (s : LgS), rRow tp e (rAll tp e f) 33 16 (t + 1) s = (if isW tp (skB tp e s.1) (wdB tp e (skB tp e s.1)) (txB 33) then
      match rAll tp e f (wdB tp e (skB tp e s.1), s.2) with
      | .inl x => .inl x
      | .inr y => rRow tp e (rAll tp e f) 33 16 t (em y 16 0)
    else .inr (skB tp e s.1, s.2)) := fun _ _ => rfl
  have hlen : (0 : Int) < ((txB 33).length : Int) := by decide
  have lp : ∀ (t : Nat) (p0 b0 c0 : Int) (u0 : Vw) (fu : Nat), ((fu : Int)).toNat = t → ((0 ≤ p0 ∧ p0 ≤ e) ∧ 0 ≤ c0 ∧ c0 < p0) → (e - p0 < fu) → (rCnd tp e f (p, c, u) = rRow tp e (rAll tp e f) 33 16 fu (p0, c0, u0)) → WP G d mX8_readCond 9 [some (dR m)] [] (mQr M m p0 b0 dp c0 (drf v u0)) Q := by
    intro t
    induction t using Nat.strongRecOn with
    | _ t ih =>
      intro p0 b0 c0 u0 fu ht q0 hfu hr
      obtain ⟨fu, rfl⟩ : ∃ f2, fu = f2 + 1 := ⟨fu - 1, by omega⟩
      have hs := skB_r (tp := tp) q0.1.2
      have hs2 := wdB_r (tp := tp) hs.2
      rw [hstep fu] at hr
      by_cases hg : isW tp (skB tp e p0) (wdB tp e (skB tp e p0)) (txB 33)
      · have hg1 := hg.1
        replace hr := hr.trans (if_pos hg)
        rcases hm : rAll tp e f (wdB tp e (skB tp e p0), c0, u0) with g | ⟨y1, y2, y3⟩
        · have hr2 : rCnd tp e f (p, c, u) = .inl g := by
            rw [hr]
            show (match rAll tp e f (wdB tp e (skB tp e p0), c0, u0) with
              | .inl x => .inl x
              | .inr y => rRow tp e (rAll tp e f) 33 16 fu (em y 16 0)) = (.inl g : LgR)
            rw [hm]
          refine x_aload_n dX8_readCond_9 rfl rfl ?_
          refine x_ldcsw dX8_readCond_10 (List.mem_of_getElem? (i := 67) rfl) ?_
          refine g_callI (vs := [_, _]) (d' := d - 1) rfl (s_X8_passes (i := 33) (by omega) hR (by omega) (by omega) rfl) dX8_readCond_13 kX8_162 (by omega) (by decide) rfl (Nat.le_of_ble_eq_true rfl) (rcv_o (by first | assumption | exact hT.2.1) rfl) (fun x13 M13 h13 => ?_)
          obtain ⟨e12, t12, -⟩ := h13
          have hM := t12 hg
          subst hM
          rw [vP_t hg] at e12
          subst e12
          refine x_if_eq (tgt := 38) dX8_readCond_16 (by decide) (fun h15 => ?_) (fun h15 => ?_)
          · try simp only [vP_0, vP_1, vP_n0, vP_n1, Classical.not_not] at h15
            simp at h15
          · try simp only [vP_0, vP_1, vP_n0, vP_n1, Classical.not_not] at h15
            refine x_aload_n dX8_readCond_19 rfl rfl ?_
            refine g_callI (vs := [_]) (d' := d - 1) rfl (hA _ _ _ _ (by omega)) dX8_readCond_20 kX8_253 (by omega) (by decide) rfl (Nat.le_of_ble_eq_true rfl) (rcv_o (by first | assumption | exact hT.2.1) rfl) (fun x20 M20 h20 => ?_)
            obtain ⟨eA, p1, d1, c1, u1, hM⟩ := h20.1 g hm
            subst eA
            subst hM
            refine x_if_ne (tgt := 28) dX8_readCond_23 (by decide) (fun h22 => ?_) (fun h22 => ?_)
            · try simp only [vP_0, vP_1, vP_n0, vP_n1, Classical.not_not] at h22
              simp at h22
            · try simp only [vP_0, vP_1, vP_n0, vP_n1, Classical.not_not] at h22
              refine x_iconst dX8_readCond_26 rfl ?_
              refine x_zreturn (by first | exact Or.inl rfl | exact Or.inr rfl | exact vB_r _ | exact vP_r _ | assumption | omega) rfl dX8_readCond_27 ?_
              exact hQ _ _ ⟨_, rfl, LOut.f hr2⟩
        · have hr2 : rCnd tp e f (p, c, u) = rRow tp e (rAll tp e f) 33 16 fu (em (y1, y2, y3) 16 0) := by
            rw [hr]
            show (match rAll tp e f (wdB tp e (skB tp e p0), c0, u0) with
              | .inl x => .inl x
              | .inr y => rRow tp e (rAll tp e f) 33 16 fu (em y 16 0)) = (rRow tp e (rAll tp e f) 33 16 fu (em (y1, y2, y3) 16 0) : LgR)
            rw [hm]
          have gg := rAll_g hf _ _ hs2.2 hm 0
          have g1 : wdB tp e (skB tp e p0) ≤ y1 ∧ y1 ≤ e := gg.1
          have g2 : c0 ≤ y2 := gg.2.1
          have g3 : y2 - c0 + 0 ≤ y1 - wdB tp e (skB tp e p0) := gg.2.2.1
          refine x_aload_n dX8_readCond_9 rfl rfl ?_
          refine x_ldcsw dX8_readCond_10 (List.mem_of_getElem? (i := 67) rfl) ?_
          refine g_callI (vs := [_, _]) (d' := d - 1) rfl (s_X8_passes (i := 33) (by omega) hR (by omega) (by omega) rfl) dX8_readCond_13 kX8_162 (by omega) (by decide) rfl (Nat.le_of_ble_eq_true rfl) (rcv_o (by first | assumption | exact hT.2.1) rfl) (fun x13 M13 h13 => ?_)
          obtain ⟨e12, t12, -⟩ := h13
          have hM := t12 hg
          subst hM
          rw [vP_t hg] at e12
          subst e12
          refine x_if_eq (tgt := 38) dX8_readCond_16 (by decide) (fun h15 => ?_) (fun h15 => ?_)
          · try simp only [vP_0, vP_1, vP_n0, vP_n1, Classical.not_not] at h15
            simp at h15
          · try simp only [vP_0, vP_1, vP_n0, vP_n1, Classical.not_not] at h15
            refine x_aload_n dX8_readCond_19 rfl rfl ?_
            refine g_callI (vs := [_]) (d' := d - 1) rfl (hA _ _ _ _ (by omega)) dX8_readCond_20 kX8_253 (by omega) (by decide) rfl (Nat.le_of_ble_eq_true rfl) (rcv_o (by first | assumption | exact hT.2.1) rfl) (fun x20 M20 h20 => ?_)
            obtain ⟨eA, b1, hM⟩ := h20.2 _ hm
            subst eA
            have hM2 : M20 = mQr M m y1 b1 dp y2 (drf v y3) := hM
            subst hM2
            refine x_if_ne (tgt := 28) dX8_readCond_23 (by decide) (fun h22 => ?_) (fun h22 => ?_)
            · try simp only [vP_0, vP_1, vP_n0, vP_n1, Classical.not_not] at h22
              refine x_aload_n dX8_readCond_28 rfl rfl ?_
              refine x_bipush dX8_readCond_29 rfl ?_
              refine x_iconst dX8_readCond_31 rfl ?_
              refine g_callN (vs := [_, _, _]) (d' := d - 1) rfl (s_X8_emits (by omega) hR (by omega)) dX8_readCond_32 kX8_220 (by omega) (by decide) rfl (Nat.le_of_ble_eq_true rfl) (rcv_o (by first | assumption | exact hT.2.1) rfl) (fun M32 h32 => ?_)
              have f32 := h32.symm
              subst f32
              refine x_goto (tgt := 9) dX8_readCond_35 (by decide) ?_
              exact ih _ (by omega) y1 _ (y2 + 1) _ fu rfl (by omega) (by omega) hr2
            · try simp only [vP_0, vP_1, vP_n0, vP_n1, Classical.not_not] at h22
              simp at h22
      · replace hr := hr.trans (if_neg hg)
        refine x_aload_n dX8_readCond_9 rfl rfl ?_
        refine x_ldcsw dX8_readCond_10 (List.mem_of_getElem? (i := 67) rfl) ?_
        refine g_callI (vs := [_, _]) (d' := d - 1) rfl (s_X8_passes (i := 33) (by omega) hR (by omega) (by omega) rfl) dX8_readCond_13 kX8_162 (by omega) (by decide) rfl (Nat.le_of_ble_eq_true rfl) (rcv_o (by first | assumption | exact hT.2.1) rfl) (fun x13 M13 h13 => ?_)
        obtain ⟨e12, -, f12⟩ := h13
        have hM := f12 hg
        subst hM
        rw [vP_f hg] at e12
        subst e12
        refine x_if_eq (tgt := 38) dX8_readCond_16 (by decide) (fun h15 => ?_) (fun h15 => ?_)
        · try simp only [vP_0, vP_1, vP_n0, vP_n1, Classical.not_not] at h15
          refine x_iconst dX8_readCond_38 rfl ?_
          refine x_zreturn (by first | exact Or.inl rfl | exact Or.inr rfl | exact vB_r _ | exact vP_r _ | assumption | omega) rfl dX8_readCond_39 ?_
          exact hQ _ _ ⟨_, rfl, LOut.s hr⟩
        · try simp only [vP_0, vP_1, vP_n0, vP_n1, Classical.not_not] at h15
          simp at h15
  rcases hm : rAll tp e f (p, c, u) with g | ⟨y1, y2, y3⟩
  · have hr2 : rCnd tp e f (p, c, u) = .inl g := by
      unfold rCnd
      rw [hm]
    refine x_aload_n dX8_readCond_0 rfl rfl ?_
    refine g_callI (vs := [_]) (d' := d - 1) rfl (hA _ _ _ _ (by omega)) dX8_readCond_1 kX8_253 (by omega) (by decide) rfl (Nat.le_of_ble_eq_true rfl) (rcv_o (by first | assumption | exact hT.2.1) rfl) (fun x1 M1 h1 => ?_)
    obtain ⟨eA, p1, d1, c1, u1, hM⟩ := h1.1 g hm
    subst eA
    subst hM
    refine x_if_ne (tgt := 9) dX8_readCond_4 (by decide) (fun h4 => ?_) (fun h4 => ?_)
    · try simp only [vP_0, vP_1, vP_n0, vP_n1, Classical.not_not] at h4
      simp at h4
    · try simp only [vP_0, vP_1, vP_n0, vP_n1, Classical.not_not] at h4
      refine x_iconst dX8_readCond_7 rfl ?_
      refine x_zreturn (by first | exact Or.inl rfl | exact Or.inr rfl | exact vB_r _ | exact vP_r _ | assumption | omega) rfl dX8_readCond_8 ?_
      exact hQ _ _ ⟨_, rfl, LOut.f hr2⟩
  · have hr2 : rCnd tp e f (p, c, u) = rRow tp e (rAll tp e f) 33 16 (e.toNat + 1) (y1, y2, y3) := by
      unfold rCnd
      rw [hm]
    have gg := rAll_g hf _ _ hp.1.2 hm 0
    have g1 : p ≤ y1 ∧ y1 ≤ e := gg.1
    have g2 : c ≤ y2 := gg.2.1
    have g3 : y2 - c + 0 ≤ y1 - p := gg.2.2.1
    refine x_aload_n dX8_readCond_0 rfl rfl ?_
    refine g_callI (vs := [_]) (d' := d - 1) rfl (hA _ _ _ _ (by omega)) dX8_readCond_1 kX8_253 (by omega) (by decide) rfl (Nat.le_of_ble_eq_true rfl) (rcv_o (by first | assumption | exact hT.2.1) rfl) (fun x1 M1 h1 => ?_)
    obtain ⟨eA, b1, hM⟩ := h1.2 _ hm
    subst eA
    have hM2 : M1 = mQr M m y1 b1 dp y2 (drf v y3) := hM
    subst hM2
    refine x_if_ne (tgt := 9) dX8_readCond_4 (by decide) (fun h4 => ?_) (fun h4 => ?_)
    · try simp only [vP_0, vP_1, vP_n0, vP_n1, Classical.not_not] at h4
      exact lp _ y1 _ y2 _ (e.toNat + 1) rfl (by omega) (by omega) hr2
    · try simp only [vP_0, vP_1, vP_n0, vP_n1, Classical.not_not] at h4
      simp at h4
end X8

