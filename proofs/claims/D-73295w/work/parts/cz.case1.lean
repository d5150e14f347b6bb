/-! GuestViewLaw: the law's cases 13 to 25 -/
section LW
variable {G : GW} {d : Nat} {M : Mem} {Q : Res → Mem → Prop} {s : Sg} {N len i : Int} {sc : Int → Int}
theorem cs_13 (hd : 100 ≤ d) (hJ : IV M s N len sc) (hN : N ≤ 900000000) (hi0 : 0 ≤ i ∧ i + 6 ≤ len) (hln : len ≤ 384) (hk : ∀ (M1 : Mem) (s1 : Sg) (N1 : Int) (o5 o6 : Option DV), IV M1 s1 N1 len sc → N1 ≤ N + 120 → mnx M1 ≤ mnx M + 1400 → mns M1 ≤ mns M + 6000 → WP G d mL_law 2737 [some (dR (-5)), some (dR 0), some (dR 744), some (dR 760), some (dI i), o5, o6] [] M1 Q) : WP G d mL_law 996 [some (dR (-5)), some (dR 0), some (dR 744), some (dR 760), some (dI i), none, none] [] M Q := by
  obtain ⟨v, n, A, hi, vi, tp, sz, fa⟩ := s
  obtain ⟨hC0, hT0, hF, h7, s5, hsc⟩ := id hJ
  have hC : CI M v n A hi vi tp sz fa N := hC0
  have s0 : msh M 0 = some (1, 0) := hC.1.1.1.1
  have hA : okA v := hC.2.1.1
  have hL : lawOK v := hC.2.1.2.1
  have hn : 0 ≤ n ∧ n ≤ 12 := hC.2.2.1.2.1
  refine x_aload_n dL_law_996 rfl rfl ?_
  refine g_callN (vs := [_]) (d' := d - 1) rfl (uc_boot (by omega) h7 hC) dL_law_997 kX0_182 (by omega) (by decide) rfl (Nat.le_of_ble_eq_true rfl) (rcv_o (by first | assumption | first | assumption | (simp (disch := omega) only [shI, shR, shL, shC, shD, shW, sh_V, shN_e, shN_n, crI, crL, crC, crW, crV, crR_e, crR_n, crN_e, crN_n, ciR, ciL, ciD, ciN_e, ciN_n, rdI_e, rdI_n, rdC_i, rdC_o, rdW, rdU_e, rdU_n, rdLW, clI, clR, clC, clD, clW, clV, clN_e, clN_n, clL_e, clL_n]; done) | (simp (disch := omega) only [shI, shR, shL, shC, shD, shW, sh_V, shN_e, shN_n, crI, crL, crC, crW, crV, crR_e, crR_n, crN_e, crN_n, ciR, ciL, ciD, ciN_e, ciN_n, rdI_e, rdI_n, rdC_i, rdC_o, rdW, rdU_e, rdU_n, rdLW, clI, clR, clC, clD, clW, clV, clN_e, clN_n, clL_e, clL_n] <;> first | assumption | rfl | omega)) rfl) (fun M997 h997 => ?_)
  obtain ⟨s997, N997, hR997, hN997, hch997⟩ := h997
  obtain ⟨hT997, ⟨me997, mw997⟩, sf997, hs997, hok997, hX997⟩ := hJ.mid hch997
  have hI997 : TI M997 744 v n A hi vi tp sz fa := hT997
  refine x_aload_n dL_law_1000 rfl rfl ?_
  refine g_callN (vs := [_]) (d' := d - 1) rfl (rc_boot (by omega) hI997 hok997 hR997) dL_law_1001 kX0_185 (by omega) (by decide) rfl (Nat.le_of_ble_eq_true rfl) (rcv_o (by first | assumption | first | assumption | (simp (disch := omega) only [shI, shR, shL, shC, shD, shW, sh_V, shN_e, shN_n, crI, crL, crC, crW, crV, crR_e, crR_n, crN_e, crN_n, ciR, ciL, ciD, ciN_e, ciN_n, rdI_e, rdI_n, rdC_i, rdC_o, rdW, rdU_e, rdU_n, rdLW, clI, clR, clC, clD, clW, clV, clN_e, clN_n, clL_e, clL_n]; done) | (simp (disch := omega) only [shI, shR, shL, shC, shD, shW, sh_V, shN_e, shN_n, crI, crL, crC, crW, crV, crR_e, crR_n, crN_e, crN_n, ciR, ciL, ciD, ciN_e, ciN_n, rdI_e, rdI_n, rdC_i, rdC_o, rdW, rdU_e, rdU_n, rdLW, clI, clR, clC, clD, clW, clV, clN_e, clN_n, clL_e, clL_n] <;> first | assumption | rfl | omega)) rfl) (fun M1001 h1001 => ?_)
  obtain ⟨ht1001, hr1001⟩ := h1001
  obtain ⟨hJ1001, la1001, lb1001, tv1001, tm1001, tw1001, te1001⟩ := hJ.st (v' := s997.1) hch997 hr1001 (fun _ _ _ => rfl) ht1001 (xc_boot hF hn hR997)
  refine x_goto (tgt := 2737) dL_law_1004 (by decide) ?_
  exact hk _ _ _ _ _ hJ1001 hN997 la1001 lb1001
theorem cs_14 (hd : 100 ≤ d) (hJ : IV M s N len sc) (hN : N ≤ 900000000) (hi0 : 0 ≤ i ∧ i + 6 ≤ len) (hln : len ≤ 384) (hk : ∀ (M1 : Mem) (s1 : Sg) (N1 : Int) (o5 o6 : Option DV), IV M1 s1 N1 len sc → N1 ≤ N + 120 → mnx M1 ≤ mnx M + 1400 → mns M1 ≤ mns M + 6000 → WP G d mL_law 2737 [some (dR (-5)), some (dR 0), some (dR 744), some (dR 760), some (dI i), o5, o6] [] M1 Q) : WP G d mL_law 1007 [some (dR (-5)), some (dR 0), some (dR 744), some (dR 760), some (dI i), none, none] [] M Q := by
  obtain ⟨v, n, A, hi, vi, tp, sz, fa⟩ := s
  obtain ⟨hC0, hT0, hF, h7, s5, hsc⟩ := id hJ
  have hC : CI M v n A hi vi tp sz fa N := hC0
  have s0 : msh M 0 = some (1, 0) := hC.1.1.1.1
  have hA : okA v := hC.2.1.1
  have hL : lawOK v := hC.2.1.2.1
  have hn : 0 ≤ n ∧ n ≤ 12 := hC.2.2.1.2.1
  by_cases hz : sc (i + 2) = 0
  · refine x_aload_n dL_law_1007 rfl rfl ?_
    refine x_aload_n dL_law_1008 rfl rfl ?_
    refine x_iload dL_law_1009 rfl ?_
    refine x_iconst dL_law_1011 rfl ?_
    first | refine x_iaddN dL_law_1012 (by unfold i32; omega) ?_ | refine x_iadd dL_law_1012 ?_
    refine x_iald dL_law_1013 (by first | assumption | first | assumption | (simp (disch := omega) only [shI, shR, shL, shC, shD, shW, sh_V, shN_e, shN_n, crI, crL, crC, crW, crV, crR_e, crR_n, crN_e, crN_n, ciR, ciL, ciD, ciN_e, ciN_n, rdI_e, rdI_n, rdC_i, rdC_o, rdW, rdU_e, rdU_n, rdLW, clI, clR, clC, clD, clW, clV, clN_e, clN_n, clL_e, clL_n]; done) | (simp (disch := omega) only [shI, shR, shL, shC, shD, shW, sh_V, shN_e, shN_n, crI, crL, crC, crW, crV, crR_e, crR_n, crN_e, crN_n, ciR, ciL, ciD, ciN_e, ciN_n, rdI_e, rdI_n, rdC_i, rdC_o, rdW, rdU_e, rdU_n, rdLW, clI, clR, clC, clD, clW, clV, clN_e, clN_n, clL_e, clL_n] <;> first | assumption | rfl | omega)) (by omega) (by omega) ?_
    rw [hsc]
    refine x_aload_n dL_law_1014 rfl rfl ?_
    refine x_iload dL_law_1015 rfl ?_
    refine x_iconst dL_law_1017 rfl ?_
    first | refine x_iaddN dL_law_1018 (by unfold i32; omega) ?_ | refine x_iadd dL_law_1018 ?_
    refine x_iald dL_law_1019 (by first | assumption | first | assumption | (simp (disch := omega) only [shI, shR, shL, shC, shD, shW, sh_V, shN_e, shN_n, crI, crL, crC, crW, crV, crR_e, crR_n, crN_e, crN_n, ciR, ciL, ciD, ciN_e, ciN_n, rdI_e, rdI_n, rdC_i, rdC_o, rdW, rdU_e, rdU_n, rdLW, clI, clR, clC, clD, clW, clV, clN_e, clN_n, clL_e, clL_n]; done) | (simp (disch := omega) only [shI, shR, shL, shC, shD, shW, sh_V, shN_e, shN_n, crI, crL, crC, crW, crV, crR_e, crR_n, crN_e, crN_n, ciR, ciL, ciD, ciN_e, ciN_n, rdI_e, rdI_n, rdC_i, rdC_o, rdW, rdU_e, rdU_n, rdLW, clI, clR, clC, clD, clW, clV, clN_e, clN_n, clL_e, clL_n] <;> first | assumption | rfl | omega)) (by omega) (by omega) ?_
    rw [hsc]
    refine x_if_eq (tgt := 1027) dL_law_1020 (by decide) (fun b1020 => ?_) (fun b1020 => ?_)
    · refine x_iconst dL_law_1027 rfl ?_
      refine x_aload_n dL_law_1028 rfl rfl ?_
      refine g_callI (vs := [_, _, _, _]) (d' := d - 1) rfl (uc_patch (by omega) h7 hC (Or.inl rfl)) dL_law_1029 kX0_186 (by omega) (by decide) rfl (Nat.le_of_ble_eq_true rfl) (rcv_n) (fun x1029 M1029 h1029 => ?_)
      obtain ⟨y1029, s1029, N1029, hR1029, hy1029, hN1029, hch1029⟩ := h1029
      obtain ⟨hT1029, ⟨me1029, mw1029⟩, sf1029, hs1029, hok1029, hX1029⟩ := hJ.mid hch1029
      have hI1029 : TI M1029 744 v n A hi vi tp sz fa := hT1029
      refine x_istore (L' := [some _, some _, some _, some _, some _, some _, none]) dL_law_1032 (by decide) rfl ?_
      refine x_aload_n dL_law_1034 rfl rfl ?_
      refine x_aload_n dL_law_1035 rfl rfl ?_
      refine x_iload dL_law_1036 rfl ?_
      refine x_iconst dL_law_1038 rfl ?_
      first | refine x_iaddN dL_law_1039 (by unfold i32; omega) ?_ | refine x_iadd dL_law_1039 ?_
      refine x_iald dL_law_1040 (by first | assumption | first | assumption | (simp (disch := omega) only [shI, shR, shL, shC, shD, shW, sh_V, shN_e, shN_n, crI, crL, crC, crW, crV, crR_e, crR_n, crN_e, crN_n, ciR, ciL, ciD, ciN_e, ciN_n, rdI_e, rdI_n, rdC_i, rdC_o, rdW, rdU_e, rdU_n, rdLW, clI, clR, clC, clD, clW, clV, clN_e, clN_n, clL_e, clL_n]; done) | (simp (disch := omega) only [shI, shR, shL, shC, shD, shW, sh_V, shN_e, shN_n, crI, crL, crC, crW, crV, crR_e, crR_n, crN_e, crN_n, ciR, ciL, ciD, ciN_e, ciN_n, rdI_e, rdI_n, rdC_i, rdC_o, rdW, rdU_e, rdU_n, rdLW, clI, clR, clC, clD, clW, clV, clN_e, clN_n, clL_e, clL_n] <;> first | assumption | rfl | omega)) (by omega) (by omega) ?_
      rw [hs1029]
      refine x_aload_n dL_law_1041 rfl rfl ?_
      refine x_iload dL_law_1042 rfl ?_
      refine x_iconst dL_law_1044 rfl ?_
      first | refine x_iaddN dL_law_1045 (by unfold i32; omega) ?_ | refine x_iadd dL_law_1045 ?_
      refine x_iald dL_law_1046 (by first | assumption | first | assumption | (simp (disch := omega) only [shI, shR, shL, shC, shD, shW, sh_V, shN_e, shN_n, crI, crL, crC, crW, crV, crR_e, crR_n, crN_e, crN_n, ciR, ciL, ciD, ciN_e, ciN_n, rdI_e, rdI_n, rdC_i, rdC_o, rdW, rdU_e, rdU_n, rdLW, clI, clR, clC, clD, clW, clV, clN_e, clN_n, clL_e, clL_n]; done) | (simp (disch := omega) only [shI, shR, shL, shC, shD, shW, sh_V, shN_e, shN_n, crI, crL, crC, crW, crV, crR_e, crR_n, crN_e, crN_n, ciR, ciL, ciD, ciN_e, ciN_n, rdI_e, rdI_n, rdC_i, rdC_o, rdW, rdU_e, rdU_n, rdLW, clI, clR, clC, clD, clW, clV, clN_e, clN_n, clL_e, clL_n] <;> first | assumption | rfl | omega)) (by omega) (by omega) ?_
      rw [hs1029]
      refine x_if_eq (tgt := 1054) dL_law_1047 (by decide) (fun b1047 => ?_) (fun b1047 => ?_)
      · refine x_iconst dL_law_1054 rfl ?_
        refine g_callI (vs := [_, _, _]) (d' := d - 1) rfl (rc_patch (by omega) hI1029 hok1029 (Or.inl rfl) hR1029) dL_law_1055 kX0_189 (by omega) (by decide) rfl (Nat.le_of_ble_eq_true rfl) (rcv_o (by first | assumption | first | assumption | (simp (disch := omega) only [shI, shR, shL, shC, shD, shW, sh_V, shN_e, shN_n, crI, crL, crC, crW, crV, crR_e, crR_n, crN_e, crN_n, ciR, ciL, ciD, ciN_e, ciN_n, rdI_e, rdI_n, rdC_i, rdC_o, rdW, rdU_e, rdU_n, rdLW, clI, clR, clC, clD, clW, clV, clN_e, clN_n, clL_e, clL_n]; done) | (simp (disch := omega) only [shI, shR, shL, shC, shD, shW, sh_V, shN_e, shN_n, crI, crL, crC, crW, crV, crR_e, crR_n, crN_e, crN_n, ciR, ciL, ciD, ciN_e, ciN_n, rdI_e, rdI_n, rdC_i, rdC_o, rdW, rdU_e, rdU_n, rdLW, clI, clR, clC, clD, clW, clV, clN_e, clN_n, clL_e, clL_n] <;> first | assumption | rfl | omega)) rfl) (fun x1055 M1055 h1055 => ?_)
        obtain ⟨e1055, hb1055, ⟨w1055, hv1055, ht1055⟩, hr1055⟩ := h1055
        obtain ⟨hJ1055, la1055, lb1055, tv1055, tm1055, tw1055, te1055⟩ := hJ.st (v' := w1055) hch1029 hr1055 hv1055 ht1055 (xc_patch hF hA hL hn hR1029)
        refine x_istore (L' := [some _, some _, some _, some _, some _, some _, some _]) dL_law_1058 (by decide) rfl ?_
        refine x_aload_n dL_law_1060 rfl rfl ?_
        refine g_callI (vs := [_]) (d' := d - 1) rfl (s_X8_thrown (by omega) tw1055) dL_law_1061 kX0_142 (by omega) (by decide) rfl (Nat.le_of_ble_eq_true rfl) (rcv_o (by first | assumption | first | assumption | (simp (disch := omega) only [shI, shR, shL, shC, shD, shW, sh_V, shN_e, shN_n, crI, crL, crC, crW, crV, crR_e, crR_n, crN_e, crN_n, ciR, ciL, ciD, ciN_e, ciN_n, rdI_e, rdI_n, rdC_i, rdC_o, rdW, rdU_e, rdU_n, rdLW, clI, clR, clC, clD, clW, clV, clN_e, clN_n, clL_e, clL_n]; done) | (simp (disch := omega) only [shI, shR, shL, shC, shD, shW, sh_V, shN_e, shN_n, crI, crL, crC, crW, crV, crR_e, crR_n, crN_e, crN_n, ciR, ciL, ciD, ciN_e, ciN_n, rdI_e, rdI_n, rdC_i, rdC_o, rdW, rdU_e, rdU_n, rdLW, clI, clR, clC, clD, clW, clV, clN_e, clN_n, clL_e, clL_n] <;> first | assumption | rfl | omega)) rfl) (fun x1061 M1061 h1061 => ?_)
        obtain ⟨e1061, f1061⟩ := h1061
        subst f1061
        refine x_iload dL_law_1064 rfl ?_
        refine x_icmp_eq (tgt := 1071) dL_law_1066 (by decide) (fun b1066 => ?_) (fun b1066 => ?_)
        · refine x_iload dL_law_1071 rfl ?_
          refine x_if_ne (tgt := 1095) dL_law_1073 (by decide) (fun b1073 => ?_) (fun b1073 => ?_)
          · refine x_goto (tgt := 2737) dL_law_1095 (by decide) ?_
            exact hk _ _ _ _ _ hJ1055 hN1029 la1055 lb1055
          · refine x_aload_n dL_law_1076 rfl rfl ?_
            refine x_iconst dL_law_1077 rfl ?_
            refine x_lald dL_law_1078 (by first | assumption | first | assumption | (simp (disch := omega) only [shI, shR, shL, shC, shD, shW, sh_V, shN_e, shN_n, crI, crL, crC, crW, crV, crR_e, crR_n, crN_e, crN_n, ciR, ciL, ciD, ciN_e, ciN_n, rdI_e, rdI_n, rdC_i, rdC_o, rdW, rdU_e, rdU_n, rdLW, clI, clR, clC, clD, clW, clV, clN_e, clN_n, clL_e, clL_n]; done) | (simp (disch := omega) only [shI, shR, shL, shC, shD, shW, sh_V, shN_e, shN_n, crI, crL, crC, crW, crV, crR_e, crR_n, crN_e, crN_n, ciR, ciL, ciD, ciN_e, ciN_n, rdI_e, rdI_n, rdC_i, rdC_o, rdW, rdU_e, rdU_n, rdLW, clI, clR, clC, clD, clW, clV, clN_e, clN_n, clL_e, clL_n] <;> first | assumption | rfl | omega)) (by omega) (by omega) ?_
            refine x_iload dL_law_1079 rfl ?_
            refine x_if_eq (tgt := 1088) dL_law_1081 (by decide) (fun b1081 => ?_) (fun b1081 => ?_)
            · refine x_lconst (z := 0) dL_law_1088 rfl ?_
              refine x_lcmp dL_law_1089 ?_
              refine x_if_eq (tgt := 1095) dL_law_1090 (by decide) (fun b1090 => ?_) (fun b1090 => ?_)
              · refine x_goto (tgt := 2737) dL_law_1095 (by decide) ?_
                exact hk _ _ _ _ _ hJ1055 hN1029 la1055 lb1055
              · exact absurd (jlcmp_0.mpr (by have h0 : x1029 = 0 := (by omega); have a1 := tm1055; have a2 := hy1029 h0; have a3 := hb1055 h0; have a4 := b_patch hR1029 h0; omega)) b1090
            · refine x_lconst (z := 1) dL_law_1084 rfl ?_
              refine x_goto (tgt := 1089) dL_law_1085 (by decide) ?_
              refine x_lcmp dL_law_1089 ?_
              refine x_if_eq (tgt := 1095) dL_law_1090 (by decide) (fun b1090 => ?_) (fun b1090 => ?_)
              · refine x_goto (tgt := 2737) dL_law_1095 (by decide) ?_
                exact hk _ _ _ _ _ hJ1055 hN1029 la1055 lb1055
              · exact absurd (jlcmp_0.mpr (by have h0 : x1029 = 0 := (by omega); have a1 := tm1055; have a2 := hy1029 h0; have a3 := hb1055 h0; have a4 := b_patch hR1029 h0; omega)) b1090
        · exact absurd (e1061.trans e1055) b1066
      · exact absurd hz b1047
    · exact absurd hz b1020
  · refine x_aload_n dL_law_1007 rfl rfl ?_
    refine x_aload_n dL_law_1008 rfl rfl ?_
    refine x_iload dL_law_1009 rfl ?_
    refine x_iconst dL_law_1011 rfl ?_
    first | refine x_iaddN dL_law_1012 (by unfold i32; omega) ?_ | refine x_iadd dL_law_1012 ?_
    refine x_iald dL_law_1013 (by first | assumption | first | assumption | (simp (disch := omega) only [shI, shR, shL, shC, shD, shW, sh_V, shN_e, shN_n, crI, crL, crC, crW, crV, crR_e, crR_n, crN_e, crN_n, ciR, ciL, ciD, ciN_e, ciN_n, rdI_e, rdI_n, rdC_i, rdC_o, rdW, rdU_e, rdU_n, rdLW, clI, clR, clC, clD, clW, clV, clN_e, clN_n, clL_e, clL_n]; done) | (simp (disch := omega) only [shI, shR, shL, shC, shD, shW, sh_V, shN_e, shN_n, crI, crL, crC, crW, crV, crR_e, crR_n, crN_e, crN_n, ciR, ciL, ciD, ciN_e, ciN_n, rdI_e, rdI_n, rdC_i, rdC_o, rdW, rdU_e, rdU_n, rdLW, clI, clR, clC, clD, clW, clV, clN_e, clN_n, clL_e, clL_n] <;> first | assumption | rfl | omega)) (by omega) (by omega) ?_
    rw [hsc]
    refine x_aload_n dL_law_1014 rfl rfl ?_
    refine x_iload dL_law_1015 rfl ?_
    refine x_iconst dL_law_1017 rfl ?_
    first | refine x_iaddN dL_law_1018 (by unfold i32; omega) ?_ | refine x_iadd dL_law_1018 ?_
    refine x_iald dL_law_1019 (by first | assumption | first | assumption | (simp (disch := omega) only [shI, shR, shL, shC, shD, shW, sh_V, shN_e, shN_n, crI, crL, crC, crW, crV, crR_e, crR_n, crN_e, crN_n, ciR, ciL, ciD, ciN_e, ciN_n, rdI_e, rdI_n, rdC_i, rdC_o, rdW, rdU_e, rdU_n, rdLW, clI, clR, clC, clD, clW, clV, clN_e, clN_n, clL_e, clL_n]; done) | (simp (disch := omega) only [shI, shR, shL, shC, shD, shW, sh_V, shN_e, shN_n, crI, crL, crC, crW, crV, crR_e, crR_n, crN_e, crN_n, ciR, ciL, ciD, ciN_e, ciN_n, rdI_e, rdI_n, rdC_i, rdC_o, rdW, rdU_e, rdU_n, rdLW, clI, clR, clC, clD, clW, clV, clN_e, clN_n, clL_e, clL_n] <;> first | assumption | rfl | omega)) (by omega) (by omega) ?_
    rw [hsc]
    refine x_if_eq (tgt := 1027) dL_law_1020 (by decide) (fun b1020 => ?_) (fun b1020 => ?_)
    · exact absurd b1020 hz
    · refine x_iconst dL_law_1023 rfl ?_
      refine x_goto (tgt := 1028) dL_law_1024 (by decide) ?_
      refine x_aload_n dL_law_1028 rfl rfl ?_
      refine g_callI (vs := [_, _, _, _]) (d' := d - 1) rfl (uc_patch (by omega) h7 hC (Or.inr rfl)) dL_law_1029 kX0_186 (by omega) (by decide) rfl (Nat.le_of_ble_eq_true rfl) (rcv_n) (fun x1029 M1029 h1029 => ?_)
      obtain ⟨y1029, s1029, N1029, hR1029, hy1029, hN1029, hch1029⟩ := h1029
      obtain ⟨hT1029, ⟨me1029, mw1029⟩, sf1029, hs1029, hok1029, hX1029⟩ := hJ.mid hch1029
      have hI1029 : TI M1029 744 v n A hi vi tp sz fa := hT1029
      refine x_istore (L' := [some _, some _, some _, some _, some _, some _, none]) dL_law_1032 (by decide) rfl ?_
      refine x_aload_n dL_law_1034 rfl rfl ?_
      refine x_aload_n dL_law_1035 rfl rfl ?_
      refine x_iload dL_law_1036 rfl ?_
      refine x_iconst dL_law_1038 rfl ?_
      first | refine x_iaddN dL_law_1039 (by unfold i32; omega) ?_ | refine x_iadd dL_law_1039 ?_
      refine x_iald dL_law_1040 (by first | assumption | first | assumption | (simp (disch := omega) only [shI, shR, shL, shC, shD, shW, sh_V, shN_e, shN_n, crI, crL, crC, crW, crV, crR_e, crR_n, crN_e, crN_n, ciR, ciL, ciD, ciN_e, ciN_n, rdI_e, rdI_n, rdC_i, rdC_o, rdW, rdU_e, rdU_n, rdLW, clI, clR, clC, clD, clW, clV, clN_e, clN_n, clL_e, clL_n]; done) | (simp (disch := omega) only [shI, shR, shL, shC, shD, shW, sh_V, shN_e, shN_n, crI, crL, crC, crW, crV, crR_e, crR_n, crN_e, crN_n, ciR, ciL, ciD, ciN_e, ciN_n, rdI_e, rdI_n, rdC_i, rdC_o, rdW, rdU_e, rdU_n, rdLW, clI, clR, clC, clD, clW, clV, clN_e, clN_n, clL_e, clL_n] <;> first | assumption | rfl | omega)) (by omega) (by omega) ?_
      rw [hs1029]
      refine x_aload_n dL_law_1041 rfl rfl ?_
      refine x_iload dL_law_1042 rfl ?_
      refine x_iconst dL_law_1044 rfl ?_
      first | refine x_iaddN dL_law_1045 (by unfold i32; omega) ?_ | refine x_iadd dL_law_1045 ?_
      refine x_iald dL_law_1046 (by first | assumption | first | assumption | (simp (disch := omega) only [shI, shR, shL, shC, shD, shW, sh_V, shN_e, shN_n, crI, crL, crC, crW, crV, crR_e, crR_n, crN_e, crN_n, ciR, ciL, ciD, ciN_e, ciN_n, rdI_e, rdI_n, rdC_i, rdC_o, rdW, rdU_e, rdU_n, rdLW, clI, clR, clC, clD, clW, clV, clN_e, clN_n, clL_e, clL_n]; done) | (simp (disch := omega) only [shI, shR, shL, shC, shD, shW, sh_V, shN_e, shN_n, crI, crL, crC, crW, crV, crR_e, crR_n, crN_e, crN_n, ciR, ciL, ciD, ciN_e, ciN_n, rdI_e, rdI_n, rdC_i, rdC_o, rdW, rdU_e, rdU_n, rdLW, clI, clR, clC, clD, clW, clV, clN_e, clN_n, clL_e, clL_n] <;> first | assumption | rfl | omega)) (by omega) (by omega) ?_
      rw [hs1029]
      refine x_if_eq (tgt := 1054) dL_law_1047 (by decide) (fun b1047 => ?_) (fun b1047 => ?_)
      · exact absurd b1047 hz
      · refine x_iconst dL_law_1050 rfl ?_
        refine x_goto (tgt := 1055) dL_law_1051 (by decide) ?_
        refine g_callI (vs := [_, _, _]) (d' := d - 1) rfl (rc_patch (by omega) hI1029 hok1029 (Or.inr rfl) hR1029) dL_law_1055 kX0_189 (by omega) (by decide) rfl (Nat.le_of_ble_eq_true rfl) (rcv_o (by first | assumption | first | assumption | (simp (disch := omega) only [shI, shR, shL, shC, shD, shW, sh_V, shN_e, shN_n, crI, crL, crC, crW, crV, crR_e, crR_n, crN_e, crN_n, ciR, ciL, ciD, ciN_e, ciN_n, rdI_e, rdI_n, rdC_i, rdC_o, rdW, rdU_e, rdU_n, rdLW, clI, clR, clC, clD, clW, clV, clN_e, clN_n, clL_e, clL_n]; done) | (simp (disch := omega) only [shI, shR, shL, shC, shD, shW, sh_V, shN_e, shN_n, crI, crL, crC, crW, crV, crR_e, crR_n, crN_e, crN_n, ciR, ciL, ciD, ciN_e, ciN_n, rdI_e, rdI_n, rdC_i, rdC_o, rdW, rdU_e, rdU_n, rdLW, clI, clR, clC, clD, clW, clV, clN_e, clN_n, clL_e, clL_n] <;> first | assumption | rfl | omega)) rfl) (fun x1055 M1055 h1055 => ?_)
        obtain ⟨e1055, hb1055, ⟨w1055, hv1055, ht1055⟩, hr1055⟩ := h1055
        obtain ⟨hJ1055, la1055, lb1055, tv1055, tm1055, tw1055, te1055⟩ := hJ.st (v' := w1055) hch1029 hr1055 hv1055 ht1055 (xc_patch hF hA hL hn hR1029)
        refine x_istore (L' := [some _, some _, some _, some _, some _, some _, some _]) dL_law_1058 (by decide) rfl ?_
        refine x_aload_n dL_law_1060 rfl rfl ?_
        refine g_callI (vs := [_]) (d' := d - 1) rfl (s_X8_thrown (by omega) tw1055) dL_law_1061 kX0_142 (by omega) (by decide) rfl (Nat.le_of_ble_eq_true rfl) (rcv_o (by first | assumption | first | assumption | (simp (disch := omega) only [shI, shR, shL, shC, shD, shW, sh_V, shN_e, shN_n, crI, crL, crC, crW, crV, crR_e, crR_n, crN_e, crN_n, ciR, ciL, ciD, ciN_e, ciN_n, rdI_e, rdI_n, rdC_i, rdC_o, rdW, rdU_e, rdU_n, rdLW, clI, clR, clC, clD, clW, clV, clN_e, clN_n, clL_e, clL_n]; done) | (simp (disch := omega) only [shI, shR, shL, shC, shD, shW, sh_V, shN_e, shN_n, crI, crL, crC, crW, crV, crR_e, crR_n, crN_e, crN_n, ciR, ciL, ciD, ciN_e, ciN_n, rdI_e, rdI_n, rdC_i, rdC_o, rdW, rdU_e, rdU_n, rdLW, clI, clR, clC, clD, clW, clV, clN_e, clN_n, clL_e, clL_n] <;> first | assumption | rfl | omega)) rfl) (fun x1061 M1061 h1061 => ?_)
        obtain ⟨e1061, f1061⟩ := h1061
        subst f1061
        refine x_iload dL_law_1064 rfl ?_
        refine x_icmp_eq (tgt := 1071) dL_law_1066 (by decide) (fun b1066 => ?_) (fun b1066 => ?_)
        · refine x_iload dL_law_1071 rfl ?_
          refine x_if_ne (tgt := 1095) dL_law_1073 (by decide) (fun b1073 => ?_) (fun b1073 => ?_)
          · refine x_goto (tgt := 2737) dL_law_1095 (by decide) ?_
            exact hk _ _ _ _ _ hJ1055 hN1029 la1055 lb1055
          · refine x_aload_n dL_law_1076 rfl rfl ?_
            refine x_iconst dL_law_1077 rfl ?_
            refine x_lald dL_law_1078 (by first | assumption | first | assumption | (simp (disch := omega) only [shI, shR, shL, shC, shD, shW, sh_V, shN_e, shN_n, crI, crL, crC, crW, crV, crR_e, crR_n, crN_e, crN_n, ciR, ciL, ciD, ciN_e, ciN_n, rdI_e, rdI_n, rdC_i, rdC_o, rdW, rdU_e, rdU_n, rdLW, clI, clR, clC, clD, clW, clV, clN_e, clN_n, clL_e, clL_n]; done) | (simp (disch := omega) only [shI, shR, shL, shC, shD, shW, sh_V, shN_e, shN_n, crI, crL, crC, crW, crV, crR_e, crR_n, crN_e, crN_n, ciR, ciL, ciD, ciN_e, ciN_n, rdI_e, rdI_n, rdC_i, rdC_o, rdW, rdU_e, rdU_n, rdLW, clI, clR, clC, clD, clW, clV, clN_e, clN_n, clL_e, clL_n] <;> first | assumption | rfl | omega)) (by omega) (by omega) ?_
            refine x_iload dL_law_1079 rfl ?_
            refine x_if_eq (tgt := 1088) dL_law_1081 (by decide) (fun b1081 => ?_) (fun b1081 => ?_)
            · refine x_lconst (z := 0) dL_law_1088 rfl ?_
              refine x_lcmp dL_law_1089 ?_
              refine x_if_eq (tgt := 1095) dL_law_1090 (by decide) (fun b1090 => ?_) (fun b1090 => ?_)
              · refine x_goto (tgt := 2737) dL_law_1095 (by decide) ?_
                exact hk _ _ _ _ _ hJ1055 hN1029 la1055 lb1055
              · exact absurd (jlcmp_0.mpr (by have h0 : x1029 = 0 := (by omega); have a1 := tm1055; have a2 := hy1029 h0; have a3 := hb1055 h0; have a4 := b_patch hR1029 h0; omega)) b1090
            · refine x_lconst (z := 1) dL_law_1084 rfl ?_
              refine x_goto (tgt := 1089) dL_law_1085 (by decide) ?_
              refine x_lcmp dL_law_1089 ?_
              refine x_if_eq (tgt := 1095) dL_law_1090 (by decide) (fun b1090 => ?_) (fun b1090 => ?_)
              · refine x_goto (tgt := 2737) dL_law_1095 (by decide) ?_
                exact hk _ _ _ _ _ hJ1055 hN1029 la1055 lb1055
              · exact absurd (jlcmp_0.mpr (by have h0 : x1029 = 0 := (by omega); have a1 := tm1055; have a2 := hy1029 h0; have a3 := hb1055 h0; have a4 := b_patch hR1029 h0; omega)) b1090
        · exact absurd (e1061.trans e1055) b1066
theorem cs_15 (hd : 100 ≤ d) (hJ : IV M s N len sc) (hN : N ≤ 900000000) (hi0 : 0 ≤ i ∧ i + 6 ≤ len) (hln : len ≤ 384) (hk : ∀ (M1 : Mem) (s1 : Sg) (N1 : Int) (o5 o6 : Option DV), IV M1 s1 N1 len sc → N1 ≤ N + 120 → mnx M1 ≤ mnx M + 1400 → mns M1 ≤ mns M + 6000 → WP G d mL_law 2737 [some (dR (-5)), some (dR 0), some (dR 744), some (dR 760), some (dI i), o5, o6] [] M1 Q) : WP G d mL_law 1098 [some (dR (-5)), some (dR 0), some (dR 744), some (dR 760), some (dI i), none, none] [] M Q := by
  obtain ⟨v, n, A, hi, vi, tp, sz, fa⟩ := s
  obtain ⟨hC0, hT0, hF, h7, s5, hsc⟩ := id hJ
  have hC : CI M v n A hi vi tp sz fa N := hC0
  have s0 : msh M 0 = some (1, 0) := hC.1.1.1.1
  have hA : okA v := hC.2.1.1
  have hL : lawOK v := hC.2.1.2.1
  have hn : 0 ≤ n ∧ n ≤ 12 := hC.2.2.1.2.1
  by_cases hz : sc (i + 2) = 0
  · refine x_aload_n dL_law_1098 rfl rfl ?_
    refine x_aload_n dL_law_1099 rfl rfl ?_
    refine x_iload dL_law_1100 rfl ?_
    refine x_iconst dL_law_1102 rfl ?_
    first | refine x_iaddN dL_law_1103 (by unfold i32; omega) ?_ | refine x_iadd dL_law_1103 ?_
    refine x_iald dL_law_1104 (by first | assumption | first | assumption | (simp (disch := omega) only [shI, shR, shL, shC, shD, shW, sh_V, shN_e, shN_n, crI, crL, crC, crW, crV, crR_e, crR_n, crN_e, crN_n, ciR, ciL, ciD, ciN_e, ciN_n, rdI_e, rdI_n, rdC_i, rdC_o, rdW, rdU_e, rdU_n, rdLW, clI, clR, clC, clD, clW, clV, clN_e, clN_n, clL_e, clL_n]; done) | (simp (disch := omega) only [shI, shR, shL, shC, shD, shW, sh_V, shN_e, shN_n, crI, crL, crC, crW, crV, crR_e, crR_n, crN_e, crN_n, ciR, ciL, ciD, ciN_e, ciN_n, rdI_e, rdI_n, rdC_i, rdC_o, rdW, rdU_e, rdU_n, rdLW, clI, clR, clC, clD, clW, clV, clN_e, clN_n, clL_e, clL_n] <;> first | assumption | rfl | omega)) (by omega) (by omega) ?_
    rw [hsc]
    refine x_aload_n dL_law_1105 rfl rfl ?_
    refine x_iload dL_law_1106 rfl ?_
    refine x_iconst dL_law_1108 rfl ?_
    first | refine x_iaddN dL_law_1109 (by unfold i32; omega) ?_ | refine x_iadd dL_law_1109 ?_
    refine x_iald dL_law_1110 (by first | assumption | first | assumption | (simp (disch := omega) only [shI, shR, shL, shC, shD, shW, sh_V, shN_e, shN_n, crI, crL, crC, crW, crV, crR_e, crR_n, crN_e, crN_n, ciR, ciL, ciD, ciN_e, ciN_n, rdI_e, rdI_n, rdC_i, rdC_o, rdW, rdU_e, rdU_n, rdLW, clI, clR, clC, clD, clW, clV, clN_e, clN_n, clL_e, clL_n]; done) | (simp (disch := omega) only [shI, shR, shL, shC, shD, shW, sh_V, shN_e, shN_n, crI, crL, crC, crW, crV, crR_e, crR_n, crN_e, crN_n, ciR, ciL, ciD, ciN_e, ciN_n, rdI_e, rdI_n, rdC_i, rdC_o, rdW, rdU_e, rdU_n, rdLW, clI, clR, clC, clD, clW, clV, clN_e, clN_n, clL_e, clL_n] <;> first | assumption | rfl | omega)) (by omega) (by omega) ?_
    rw [hsc]
    refine x_if_eq (tgt := 1118) dL_law_1111 (by decide) (fun b1111 => ?_) (fun b1111 => ?_)
    · refine x_iconst dL_law_1118 rfl ?_
      refine x_aload_n dL_law_1119 rfl rfl ?_
      refine g_callI (vs := [_, _, _, _]) (d' := d - 1) rfl (uc_guard (by omega) h7 hC (Or.inl rfl)) dL_law_1120 kX0_190 (by omega) (by decide) rfl (Nat.le_of_ble_eq_true rfl) (rcv_n) (fun x1120 M1120 h1120 => ?_)
      obtain ⟨y1120, s1120, N1120, hR1120, hy1120, hN1120, hch1120⟩ := h1120
      obtain ⟨hT1120, ⟨me1120, mw1120⟩, sf1120, hs1120, hok1120, hX1120⟩ := hJ.mid hch1120
      have hI1120 : TI M1120 744 v n A hi vi tp sz fa := hT1120
      refine x_istore (L' := [some _, some _, some _, some _, some _, some _, none]) dL_law_1123 (by decide) rfl ?_
      refine x_aload_n dL_law_1125 rfl rfl ?_
      refine x_aload_n dL_law_1126 rfl rfl ?_
      refine x_iload dL_law_1127 rfl ?_
      refine x_iconst dL_law_1129 rfl ?_
      first | refine x_iaddN dL_law_1130 (by unfold i32; omega) ?_ | refine x_iadd dL_law_1130 ?_
      refine x_iald dL_law_1131 (by first | assumption | first | assumption | (simp (disch := omega) only [shI, shR, shL, shC, shD, shW, sh_V, shN_e, shN_n, crI, crL, crC, crW, crV, crR_e, crR_n, crN_e, crN_n, ciR, ciL, ciD, ciN_e, ciN_n, rdI_e, rdI_n, rdC_i, rdC_o, rdW, rdU_e, rdU_n, rdLW, clI, clR, clC, clD, clW, clV, clN_e, clN_n, clL_e, clL_n]; done) | (simp (disch := omega) only [shI, shR, shL, shC, shD, shW, sh_V, shN_e, shN_n, crI, crL, crC, crW, crV, crR_e, crR_n, crN_e, crN_n, ciR, ciL, ciD, ciN_e, ciN_n, rdI_e, rdI_n, rdC_i, rdC_o, rdW, rdU_e, rdU_n, rdLW, clI, clR, clC, clD, clW, clV, clN_e, clN_n, clL_e, clL_n] <;> first | assumption | rfl | omega)) (by omega) (by omega) ?_
      rw [hs1120]
      refine x_aload_n dL_law_1132 rfl rfl ?_
      refine x_iload dL_law_1133 rfl ?_
      refine x_iconst dL_law_1135 rfl ?_
      first | refine x_iaddN dL_law_1136 (by unfold i32; omega) ?_ | refine x_iadd dL_law_1136 ?_
      refine x_iald dL_law_1137 (by first | assumption | first | assumption | (simp (disch := omega) only [shI, shR, shL, shC, shD, shW, sh_V, shN_e, shN_n, crI, crL, crC, crW, crV, crR_e, crR_n, crN_e, crN_n, ciR, ciL, ciD, ciN_e, ciN_n, rdI_e, rdI_n, rdC_i, rdC_o, rdW, rdU_e, rdU_n, rdLW, clI, clR, clC, clD, clW, clV, clN_e, clN_n, clL_e, clL_n]; done) | (simp (disch := omega) only [shI, shR, shL, shC, shD, shW, sh_V, shN_e, shN_n, crI, crL, crC, crW, crV, crR_e, crR_n, crN_e, crN_n, ciR, ciL, ciD, ciN_e, ciN_n, rdI_e, rdI_n, rdC_i, rdC_o, rdW, rdU_e, rdU_n, rdLW, clI, clR, clC, clD, clW, clV, clN_e, clN_n, clL_e, clL_n] <;> first | assumption | rfl | omega)) (by omega) (by omega) ?_
      rw [hs1120]
      refine x_if_eq (tgt := 1145) dL_law_1138 (by decide) (fun b1138 => ?_) (fun b1138 => ?_)
      · refine x_iconst dL_law_1145 rfl ?_
        refine g_callI (vs := [_, _, _]) (d' := d - 1) rfl (rc_guard (by omega) hI1120 hok1120 (Or.inl rfl) hR1120) dL_law_1146 kX0_192 (by omega) (by decide) rfl (Nat.le_of_ble_eq_true rfl) (rcv_o (by first | assumption | first | assumption | (simp (disch := omega) only [shI, shR, shL, shC, shD, shW, sh_V, shN_e, shN_n, crI, crL, crC, crW, crV, crR_e, crR_n, crN_e, crN_n, ciR, ciL, ciD, ciN_e, ciN_n, rdI_e, rdI_n, rdC_i, rdC_o, rdW, rdU_e, rdU_n, rdLW, clI, clR, clC, clD, clW, clV, clN_e, clN_n, clL_e, clL_n]; done) | (simp (disch := omega) only [shI, shR, shL, shC, shD, shW, sh_V, shN_e, shN_n, crI, crL, crC, crW, crV, crR_e, crR_n, crN_e, crN_n, ciR, ciL, ciD, ciN_e, ciN_n, rdI_e, rdI_n, rdC_i, rdC_o, rdW, rdU_e, rdU_n, rdLW, clI, clR, clC, clD, clW, clV, clN_e, clN_n, clL_e, clL_n] <;> first | assumption | rfl | omega)) rfl) (fun x1146 M1146 h1146 => ?_)
        obtain ⟨e1146, hb1146, ⟨w1146, hv1146, ht1146⟩, hr1146⟩ := h1146
        obtain ⟨hJ1146, la1146, lb1146, tv1146, tm1146, tw1146, te1146⟩ := hJ.st (v' := w1146) hch1120 hr1146 hv1146 ht1146 (xc_guard hF hA hL hn hR1120)
        refine x_istore (L' := [some _, some _, some _, some _, some _, some _, some _]) dL_law_1149 (by decide) rfl ?_
        refine x_aload_n dL_law_1151 rfl rfl ?_
        refine g_callI (vs := [_]) (d' := d - 1) rfl (s_X8_thrown (by omega) tw1146) dL_law_1152 kX0_142 (by omega) (by decide) rfl (Nat.le_of_ble_eq_true rfl) (rcv_o (by first | assumption | first | assumption | (simp (disch := omega) only [shI, shR, shL, shC, shD, shW, sh_V, shN_e, shN_n, crI, crL, crC, crW, crV, crR_e, crR_n, crN_e, crN_n, ciR, ciL, ciD, ciN_e, ciN_n, rdI_e, rdI_n, rdC_i, rdC_o, rdW, rdU_e, rdU_n, rdLW, clI, clR, clC, clD, clW, clV, clN_e, clN_n, clL_e, clL_n]; done) | (simp (disch := omega) only [shI, shR, shL, shC, shD, shW, sh_V, shN_e, shN_n, crI, crL, crC, crW, crV, crR_e, crR_n, crN_e, crN_n, ciR, ciL, ciD, ciN_e, ciN_n, rdI_e, rdI_n, rdC_i, rdC_o, rdW, rdU_e, rdU_n, rdLW, clI, clR, clC, clD, clW, clV, clN_e, clN_n, clL_e, clL_n] <;> first | assumption | rfl | omega)) rfl) (fun x1152 M1152 h1152 => ?_)
        obtain ⟨e1152, f1152⟩ := h1152
        subst f1152
        refine x_iload dL_law_1155 rfl ?_
        refine x_icmp_eq (tgt := 1162) dL_law_1157 (by decide) (fun b1157 => ?_) (fun b1157 => ?_)
        · refine x_iload dL_law_1162 rfl ?_
          refine x_if_ne (tgt := 1186) dL_law_1164 (by decide) (fun b1164 => ?_) (fun b1164 => ?_)
          · refine x_goto (tgt := 2737) dL_law_1186 (by decide) ?_
            exact hk _ _ _ _ _ hJ1146 hN1120 la1146 lb1146
          · refine x_aload_n dL_law_1167 rfl rfl ?_
            refine x_iconst dL_law_1168 rfl ?_
            refine x_lald dL_law_1169 (by first | assumption | first | assumption | (simp (disch := omega) only [shI, shR, shL, shC, shD, shW, sh_V, shN_e, shN_n, crI, crL, crC, crW, crV, crR_e, crR_n, crN_e, crN_n, ciR, ciL, ciD, ciN_e, ciN_n, rdI_e, rdI_n, rdC_i, rdC_o, rdW, rdU_e, rdU_n, rdLW, clI, clR, clC, clD, clW, clV, clN_e, clN_n, clL_e, clL_n]; done) | (simp (disch := omega) only [shI, shR, shL, shC, shD, shW, sh_V, shN_e, shN_n, crI, crL, crC, crW, crV, crR_e, crR_n, crN_e, crN_n, ciR, ciL, ciD, ciN_e, ciN_n, rdI_e, rdI_n, rdC_i, rdC_o, rdW, rdU_e, rdU_n, rdLW, clI, clR, clC, clD, clW, clV, clN_e, clN_n, clL_e, clL_n] <;> first | assumption | rfl | omega)) (by omega) (by omega) ?_
            refine x_iload dL_law_1170 rfl ?_
            refine x_if_eq (tgt := 1179) dL_law_1172 (by decide) (fun b1172 => ?_) (fun b1172 => ?_)
            · refine x_lconst (z := 0) dL_law_1179 rfl ?_
              refine x_lcmp dL_law_1180 ?_
              refine x_if_eq (tgt := 1186) dL_law_1181 (by decide) (fun b1181 => ?_) (fun b1181 => ?_)
              · refine x_goto (tgt := 2737) dL_law_1186 (by decide) ?_
                exact hk _ _ _ _ _ hJ1146 hN1120 la1146 lb1146
              · exact absurd (jlcmp_0.mpr (by have h0 : x1120 = 0 := (by omega); have a1 := tm1146; have a2 := hy1120 h0; have a3 := hb1146 h0; have a4 := b_guard hR1120 h0; omega)) b1181
            · refine x_lconst (z := 1) dL_law_1175 rfl ?_
              refine x_goto (tgt := 1180) dL_law_1176 (by decide) ?_
              refine x_lcmp dL_law_1180 ?_
              refine x_if_eq (tgt := 1186) dL_law_1181 (by decide) (fun b1181 => ?_) (fun b1181 => ?_)
              · refine x_goto (tgt := 2737) dL_law_1186 (by decide) ?_
                exact hk _ _ _ _ _ hJ1146 hN1120 la1146 lb1146
              · exact absurd (jlcmp_0.mpr (by have h0 : x1120 = 0 := (by omega); have a1 := tm1146; have a2 := hy1120 h0; have a3 := hb1146 h0; have a4 := b_guard hR1120 h0; omega)) b1181
        · exact absurd (e1152.trans e1146) b1157
      · exact absurd hz b1138
    · exact absurd hz b1111
  · refine x_aload_n dL_law_1098 rfl rfl ?_
    refine x_aload_n dL_law_1099 rfl rfl ?_
    refine x_iload dL_law_1100 rfl ?_
    refine x_iconst dL_law_1102 rfl ?_
    first | refine x_iaddN dL_law_1103 (by unfold i32; omega) ?_ | refine x_iadd dL_law_1103 ?_
    refine x_iald dL_law_1104 (by first | assumption | first | assumption | (simp (disch := omega) only [shI, shR, shL, shC, shD, shW, sh_V, shN_e, shN_n, crI, crL, crC, crW, crV, crR_e, crR_n, crN_e, crN_n, ciR, ciL, ciD, ciN_e, ciN_n, rdI_e, rdI_n, rdC_i, rdC_o, rdW, rdU_e, rdU_n, rdLW, clI, clR, clC, clD, clW, clV, clN_e, clN_n, clL_e, clL_n]; done) | (simp (disch := omega) only [shI, shR, shL, shC, shD, shW, sh_V, shN_e, shN_n, crI, crL, crC, crW, crV, crR_e, crR_n, crN_e, crN_n, ciR, ciL, ciD, ciN_e, ciN_n, rdI_e, rdI_n, rdC_i, rdC_o, rdW, rdU_e, rdU_n, rdLW, clI, clR, clC, clD, clW, clV, clN_e, clN_n, clL_e, clL_n] <;> first | assumption | rfl | omega)) (by omega) (by omega) ?_
    rw [hsc]
    refine x_aload_n dL_law_1105 rfl rfl ?_
    refine x_iload dL_law_1106 rfl ?_
    refine x_iconst dL_law_1108 rfl ?_
    first | refine x_iaddN dL_law_1109 (by unfold i32; omega) ?_ | refine x_iadd dL_law_1109 ?_
    refine x_iald dL_law_1110 (by first | assumption | first | assumption | (simp (disch := omega) only [shI, shR, shL, shC, shD, shW, sh_V, shN_e, shN_n, crI, crL, crC, crW, crV, crR_e, crR_n, crN_e, crN_n, ciR, ciL, ciD, ciN_e, ciN_n, rdI_e, rdI_n, rdC_i, rdC_o, rdW, rdU_e, rdU_n, rdLW, clI, clR, clC, clD, clW, clV, clN_e, clN_n, clL_e, clL_n]; done) | (simp (disch := omega) only [shI, shR, shL, shC, shD, shW, sh_V, shN_e, shN_n, crI, crL, crC, crW, crV, crR_e, crR_n, crN_e, crN_n, ciR, ciL, ciD, ciN_e, ciN_n, rdI_e, rdI_n, rdC_i, rdC_o, rdW, rdU_e, rdU_n, rdLW, clI, clR, clC, clD, clW, clV, clN_e, clN_n, clL_e, clL_n] <;> first | assumption | rfl | omega)) (by omega) (by omega) ?_
    rw [hsc]
    refine x_if_eq (tgt := 1118) dL_law_1111 (by decide) (fun b1111 => ?_) (fun b1111 => ?_)
    · exact absurd b1111 hz
    · refine x_iconst dL_law_1114 rfl ?_
      refine x_goto (tgt := 1119) dL_law_1115 (by decide) ?_
      refine x_aload_n dL_law_1119 rfl rfl ?_
      refine g_callI (vs := [_, _, _, _]) (d' := d - 1) rfl (uc_guard (by omega) h7 hC (Or.inr rfl)) dL_law_1120 kX0_190 (by omega) (by decide) rfl (Nat.le_of_ble_eq_true rfl) (rcv_n) (fun x1120 M1120 h1120 => ?_)
      obtain ⟨y1120, s1120, N1120, hR1120, hy1120, hN1120, hch1120⟩ := h1120
      obtain ⟨hT1120, ⟨me1120, mw1120⟩, sf1120, hs1120, hok1120, hX1120⟩ := hJ.mid hch1120
      have hI1120 : TI M1120 744 v n A hi vi tp sz fa := hT1120
      refine x_istore (L' := [some _, some _, some _, some _, some _, some _, none]) dL_law_1123 (by decide) rfl ?_
      refine x_aload_n dL_law_1125 rfl rfl ?_
      refine x_aload_n dL_law_1126 rfl rfl ?_
      refine x_iload dL_law_1127 rfl ?_
      refine x_iconst dL_law_1129 rfl ?_
      first | refine x_iaddN dL_law_1130 (by unfold i32; omega) ?_ | refine x_iadd dL_law_1130 ?_
      refine x_iald dL_law_1131 (by first | assumption | first | assumption | (simp (disch := omega) only [shI, shR, shL, shC, shD, shW, sh_V, shN_e, shN_n, crI, crL, crC, crW, crV, crR_e, crR_n, crN_e, crN_n, ciR, ciL, ciD, ciN_e, ciN_n, rdI_e, rdI_n, rdC_i, rdC_o, rdW, rdU_e, rdU_n, rdLW, clI, clR, clC, clD, clW, clV, clN_e, clN_n, clL_e, clL_n]; done) | (simp (disch := omega) only [shI, shR, shL, shC, shD, shW, sh_V, shN_e, shN_n, crI, crL, crC, crW, crV, crR_e, crR_n, crN_e, crN_n, ciR, ciL, ciD, ciN_e, ciN_n, rdI_e, rdI_n, rdC_i, rdC_o, rdW, rdU_e, rdU_n, rdLW, clI, clR, clC, clD, clW, clV, clN_e, clN_n, clL_e, clL_n] <;> first | assumption | rfl | omega)) (by omega) (by omega) ?_
      rw [hs1120]
      refine x_aload_n dL_law_1132 rfl rfl ?_
      refine x_iload dL_law_1133 rfl ?_
      refine x_iconst dL_law_1135 rfl ?_
      first | refine x_iaddN dL_law_1136 (by unfold i32; omega) ?_ | refine x_iadd dL_law_1136 ?_
      refine x_iald dL_law_1137 (by first | assumption | first | assumption | (simp (disch := omega) only [shI, shR, shL, shC, shD, shW, sh_V, shN_e, shN_n, crI, crL, crC, crW, crV, crR_e, crR_n, crN_e, crN_n, ciR, ciL, ciD, ciN_e, ciN_n, rdI_e, rdI_n, rdC_i, rdC_o, rdW, rdU_e, rdU_n, rdLW, clI, clR, clC, clD, clW, clV, clN_e, clN_n, clL_e, clL_n]; done) | (simp (disch := omega) only [shI, shR, shL, shC, shD, shW, sh_V, shN_e, shN_n, crI, crL, crC, crW, crV, crR_e, crR_n, crN_e, crN_n, ciR, ciL, ciD, ciN_e, ciN_n, rdI_e, rdI_n, rdC_i, rdC_o, rdW, rdU_e, rdU_n, rdLW, clI, clR, clC, clD, clW, clV, clN_e, clN_n, clL_e, clL_n] <;> first | assumption | rfl | omega)) (by omega) (by omega) ?_
      rw [hs1120]
      refine x_if_eq (tgt := 1145) dL_law_1138 (by decide) (fun b1138 => ?_) (fun b1138 => ?_)
      · exact absurd b1138 hz
      · refine x_iconst dL_law_1141 rfl ?_
        refine x_goto (tgt := 1146) dL_law_1142 (by decide) ?_
        refine g_callI (vs := [_, _, _]) (d' := d - 1) rfl (rc_guard (by omega) hI1120 hok1120 (Or.inr rfl) hR1120) dL_law_1146 kX0_192 (by omega) (by decide) rfl (Nat.le_of_ble_eq_true rfl) (rcv_o (by first | assumption | first | assumption | (simp (disch := omega) only [shI, shR, shL, shC, shD, shW, sh_V, shN_e, shN_n, crI, crL, crC, crW, crV, crR_e, crR_n, crN_e, crN_n, ciR, ciL, ciD, ciN_e, ciN_n, rdI_e, rdI_n, rdC_i, rdC_o, rdW, rdU_e, rdU_n, rdLW, clI, clR, clC, clD, clW, clV, clN_e, clN_n, clL_e, clL_n]; done) | (simp (disch := omega) only [shI, shR, shL, shC, shD, shW, sh_V, shN_e, shN_n, crI, crL, crC, crW, crV, crR_e, crR_n, crN_e, crN_n, ciR, ciL, ciD, ciN_e, ciN_n, rdI_e, rdI_n, rdC_i, rdC_o, rdW, rdU_e, rdU_n, rdLW, clI, clR, clC, clD, clW, clV, clN_e, clN_n, clL_e, clL_n] <;> first | assumption | rfl | omega)) rfl) (fun x1146 M1146 h1146 => ?_)
        obtain ⟨e1146, hb1146, ⟨w1146, hv1146, ht1146⟩, hr1146⟩ := h1146
        obtain ⟨hJ1146, la1146, lb1146, tv1146, tm1146, tw1146, te1146⟩ := hJ.st (v' := w1146) hch1120 hr1146 hv1146 ht1146 (xc_guard hF hA hL hn hR1120)
        refine x_istore (L' := [some _, some _, some _, some _, some _, some _, some _]) dL_law_1149 (by decide) rfl ?_
        refine x_aload_n dL_law_1151 rfl rfl ?_
        refine g_callI (vs := [_]) (d' := d - 1) rfl (s_X8_thrown (by omega) tw1146) dL_law_1152 kX0_142 (by omega) (by decide) rfl (Nat.le_of_ble_eq_true rfl) (rcv_o (by first | assumption | first | assumption | (simp (disch := omega) only [shI, shR, shL, shC, shD, shW, sh_V, shN_e, shN_n, crI, crL, crC, crW, crV, crR_e, crR_n, crN_e, crN_n, ciR, ciL, ciD, ciN_e, ciN_n, rdI_e, rdI_n, rdC_i, rdC_o, rdW, rdU_e, rdU_n, rdLW, clI, clR, clC, clD, clW, clV, clN_e, clN_n, clL_e, clL_n]; done) | (simp (disch := omega) only [shI, shR, shL, shC, shD, shW, sh_V, shN_e, shN_n, crI, crL, crC, crW, crV, crR_e, crR_n, crN_e, crN_n, ciR, ciL, ciD, ciN_e, ciN_n, rdI_e, rdI_n, rdC_i, rdC_o, rdW, rdU_e, rdU_n, rdLW, clI, clR, clC, clD, clW, clV, clN_e, clN_n, clL_e, clL_n] <;> first | assumption | rfl | omega)) rfl) (fun x1152 M1152 h1152 => ?_)
        obtain ⟨e1152, f1152⟩ := h1152
        subst f1152
        refine x_iload dL_law_1155 rfl ?_
        refine x_icmp_eq (tgt := 1162) dL_law_1157 (by decide) (fun b1157 => ?_) (fun b1157 => ?_)
        · refine x_iload dL_law_1162 rfl ?_
          refine x_if_ne (tgt := 1186) dL_law_1164 (by decide) (fun b1164 => ?_) (fun b1164 => ?_)
          · refine x_goto (tgt := 2737) dL_law_1186 (by decide) ?_
            exact hk _ _ _ _ _ hJ1146 hN1120 la1146 lb1146
          · refine x_aload_n dL_law_1167 rfl rfl ?_
            refine x_iconst dL_law_1168 rfl ?_
            refine x_lald dL_law_1169 (by first | assumption | first | assumption | (simp (disch := omega) only [shI, shR, shL, shC, shD, shW, sh_V, shN_e, shN_n, crI, crL, crC, crW, crV, crR_e, crR_n, crN_e, crN_n, ciR, ciL, ciD, ciN_e, ciN_n, rdI_e, rdI_n, rdC_i, rdC_o, rdW, rdU_e, rdU_n, rdLW, clI, clR, clC, clD, clW, clV, clN_e, clN_n, clL_e, clL_n]; done) | (simp (disch := omega) only [shI, shR, shL, shC, shD, shW, sh_V, shN_e, shN_n, crI, crL, crC, crW, crV, crR_e, crR_n, crN_e, crN_n, ciR, ciL, ciD, ciN_e, ciN_n, rdI_e, rdI_n, rdC_i, rdC_o, rdW, rdU_e, rdU_n, rdLW, clI, clR, clC, clD, clW, clV, clN_e, clN_n, clL_e, clL_n] <;> first | assumption | rfl | omega)) (by omega) (by omega) ?_
            refine x_iload dL_law_1170 rfl ?_
            refine x_if_eq (tgt := 1179) dL_law_1172 (by decide) (fun b1172 => ?_) (fun b1172 => ?_)
            · refine x_lconst (z := 0) dL_law_1179 rfl ?_
              refine x_lcmp dL_law_1180 ?_
              refine x_if_eq (tgt := 1186) dL_law_1181 (by decide) (fun b1181 => ?_) (fun b1181 => ?_)
              · refine x_goto (tgt := 2737) dL_law_1186 (by decide) ?_
                exact hk _ _ _ _ _ hJ1146 hN1120 la1146 lb1146
              · exact absurd (jlcmp_0.mpr (by have h0 : x1120 = 0 := (by omega); have a1 := tm1146; have a2 := hy1120 h0; have a3 := hb1146 h0; have a4 := b_guard hR1120 h0; omega)) b1181
            · refine x_lconst (z := 1) dL_law_1175 rfl ?_
              refine x_goto (tgt := 1180) dL_law_1176 (by decide) ?_
              refine x_lcmp dL_law_1180 ?_
              refine x_if_eq (tgt := 1186) dL_law_1181 (by decide) (fun b1181 => ?_) (fun b1181 => ?_)
              · refine x_goto (tgt := 2737) dL_law_1186 (by decide) ?_
                exact hk _ _ _ _ _ hJ1146 hN1120 la1146 lb1146
              · exact absurd (jlcmp_0.mpr (by have h0 : x1120 = 0 := (by omega); have a1 := tm1146; have a2 := hy1120 h0; have a3 := hb1146 h0; have a4 := b_guard hR1120 h0; omega)) b1181
        · exact absurd (e1152.trans e1146) b1157
theorem cs_16 (hd : 100 ≤ d) (hJ : IV M s N len sc) (hN : N ≤ 900000000) (hi0 : 0 ≤ i ∧ i + 6 ≤ len) (hln : len ≤ 384) (hk : ∀ (M1 : Mem) (s1 : Sg) (N1 : Int) (o5 o6 : Option DV), IV M1 s1 N1 len sc → N1 ≤ N + 120 → mnx M1 ≤ mnx M + 1400 → mns M1 ≤ mns M + 6000 → WP G d mL_law 2737 [some (dR (-5)), some (dR 0), some (dR 744), some (dR 760), some (dI i), o5, o6] [] M1 Q) : WP G d mL_law 1189 [some (dR (-5)), some (dR 0), some (dR 744), some (dR 760), some (dI i), none, none] [] M Q := by
  obtain ⟨v, n, A, hi, vi, tp, sz, fa⟩ := s
  obtain ⟨hC0, hT0, hF, h7, s5, hsc⟩ := id hJ
  have hC : CI M v n A hi vi tp sz fa N := hC0
  have s0 : msh M 0 = some (1, 0) := hC.1.1.1.1
  have hA : okA v := hC.2.1.1
  have hL : lawOK v := hC.2.1.2.1
  have hn : 0 ≤ n ∧ n ≤ 12 := hC.2.2.1.2.1
  refine x_aload_n dL_law_1189 rfl rfl ?_
  refine x_aload_n dL_law_1190 rfl rfl ?_
  refine x_iload dL_law_1191 rfl ?_
  refine x_iconst dL_law_1193 rfl ?_
  first | refine x_iaddN dL_law_1194 (by unfold i32; omega) ?_ | refine x_iadd dL_law_1194 ?_
  refine x_iald dL_law_1195 (by first | assumption | first | assumption | (simp (disch := omega) only [shI, shR, shL, shC, shD, shW, sh_V, shN_e, shN_n, crI, crL, crC, crW, crV, crR_e, crR_n, crN_e, crN_n, ciR, ciL, ciD, ciN_e, ciN_n, rdI_e, rdI_n, rdC_i, rdC_o, rdW, rdU_e, rdU_n, rdLW, clI, clR, clC, clD, clW, clV, clN_e, clN_n, clL_e, clL_n]; done) | (simp (disch := omega) only [shI, shR, shL, shC, shD, shW, sh_V, shN_e, shN_n, crI, crL, crC, crW, crV, crR_e, crR_n, crN_e, crN_n, ciR, ciL, ciD, ciN_e, ciN_n, rdI_e, rdI_n, rdC_i, rdC_o, rdW, rdU_e, rdU_n, rdLW, clI, clR, clC, clD, clW, clV, clN_e, clN_n, clL_e, clL_n] <;> first | assumption | rfl | omega)) (by omega) (by omega) ?_
  rw [hsc]
  refine x_aload_n dL_law_1196 rfl rfl ?_
  refine x_iload dL_law_1197 rfl ?_
  refine x_iconst dL_law_1199 rfl ?_
  first | refine x_iaddN dL_law_1200 (by unfold i32; omega) ?_ | refine x_iadd dL_law_1200 ?_
  refine x_iald dL_law_1201 (by first | assumption | first | assumption | (simp (disch := omega) only [shI, shR, shL, shC, shD, shW, sh_V, shN_e, shN_n, crI, crL, crC, crW, crV, crR_e, crR_n, crN_e, crN_n, ciR, ciL, ciD, ciN_e, ciN_n, rdI_e, rdI_n, rdC_i, rdC_o, rdW, rdU_e, rdU_n, rdLW, clI, clR, clC, clD, clW, clV, clN_e, clN_n, clL_e, clL_n]; done) | (simp (disch := omega) only [shI, shR, shL, shC, shD, shW, sh_V, shN_e, shN_n, crI, crL, crC, crW, crV, crR_e, crR_n, crN_e, crN_n, ciR, ciL, ciD, ciN_e, ciN_n, rdI_e, rdI_n, rdC_i, rdC_o, rdW, rdU_e, rdU_n, rdLW, clI, clR, clC, clD, clW, clV, clN_e, clN_n, clL_e, clL_n] <;> first | assumption | rfl | omega)) (by omega) (by omega) ?_
  rw [hsc]
  refine x_aload_n dL_law_1202 rfl rfl ?_
  refine g_callI (vs := [_, _, _, _]) (d' := d - 1) rfl (uc_put (by omega) h7 hC) dL_law_1203 kX0_193 (by omega) (by decide) rfl (Nat.le_of_ble_eq_true rfl) (rcv_n) (fun x1203 M1203 h1203 => ?_)
  obtain ⟨y1203, s1203, N1203, hR1203, hy1203, hN1203, hch1203⟩ := h1203
  obtain ⟨hT1203, ⟨me1203, mw1203⟩, sf1203, hs1203, hok1203, hX1203⟩ := hJ.mid hch1203
  have hI1203 : TI M1203 744 v n A hi vi tp sz fa := hT1203
  refine x_istore (L' := [some _, some _, some _, some _, some _, some _, none]) dL_law_1206 (by decide) rfl ?_
  refine x_aload_n dL_law_1208 rfl rfl ?_
  refine x_aload_n dL_law_1209 rfl rfl ?_
  refine x_iload dL_law_1210 rfl ?_
  refine x_iconst dL_law_1212 rfl ?_
  first | refine x_iaddN dL_law_1213 (by unfold i32; omega) ?_ | refine x_iadd dL_law_1213 ?_
  refine x_iald dL_law_1214 (by first | assumption | first | assumption | (simp (disch := omega) only [shI, shR, shL, shC, shD, shW, sh_V, shN_e, shN_n, crI, crL, crC, crW, crV, crR_e, crR_n, crN_e, crN_n, ciR, ciL, ciD, ciN_e, ciN_n, rdI_e, rdI_n, rdC_i, rdC_o, rdW, rdU_e, rdU_n, rdLW, clI, clR, clC, clD, clW, clV, clN_e, clN_n, clL_e, clL_n]; done) | (simp (disch := omega) only [shI, shR, shL, shC, shD, shW, sh_V, shN_e, shN_n, crI, crL, crC, crW, crV, crR_e, crR_n, crN_e, crN_n, ciR, ciL, ciD, ciN_e, ciN_n, rdI_e, rdI_n, rdC_i, rdC_o, rdW, rdU_e, rdU_n, rdLW, clI, clR, clC, clD, clW, clV, clN_e, clN_n, clL_e, clL_n] <;> first | assumption | rfl | omega)) (by omega) (by omega) ?_
  rw [hs1203]
  refine x_aload_n dL_law_1215 rfl rfl ?_
  refine x_iload dL_law_1216 rfl ?_
  refine x_iconst dL_law_1218 rfl ?_
  first | refine x_iaddN dL_law_1219 (by unfold i32; omega) ?_ | refine x_iadd dL_law_1219 ?_
  refine x_iald dL_law_1220 (by first | assumption | first | assumption | (simp (disch := omega) only [shI, shR, shL, shC, shD, shW, sh_V, shN_e, shN_n, crI, crL, crC, crW, crV, crR_e, crR_n, crN_e, crN_n, ciR, ciL, ciD, ciN_e, ciN_n, rdI_e, rdI_n, rdC_i, rdC_o, rdW, rdU_e, rdU_n, rdLW, clI, clR, clC, clD, clW, clV, clN_e, clN_n, clL_e, clL_n]; done) | (simp (disch := omega) only [shI, shR, shL, shC, shD, shW, sh_V, shN_e, shN_n, crI, crL, crC, crW, crV, crR_e, crR_n, crN_e, crN_n, ciR, ciL, ciD, ciN_e, ciN_n, rdI_e, rdI_n, rdC_i, rdC_o, rdW, rdU_e, rdU_n, rdLW, clI, clR, clC, clD, clW, clV, clN_e, clN_n, clL_e, clL_n] <;> first | assumption | rfl | omega)) (by omega) (by omega) ?_
  rw [hs1203]
  refine g_callI (vs := [_, _, _]) (d' := d - 1) rfl (rc_put (by omega) hI1203 hok1203 hR1203) dL_law_1221 kX0_195 (by omega) (by decide) rfl (Nat.le_of_ble_eq_true rfl) (rcv_o (by first | assumption | first | assumption | (simp (disch := omega) only [shI, shR, shL, shC, shD, shW, sh_V, shN_e, shN_n, crI, crL, crC, crW, crV, crR_e, crR_n, crN_e, crN_n, ciR, ciL, ciD, ciN_e, ciN_n, rdI_e, rdI_n, rdC_i, rdC_o, rdW, rdU_e, rdU_n, rdLW, clI, clR, clC, clD, clW, clV, clN_e, clN_n, clL_e, clL_n]; done) | (simp (disch := omega) only [shI, shR, shL, shC, shD, shW, sh_V, shN_e, shN_n, crI, crL, crC, crW, crV, crR_e, crR_n, crN_e, crN_n, ciR, ciL, ciD, ciN_e, ciN_n, rdI_e, rdI_n, rdC_i, rdC_o, rdW, rdU_e, rdU_n, rdLW, clI, clR, clC, clD, clW, clV, clN_e, clN_n, clL_e, clL_n] <;> first | assumption | rfl | omega)) rfl) (fun x1221 M1221 h1221 => ?_)
  obtain ⟨e1221, hb1221, ⟨w1221, hv1221, ht1221⟩, hr1221⟩ := h1221
  obtain ⟨hJ1221, la1221, lb1221, tv1221, tm1221, tw1221, te1221⟩ := hJ.st (v' := w1221) hch1203 hr1221 hv1221 ht1221 (xc_put hF hA hL hn hR1203)
  refine x_istore (L' := [some _, some _, some _, some _, some _, some _, some _]) dL_law_1224 (by decide) rfl ?_
  refine x_aload_n dL_law_1226 rfl rfl ?_
  refine g_callI (vs := [_]) (d' := d - 1) rfl (s_X8_thrown (by omega) tw1221) dL_law_1227 kX0_142 (by omega) (by decide) rfl (Nat.le_of_ble_eq_true rfl) (rcv_o (by first | assumption | first | assumption | (simp (disch := omega) only [shI, shR, shL, shC, shD, shW, sh_V, shN_e, shN_n, crI, crL, crC, crW, crV, crR_e, crR_n, crN_e, crN_n, ciR, ciL, ciD, ciN_e, ciN_n, rdI_e, rdI_n, rdC_i, rdC_o, rdW, rdU_e, rdU_n, rdLW, clI, clR, clC, clD, clW, clV, clN_e, clN_n, clL_e, clL_n]; done) | (simp (disch := omega) only [shI, shR, shL, shC, shD, shW, sh_V, shN_e, shN_n, crI, crL, crC, crW, crV, crR_e, crR_n, crN_e, crN_n, ciR, ciL, ciD, ciN_e, ciN_n, rdI_e, rdI_n, rdC_i, rdC_o, rdW, rdU_e, rdU_n, rdLW, clI, clR, clC, clD, clW, clV, clN_e, clN_n, clL_e, clL_n] <;> first | assumption | rfl | omega)) rfl) (fun x1227 M1227 h1227 => ?_)
  obtain ⟨e1227, f1227⟩ := h1227
  subst f1227
  refine x_iload dL_law_1230 rfl ?_
  refine x_icmp_eq (tgt := 1237) dL_law_1232 (by decide) (fun b1232 => ?_) (fun b1232 => ?_)
  · refine x_iload dL_law_1237 rfl ?_
    refine x_if_ne (tgt := 1254) dL_law_1239 (by decide) (fun b1239 => ?_) (fun b1239 => ?_)
    · refine x_goto (tgt := 2737) dL_law_1254 (by decide) ?_
      exact hk _ _ _ _ _ hJ1221 hN1203 la1221 lb1221
    · refine x_aload_n dL_law_1242 rfl rfl ?_
      refine x_iconst dL_law_1243 rfl ?_
      refine x_lald dL_law_1244 (by first | assumption | first | assumption | (simp (disch := omega) only [shI, shR, shL, shC, shD, shW, sh_V, shN_e, shN_n, crI, crL, crC, crW, crV, crR_e, crR_n, crN_e, crN_n, ciR, ciL, ciD, ciN_e, ciN_n, rdI_e, rdI_n, rdC_i, rdC_o, rdW, rdU_e, rdU_n, rdLW, clI, clR, clC, clD, clW, clV, clN_e, clN_n, clL_e, clL_n]; done) | (simp (disch := omega) only [shI, shR, shL, shC, shD, shW, sh_V, shN_e, shN_n, crI, crL, crC, crW, crV, crR_e, crR_n, crN_e, crN_n, ciR, ciL, ciD, ciN_e, ciN_n, rdI_e, rdI_n, rdC_i, rdC_o, rdW, rdU_e, rdU_n, rdLW, clI, clR, clC, clD, clW, clV, clN_e, clN_n, clL_e, clL_n] <;> first | assumption | rfl | omega)) (by omega) (by omega) ?_
      refine x_iload dL_law_1245 rfl ?_
      refine x_i2l dL_law_1247 ?_
      refine x_lcmp dL_law_1248 ?_
      refine x_if_eq (tgt := 1254) dL_law_1249 (by decide) (fun b1249 => ?_) (fun b1249 => ?_)
      · refine x_goto (tgt := 2737) dL_law_1254 (by decide) ?_
        exact hk _ _ _ _ _ hJ1221 hN1203 la1221 lb1221
      · exact absurd (jlcmp_0.mpr (by have h0 : x1203 = 0 := (by omega); have a1 := tm1221; have a2 := hy1203 h0; have a3 := hb1221 h0; omega)) b1249
  · exact absurd (e1227.trans e1221) b1232
theorem cs_17 (hd : 100 ≤ d) (hJ : IV M s N len sc) (hN : N ≤ 900000000) (hi0 : 0 ≤ i ∧ i + 6 ≤ len) (hln : len ≤ 384) (hk : ∀ (M1 : Mem) (s1 : Sg) (N1 : Int) (o5 o6 : Option DV), IV M1 s1 N1 len sc → N1 ≤ N + 120 → mnx M1 ≤ mnx M + 1400 → mns M1 ≤ mns M + 6000 → WP G d mL_law 2737 [some (dR (-5)), some (dR 0), some (dR 744), some (dR 760), some (dI i), o5, o6] [] M1 Q) : WP G d mL_law 1257 [some (dR (-5)), some (dR 0), some (dR 744), some (dR 760), some (dI i), none, none] [] M Q := by
  obtain ⟨v, n, A, hi, vi, tp, sz, fa⟩ := s
  obtain ⟨hC0, hT0, hF, h7, s5, hsc⟩ := id hJ
  have hC : CI M v n A hi vi tp sz fa N := hC0
  have s0 : msh M 0 = some (1, 0) := hC.1.1.1.1
  have hA : okA v := hC.2.1.1
  have hL : lawOK v := hC.2.1.2.1
  have hn : 0 ≤ n ∧ n ≤ 12 := hC.2.2.1.2.1
  refine x_aload_n dL_law_1257 rfl rfl ?_
  refine x_aload_n dL_law_1258 rfl rfl ?_
  refine x_iload dL_law_1259 rfl ?_
  refine x_iconst dL_law_1261 rfl ?_
  first | refine x_iaddN dL_law_1262 (by unfold i32; omega) ?_ | refine x_iadd dL_law_1262 ?_
  refine x_iald dL_law_1263 (by first | assumption | first | assumption | (simp (disch := omega) only [shI, shR, shL, shC, shD, shW, sh_V, shN_e, shN_n, crI, crL, crC, crW, crV, crR_e, crR_n, crN_e, crN_n, ciR, ciL, ciD, ciN_e, ciN_n, rdI_e, rdI_n, rdC_i, rdC_o, rdW, rdU_e, rdU_n, rdLW, clI, clR, clC, clD, clW, clV, clN_e, clN_n, clL_e, clL_n]; done) | (simp (disch := omega) only [shI, shR, shL, shC, shD, shW, sh_V, shN_e, shN_n, crI, crL, crC, crW, crV, crR_e, crR_n, crN_e, crN_n, ciR, ciL, ciD, ciN_e, ciN_n, rdI_e, rdI_n, rdC_i, rdC_o, rdW, rdU_e, rdU_n, rdLW, clI, clR, clC, clD, clW, clV, clN_e, clN_n, clL_e, clL_n] <;> first | assumption | rfl | omega)) (by omega) (by omega) ?_
  rw [hsc]
  refine x_aload_n dL_law_1264 rfl rfl ?_
  refine x_iload dL_law_1265 rfl ?_
  refine x_iconst dL_law_1267 rfl ?_
  first | refine x_iaddN dL_law_1268 (by unfold i32; omega) ?_ | refine x_iadd dL_law_1268 ?_
  refine x_iald dL_law_1269 (by first | assumption | first | assumption | (simp (disch := omega) only [shI, shR, shL, shC, shD, shW, sh_V, shN_e, shN_n, crI, crL, crC, crW, crV, crR_e, crR_n, crN_e, crN_n, ciR, ciL, ciD, ciN_e, ciN_n, rdI_e, rdI_n, rdC_i, rdC_o, rdW, rdU_e, rdU_n, rdLW, clI, clR, clC, clD, clW, clV, clN_e, clN_n, clL_e, clL_n]; done) | (simp (disch := omega) only [shI, shR, shL, shC, shD, shW, sh_V, shN_e, shN_n, crI, crL, crC, crW, crV, crR_e, crR_n, crN_e, crN_n, ciR, ciL, ciD, ciN_e, ciN_n, rdI_e, rdI_n, rdC_i, rdC_o, rdW, rdU_e, rdU_n, rdLW, clI, clR, clC, clD, clW, clV, clN_e, clN_n, clL_e, clL_n] <;> first | assumption | rfl | omega)) (by omega) (by omega) ?_
  rw [hsc]
  refine x_aload_n dL_law_1270 rfl rfl ?_
  refine g_callI (vs := [_, _, _, _]) (d' := d - 1) rfl (uc_store (by omega) h7 hC) dL_law_1271 kX0_196 (by omega) (by decide) rfl (Nat.le_of_ble_eq_true rfl) (rcv_n) (fun x1271 M1271 h1271 => ?_)
  obtain ⟨y1271, s1271, N1271, hR1271, hy1271, hN1271, hch1271⟩ := h1271
  obtain ⟨hT1271, ⟨me1271, mw1271⟩, sf1271, hs1271, hok1271, hX1271⟩ := hJ.mid hch1271
  have hI1271 : TI M1271 744 v n A hi vi tp sz fa := hT1271
  refine x_istore (L' := [some _, some _, some _, some _, some _, some _, none]) dL_law_1274 (by decide) rfl ?_
  refine x_aload_n dL_law_1276 rfl rfl ?_
  refine x_aload_n dL_law_1277 rfl rfl ?_
  refine x_iload dL_law_1278 rfl ?_
  refine x_iconst dL_law_1280 rfl ?_
  first | refine x_iaddN dL_law_1281 (by unfold i32; omega) ?_ | refine x_iadd dL_law_1281 ?_
  refine x_iald dL_law_1282 (by first | assumption | first | assumption | (simp (disch := omega) only [shI, shR, shL, shC, shD, shW, sh_V, shN_e, shN_n, crI, crL, crC, crW, crV, crR_e, crR_n, crN_e, crN_n, ciR, ciL, ciD, ciN_e, ciN_n, rdI_e, rdI_n, rdC_i, rdC_o, rdW, rdU_e, rdU_n, rdLW, clI, clR, clC, clD, clW, clV, clN_e, clN_n, clL_e, clL_n]; done) | (simp (disch := omega) only [shI, shR, shL, shC, shD, shW, sh_V, shN_e, shN_n, crI, crL, crC, crW, crV, crR_e, crR_n, crN_e, crN_n, ciR, ciL, ciD, ciN_e, ciN_n, rdI_e, rdI_n, rdC_i, rdC_o, rdW, rdU_e, rdU_n, rdLW, clI, clR, clC, clD, clW, clV, clN_e, clN_n, clL_e, clL_n] <;> first | assumption | rfl | omega)) (by omega) (by omega) ?_
  rw [hs1271]
  refine x_aload_n dL_law_1283 rfl rfl ?_
  refine x_iload dL_law_1284 rfl ?_
  refine x_iconst dL_law_1286 rfl ?_
  first | refine x_iaddN dL_law_1287 (by unfold i32; omega) ?_ | refine x_iadd dL_law_1287 ?_
  refine x_iald dL_law_1288 (by first | assumption | first | assumption | (simp (disch := omega) only [shI, shR, shL, shC, shD, shW, sh_V, shN_e, shN_n, crI, crL, crC, crW, crV, crR_e, crR_n, crN_e, crN_n, ciR, ciL, ciD, ciN_e, ciN_n, rdI_e, rdI_n, rdC_i, rdC_o, rdW, rdU_e, rdU_n, rdLW, clI, clR, clC, clD, clW, clV, clN_e, clN_n, clL_e, clL_n]; done) | (simp (disch := omega) only [shI, shR, shL, shC, shD, shW, sh_V, shN_e, shN_n, crI, crL, crC, crW, crV, crR_e, crR_n, crN_e, crN_n, ciR, ciL, ciD, ciN_e, ciN_n, rdI_e, rdI_n, rdC_i, rdC_o, rdW, rdU_e, rdU_n, rdLW, clI, clR, clC, clD, clW, clV, clN_e, clN_n, clL_e, clL_n] <;> first | assumption | rfl | omega)) (by omega) (by omega) ?_
  rw [hs1271]
  refine g_callI (vs := [_, _, _]) (d' := d - 1) rfl (rc_store (by omega) hI1271 hok1271 hR1271) dL_law_1289 kX0_198 (by omega) (by decide) rfl (Nat.le_of_ble_eq_true rfl) (rcv_o (by first | assumption | first | assumption | (simp (disch := omega) only [shI, shR, shL, shC, shD, shW, sh_V, shN_e, shN_n, crI, crL, crC, crW, crV, crR_e, crR_n, crN_e, crN_n, ciR, ciL, ciD, ciN_e, ciN_n, rdI_e, rdI_n, rdC_i, rdC_o, rdW, rdU_e, rdU_n, rdLW, clI, clR, clC, clD, clW, clV, clN_e, clN_n, clL_e, clL_n]; done) | (simp (disch := omega) only [shI, shR, shL, shC, shD, shW, sh_V, shN_e, shN_n, crI, crL, crC, crW, crV, crR_e, crR_n, crN_e, crN_n, ciR, ciL, ciD, ciN_e, ciN_n, rdI_e, rdI_n, rdC_i, rdC_o, rdW, rdU_e, rdU_n, rdLW, clI, clR, clC, clD, clW, clV, clN_e, clN_n, clL_e, clL_n] <;> first | assumption | rfl | omega)) rfl) (fun x1289 M1289 h1289 => ?_)
  obtain ⟨e1289, hb1289, ⟨w1289, hv1289, ht1289⟩, hr1289⟩ := h1289
  obtain ⟨hJ1289, la1289, lb1289, tv1289, tm1289, tw1289, te1289⟩ := hJ.st (v' := w1289) hch1271 hr1289 hv1289 ht1289 (xc_store hF hA hL hn hR1271)
  refine x_istore (L' := [some _, some _, some _, some _, some _, some _, some _]) dL_law_1292 (by decide) rfl ?_
  refine x_aload_n dL_law_1294 rfl rfl ?_
  refine g_callI (vs := [_]) (d' := d - 1) rfl (s_X8_thrown (by omega) tw1289) dL_law_1295 kX0_142 (by omega) (by decide) rfl (Nat.le_of_ble_eq_true rfl) (rcv_o (by first | assumption | first | assumption | (simp (disch := omega) only [shI, shR, shL, shC, shD, shW, sh_V, shN_e, shN_n, crI, crL, crC, crW, crV, crR_e, crR_n, crN_e, crN_n, ciR, ciL, ciD, ciN_e, ciN_n, rdI_e, rdI_n, rdC_i, rdC_o, rdW, rdU_e, rdU_n, rdLW, clI, clR, clC, clD, clW, clV, clN_e, clN_n, clL_e, clL_n]; done) | (simp (disch := omega) only [shI, shR, shL, shC, shD, shW, sh_V, shN_e, shN_n, crI, crL, crC, crW, crV, crR_e, crR_n, crN_e, crN_n, ciR, ciL, ciD, ciN_e, ciN_n, rdI_e, rdI_n, rdC_i, rdC_o, rdW, rdU_e, rdU_n, rdLW, clI, clR, clC, clD, clW, clV, clN_e, clN_n, clL_e, clL_n] <;> first | assumption | rfl | omega)) rfl) (fun x1295 M1295 h1295 => ?_)
  obtain ⟨e1295, f1295⟩ := h1295
  subst f1295
  refine x_iload dL_law_1298 rfl ?_
  refine x_icmp_eq (tgt := 1305) dL_law_1300 (by decide) (fun b1300 => ?_) (fun b1300 => ?_)
  · refine x_iload dL_law_1305 rfl ?_
    refine x_if_ne (tgt := 1322) dL_law_1307 (by decide) (fun b1307 => ?_) (fun b1307 => ?_)
    · refine x_goto (tgt := 2737) dL_law_1322 (by decide) ?_
      exact hk _ _ _ _ _ hJ1289 hN1271 la1289 lb1289
    · refine x_aload_n dL_law_1310 rfl rfl ?_
      refine x_iconst dL_law_1311 rfl ?_
      refine x_lald dL_law_1312 (by first | assumption | first | assumption | (simp (disch := omega) only [shI, shR, shL, shC, shD, shW, sh_V, shN_e, shN_n, crI, crL, crC, crW, crV, crR_e, crR_n, crN_e, crN_n, ciR, ciL, ciD, ciN_e, ciN_n, rdI_e, rdI_n, rdC_i, rdC_o, rdW, rdU_e, rdU_n, rdLW, clI, clR, clC, clD, clW, clV, clN_e, clN_n, clL_e, clL_n]; done) | (simp (disch := omega) only [shI, shR, shL, shC, shD, shW, sh_V, shN_e, shN_n, crI, crL, crC, crW, crV, crR_e, crR_n, crN_e, crN_n, ciR, ciL, ciD, ciN_e, ciN_n, rdI_e, rdI_n, rdC_i, rdC_o, rdW, rdU_e, rdU_n, rdLW, clI, clR, clC, clD, clW, clV, clN_e, clN_n, clL_e, clL_n] <;> first | assumption | rfl | omega)) (by omega) (by omega) ?_
      refine x_iload dL_law_1313 rfl ?_
      refine x_i2l dL_law_1315 ?_
      refine x_lcmp dL_law_1316 ?_
      refine x_if_eq (tgt := 1322) dL_law_1317 (by decide) (fun b1317 => ?_) (fun b1317 => ?_)
      · refine x_goto (tgt := 2737) dL_law_1322 (by decide) ?_
        exact hk _ _ _ _ _ hJ1289 hN1271 la1289 lb1289
      · exact absurd (jlcmp_0.mpr (by have h0 : x1271 = 0 := (by omega); have a1 := tm1289; have a2 := hy1271 h0; have a3 := hb1289 h0; omega)) b1317
  · exact absurd (e1295.trans e1289) b1300
theorem cs_18 (hd : 100 ≤ d) (hJ : IV M s N len sc) (hN : N ≤ 900000000) (hi0 : 0 ≤ i ∧ i + 6 ≤ len) (hln : len ≤ 384) (hk : ∀ (M1 : Mem) (s1 : Sg) (N1 : Int) (o5 o6 : Option DV), IV M1 s1 N1 len sc → N1 ≤ N + 120 → mnx M1 ≤ mnx M + 1400 → mns M1 ≤ mns M + 6000 → WP G d mL_law 2737 [some (dR (-5)), some (dR 0), some (dR 744), some (dR 760), some (dI i), o5, o6] [] M1 Q) : WP G d mL_law 1325 [some (dR (-5)), some (dR 0), some (dR 744), some (dR 760), some (dI i), none, none] [] M Q := by
  obtain ⟨v, n, A, hi, vi, tp, sz, fa⟩ := s
  obtain ⟨hC0, hT0, hF, h7, s5, hsc⟩ := id hJ
  have hC : CI M v n A hi vi tp sz fa N := hC0
  have s0 : msh M 0 = some (1, 0) := hC.1.1.1.1
  have hA : okA v := hC.2.1.1
  have hL : lawOK v := hC.2.1.2.1
  have hn : 0 ≤ n ∧ n ≤ 12 := hC.2.2.1.2.1
  refine x_aload_n dL_law_1325 rfl rfl ?_
  refine x_aload_n dL_law_1326 rfl rfl ?_
  refine x_iload dL_law_1327 rfl ?_
  refine x_iconst dL_law_1329 rfl ?_
  first | refine x_iaddN dL_law_1330 (by unfold i32; omega) ?_ | refine x_iadd dL_law_1330 ?_
  refine x_iald dL_law_1331 (by first | assumption | first | assumption | (simp (disch := omega) only [shI, shR, shL, shC, shD, shW, sh_V, shN_e, shN_n, crI, crL, crC, crW, crV, crR_e, crR_n, crN_e, crN_n, ciR, ciL, ciD, ciN_e, ciN_n, rdI_e, rdI_n, rdC_i, rdC_o, rdW, rdU_e, rdU_n, rdLW, clI, clR, clC, clD, clW, clV, clN_e, clN_n, clL_e, clL_n]; done) | (simp (disch := omega) only [shI, shR, shL, shC, shD, shW, sh_V, shN_e, shN_n, crI, crL, crC, crW, crV, crR_e, crR_n, crN_e, crN_n, ciR, ciL, ciD, ciN_e, ciN_n, rdI_e, rdI_n, rdC_i, rdC_o, rdW, rdU_e, rdU_n, rdLW, clI, clR, clC, clD, clW, clV, clN_e, clN_n, clL_e, clL_n] <;> first | assumption | rfl | omega)) (by omega) (by omega) ?_
  rw [hsc]
  refine x_aload_n dL_law_1332 rfl rfl ?_
  refine g_callI (vs := [_, _, _]) (d' := d - 1) rfl (uc_vector (by omega) h7 hC) dL_law_1333 kX0_199 (by omega) (by decide) rfl (Nat.le_of_ble_eq_true rfl) (rcv_n) (fun x1333 M1333 h1333 => ?_)
  obtain ⟨y1333, s1333, N1333, hR1333, hy1333, hN1333, hch1333⟩ := h1333
  obtain ⟨hT1333, ⟨me1333, mw1333⟩, sf1333, hs1333, hok1333, hX1333⟩ := hJ.mid hch1333
  have hI1333 : TI M1333 744 v n A hi vi tp sz fa := hT1333
  refine x_istore (L' := [some _, some _, some _, some _, some _, some _, none]) dL_law_1336 (by decide) rfl ?_
  refine x_aload_n dL_law_1338 rfl rfl ?_
  refine x_aload_n dL_law_1339 rfl rfl ?_
  refine x_iload dL_law_1340 rfl ?_
  refine x_iconst dL_law_1342 rfl ?_
  first | refine x_iaddN dL_law_1343 (by unfold i32; omega) ?_ | refine x_iadd dL_law_1343 ?_
  refine x_iald dL_law_1344 (by first | assumption | first | assumption | (simp (disch := omega) only [shI, shR, shL, shC, shD, shW, sh_V, shN_e, shN_n, crI, crL, crC, crW, crV, crR_e, crR_n, crN_e, crN_n, ciR, ciL, ciD, ciN_e, ciN_n, rdI_e, rdI_n, rdC_i, rdC_o, rdW, rdU_e, rdU_n, rdLW, clI, clR, clC, clD, clW, clV, clN_e, clN_n, clL_e, clL_n]; done) | (simp (disch := omega) only [shI, shR, shL, shC, shD, shW, sh_V, shN_e, shN_n, crI, crL, crC, crW, crV, crR_e, crR_n, crN_e, crN_n, ciR, ciL, ciD, ciN_e, ciN_n, rdI_e, rdI_n, rdC_i, rdC_o, rdW, rdU_e, rdU_n, rdLW, clI, clR, clC, clD, clW, clV, clN_e, clN_n, clL_e, clL_n] <;> first | assumption | rfl | omega)) (by omega) (by omega) ?_
  rw [hs1333]
  refine g_callI (vs := [_, _]) (d' := d - 1) rfl (rc_vector (by omega) hI1333 hok1333 hR1333) dL_law_1345 kX0_201 (by omega) (by decide) rfl (Nat.le_of_ble_eq_true rfl) (rcv_o (by first | assumption | first | assumption | (simp (disch := omega) only [shI, shR, shL, shC, shD, shW, sh_V, shN_e, shN_n, crI, crL, crC, crW, crV, crR_e, crR_n, crN_e, crN_n, ciR, ciL, ciD, ciN_e, ciN_n, rdI_e, rdI_n, rdC_i, rdC_o, rdW, rdU_e, rdU_n, rdLW, clI, clR, clC, clD, clW, clV, clN_e, clN_n, clL_e, clL_n]; done) | (simp (disch := omega) only [shI, shR, shL, shC, shD, shW, sh_V, shN_e, shN_n, crI, crL, crC, crW, crV, crR_e, crR_n, crN_e, crN_n, ciR, ciL, ciD, ciN_e, ciN_n, rdI_e, rdI_n, rdC_i, rdC_o, rdW, rdU_e, rdU_n, rdLW, clI, clR, clC, clD, clW, clV, clN_e, clN_n, clL_e, clL_n] <;> first | assumption | rfl | omega)) rfl) (fun x1345 M1345 h1345 => ?_)
  obtain ⟨e1345, hb1345, ⟨w1345, hv1345, ht1345⟩, hr1345⟩ := h1345
  obtain ⟨hJ1345, la1345, lb1345, tv1345, tm1345, tw1345, te1345⟩ := hJ.st (v' := w1345) hch1333 hr1345 hv1345 ht1345 (xc_vector hF hA hL hn hR1333)
  refine x_istore (L' := [some _, some _, some _, some _, some _, some _, some _]) dL_law_1348 (by decide) rfl ?_
  refine x_aload_n dL_law_1350 rfl rfl ?_
  refine g_callI (vs := [_]) (d' := d - 1) rfl (s_X8_thrown (by omega) tw1345) dL_law_1351 kX0_142 (by omega) (by decide) rfl (Nat.le_of_ble_eq_true rfl) (rcv_o (by first | assumption | first | assumption | (simp (disch := omega) only [shI, shR, shL, shC, shD, shW, sh_V, shN_e, shN_n, crI, crL, crC, crW, crV, crR_e, crR_n, crN_e, crN_n, ciR, ciL, ciD, ciN_e, ciN_n, rdI_e, rdI_n, rdC_i, rdC_o, rdW, rdU_e, rdU_n, rdLW, clI, clR, clC, clD, clW, clV, clN_e, clN_n, clL_e, clL_n]; done) | (simp (disch := omega) only [shI, shR, shL, shC, shD, shW, sh_V, shN_e, shN_n, crI, crL, crC, crW, crV, crR_e, crR_n, crN_e, crN_n, ciR, ciL, ciD, ciN_e, ciN_n, rdI_e, rdI_n, rdC_i, rdC_o, rdW, rdU_e, rdU_n, rdLW, clI, clR, clC, clD, clW, clV, clN_e, clN_n, clL_e, clL_n] <;> first | assumption | rfl | omega)) rfl) (fun x1351 M1351 h1351 => ?_)
  obtain ⟨e1351, f1351⟩ := h1351
  subst f1351
  refine x_iload dL_law_1354 rfl ?_
  refine x_icmp_eq (tgt := 1361) dL_law_1356 (by decide) (fun b1356 => ?_) (fun b1356 => ?_)
  · refine x_iload dL_law_1361 rfl ?_
    refine x_if_ne (tgt := 1378) dL_law_1363 (by decide) (fun b1363 => ?_) (fun b1363 => ?_)
    · refine x_goto (tgt := 2737) dL_law_1378 (by decide) ?_
      exact hk _ _ _ _ _ hJ1345 hN1333 la1345 lb1345
    · refine x_aload_n dL_law_1366 rfl rfl ?_
      refine x_iconst dL_law_1367 rfl ?_
      refine x_lald dL_law_1368 (by first | assumption | first | assumption | (simp (disch := omega) only [shI, shR, shL, shC, shD, shW, sh_V, shN_e, shN_n, crI, crL, crC, crW, crV, crR_e, crR_n, crN_e, crN_n, ciR, ciL, ciD, ciN_e, ciN_n, rdI_e, rdI_n, rdC_i, rdC_o, rdW, rdU_e, rdU_n, rdLW, clI, clR, clC, clD, clW, clV, clN_e, clN_n, clL_e, clL_n]; done) | (simp (disch := omega) only [shI, shR, shL, shC, shD, shW, sh_V, shN_e, shN_n, crI, crL, crC, crW, crV, crR_e, crR_n, crN_e, crN_n, ciR, ciL, ciD, ciN_e, ciN_n, rdI_e, rdI_n, rdC_i, rdC_o, rdW, rdU_e, rdU_n, rdLW, clI, clR, clC, clD, clW, clV, clN_e, clN_n, clL_e, clL_n] <;> first | assumption | rfl | omega)) (by omega) (by omega) ?_
      refine x_iload dL_law_1369 rfl ?_
      refine x_i2l dL_law_1371 ?_
      refine x_lcmp dL_law_1372 ?_
      refine x_if_eq (tgt := 1378) dL_law_1373 (by decide) (fun b1373 => ?_) (fun b1373 => ?_)
      · refine x_goto (tgt := 2737) dL_law_1378 (by decide) ?_
        exact hk _ _ _ _ _ hJ1345 hN1333 la1345 lb1345
      · exact absurd (jlcmp_0.mpr (by have h0 : x1333 = 0 := (by omega); have a1 := tm1345; have a2 := hy1333 h0; have a3 := hb1345 h0; omega)) b1373
  · exact absurd (e1351.trans e1345) b1356
theorem cs_19 (hd : 100 ≤ d) (hJ : IV M s N len sc) (hN : N ≤ 900000000) (hi0 : 0 ≤ i ∧ i + 6 ≤ len) (hln : len ≤ 384) (hk : ∀ (M1 : Mem) (s1 : Sg) (N1 : Int) (o5 o6 : Option DV), IV M1 s1 N1 len sc → N1 ≤ N + 120 → mnx M1 ≤ mnx M + 1400 → mns M1 ≤ mns M + 6000 → WP G d mL_law 2737 [some (dR (-5)), some (dR 0), some (dR 744), some (dR 760), some (dI i), o5, o6] [] M1 Q) : WP G d mL_law 1381 [some (dR (-5)), some (dR 0), some (dR 744), some (dR 760), some (dI i), none, none] [] M Q := by
  obtain ⟨v, n, A, hi, vi, tp, sz, fa⟩ := s
  obtain ⟨hC0, hT0, hF, h7, s5, hsc⟩ := id hJ
  have hC : CI M v n A hi vi tp sz fa N := hC0
  have s0 : msh M 0 = some (1, 0) := hC.1.1.1.1
  have hA : okA v := hC.2.1.1
  have hL : lawOK v := hC.2.1.2.1
  have hn : 0 ≤ n ∧ n ≤ 12 := hC.2.2.1.2.1
  refine x_aload_n dL_law_1381 rfl rfl ?_
  refine x_aload_n dL_law_1382 rfl rfl ?_
  refine x_iload dL_law_1383 rfl ?_
  refine x_iconst dL_law_1385 rfl ?_
  first | refine x_iaddN dL_law_1386 (by unfold i32; omega) ?_ | refine x_iadd dL_law_1386 ?_
  refine x_iald dL_law_1387 (by first | assumption | first | assumption | (simp (disch := omega) only [shI, shR, shL, shC, shD, shW, sh_V, shN_e, shN_n, crI, crL, crC, crW, crV, crR_e, crR_n, crN_e, crN_n, ciR, ciL, ciD, ciN_e, ciN_n, rdI_e, rdI_n, rdC_i, rdC_o, rdW, rdU_e, rdU_n, rdLW, clI, clR, clC, clD, clW, clV, clN_e, clN_n, clL_e, clL_n]; done) | (simp (disch := omega) only [shI, shR, shL, shC, shD, shW, sh_V, shN_e, shN_n, crI, crL, crC, crW, crV, crR_e, crR_n, crN_e, crN_n, ciR, ciL, ciD, ciN_e, ciN_n, rdI_e, rdI_n, rdC_i, rdC_o, rdW, rdU_e, rdU_n, rdLW, clI, clR, clC, clD, clW, clV, clN_e, clN_n, clL_e, clL_n] <;> first | assumption | rfl | omega)) (by omega) (by omega) ?_
  rw [hsc]
  refine x_aload_n dL_law_1388 rfl rfl ?_
  refine g_callI (vs := [_, _, _]) (d' := d - 1) rfl (uc_shift (by omega) h7 hC) dL_law_1389 kX0_202 (by omega) (by decide) rfl (Nat.le_of_ble_eq_true rfl) (rcv_n) (fun x1389 M1389 h1389 => ?_)
  obtain ⟨y1389, s1389, N1389, hR1389, hy1389, hN1389, hch1389⟩ := h1389
  obtain ⟨hT1389, ⟨me1389, mw1389⟩, sf1389, hs1389, hok1389, hX1389⟩ := hJ.mid hch1389
  have hI1389 : TI M1389 744 v n A hi vi tp sz fa := hT1389
  refine x_istore (L' := [some _, some _, some _, some _, some _, some _, none]) dL_law_1392 (by decide) rfl ?_
  refine x_aload_n dL_law_1394 rfl rfl ?_
  refine x_aload_n dL_law_1395 rfl rfl ?_
  refine x_iload dL_law_1396 rfl ?_
  refine x_iconst dL_law_1398 rfl ?_
  first | refine x_iaddN dL_law_1399 (by unfold i32; omega) ?_ | refine x_iadd dL_law_1399 ?_
  refine x_iald dL_law_1400 (by first | assumption | first | assumption | (simp (disch := omega) only [shI, shR, shL, shC, shD, shW, sh_V, shN_e, shN_n, crI, crL, crC, crW, crV, crR_e, crR_n, crN_e, crN_n, ciR, ciL, ciD, ciN_e, ciN_n, rdI_e, rdI_n, rdC_i, rdC_o, rdW, rdU_e, rdU_n, rdLW, clI, clR, clC, clD, clW, clV, clN_e, clN_n, clL_e, clL_n]; done) | (simp (disch := omega) only [shI, shR, shL, shC, shD, shW, sh_V, shN_e, shN_n, crI, crL, crC, crW, crV, crR_e, crR_n, crN_e, crN_n, ciR, ciL, ciD, ciN_e, ciN_n, rdI_e, rdI_n, rdC_i, rdC_o, rdW, rdU_e, rdU_n, rdLW, clI, clR, clC, clD, clW, clV, clN_e, clN_n, clL_e, clL_n] <;> first | assumption | rfl | omega)) (by omega) (by omega) ?_
  rw [hs1389]
  refine g_callI (vs := [_, _]) (d' := d - 1) rfl (rc_shift (by omega) hI1389 hok1389 hR1389) dL_law_1401 kX0_204 (by omega) (by decide) rfl (Nat.le_of_ble_eq_true rfl) (rcv_o (by first | assumption | first | assumption | (simp (disch := omega) only [shI, shR, shL, shC, shD, shW, sh_V, shN_e, shN_n, crI, crL, crC, crW, crV, crR_e, crR_n, crN_e, crN_n, ciR, ciL, ciD, ciN_e, ciN_n, rdI_e, rdI_n, rdC_i, rdC_o, rdW, rdU_e, rdU_n, rdLW, clI, clR, clC, clD, clW, clV, clN_e, clN_n, clL_e, clL_n]; done) | (simp (disch := omega) only [shI, shR, shL, shC, shD, shW, sh_V, shN_e, shN_n, crI, crL, crC, crW, crV, crR_e, crR_n, crN_e, crN_n, ciR, ciL, ciD, ciN_e, ciN_n, rdI_e, rdI_n, rdC_i, rdC_o, rdW, rdU_e, rdU_n, rdLW, clI, clR, clC, clD, clW, clV, clN_e, clN_n, clL_e, clL_n] <;> first | assumption | rfl | omega)) rfl) (fun x1401 M1401 h1401 => ?_)
  obtain ⟨e1401, hb1401, ⟨w1401, hv1401, ht1401⟩, hr1401⟩ := h1401
  obtain ⟨hJ1401, la1401, lb1401, tv1401, tm1401, tw1401, te1401⟩ := hJ.st (v' := w1401) hch1389 hr1401 hv1401 ht1401 (xc_shift hF hA hL hn hR1389)
  refine x_istore (L' := [some _, some _, some _, some _, some _, some _, some _]) dL_law_1404 (by decide) rfl ?_
  refine x_aload_n dL_law_1406 rfl rfl ?_
  refine g_callI (vs := [_]) (d' := d - 1) rfl (s_X8_thrown (by omega) tw1401) dL_law_1407 kX0_142 (by omega) (by decide) rfl (Nat.le_of_ble_eq_true rfl) (rcv_o (by first | assumption | first | assumption | (simp (disch := omega) only [shI, shR, shL, shC, shD, shW, sh_V, shN_e, shN_n, crI, crL, crC, crW, crV, crR_e, crR_n, crN_e, crN_n, ciR, ciL, ciD, ciN_e, ciN_n, rdI_e, rdI_n, rdC_i, rdC_o, rdW, rdU_e, rdU_n, rdLW, clI, clR, clC, clD, clW, clV, clN_e, clN_n, clL_e, clL_n]; done) | (simp (disch := omega) only [shI, shR, shL, shC, shD, shW, sh_V, shN_e, shN_n, crI, crL, crC, crW, crV, crR_e, crR_n, crN_e, crN_n, ciR, ciL, ciD, ciN_e, ciN_n, rdI_e, rdI_n, rdC_i, rdC_o, rdW, rdU_e, rdU_n, rdLW, clI, clR, clC, clD, clW, clV, clN_e, clN_n, clL_e, clL_n] <;> first | assumption | rfl | omega)) rfl) (fun x1407 M1407 h1407 => ?_)
  obtain ⟨e1407, f1407⟩ := h1407
  subst f1407
  refine x_iload dL_law_1410 rfl ?_
  refine x_icmp_eq (tgt := 1417) dL_law_1412 (by decide) (fun b1412 => ?_) (fun b1412 => ?_)
  · refine x_iload dL_law_1417 rfl ?_
    refine x_if_ne (tgt := 1434) dL_law_1419 (by decide) (fun b1419 => ?_) (fun b1419 => ?_)
    · refine x_goto (tgt := 2737) dL_law_1434 (by decide) ?_
      exact hk _ _ _ _ _ hJ1401 hN1389 la1401 lb1401
    · refine x_aload_n dL_law_1422 rfl rfl ?_
      refine x_iconst dL_law_1423 rfl ?_
      refine x_lald dL_law_1424 (by first | assumption | first | assumption | (simp (disch := omega) only [shI, shR, shL, shC, shD, shW, sh_V, shN_e, shN_n, crI, crL, crC, crW, crV, crR_e, crR_n, crN_e, crN_n, ciR, ciL, ciD, ciN_e, ciN_n, rdI_e, rdI_n, rdC_i, rdC_o, rdW, rdU_e, rdU_n, rdLW, clI, clR, clC, clD, clW, clV, clN_e, clN_n, clL_e, clL_n]; done) | (simp (disch := omega) only [shI, shR, shL, shC, shD, shW, sh_V, shN_e, shN_n, crI, crL, crC, crW, crV, crR_e, crR_n, crN_e, crN_n, ciR, ciL, ciD, ciN_e, ciN_n, rdI_e, rdI_n, rdC_i, rdC_o, rdW, rdU_e, rdU_n, rdLW, clI, clR, clC, clD, clW, clV, clN_e, clN_n, clL_e, clL_n] <;> first | assumption | rfl | omega)) (by omega) (by omega) ?_
      refine x_iload dL_law_1425 rfl ?_
      refine x_i2l dL_law_1427 ?_
      refine x_lcmp dL_law_1428 ?_
      refine x_if_eq (tgt := 1434) dL_law_1429 (by decide) (fun b1429 => ?_) (fun b1429 => ?_)
      · refine x_goto (tgt := 2737) dL_law_1434 (by decide) ?_
        exact hk _ _ _ _ _ hJ1401 hN1389 la1401 lb1401
      · exact absurd (jlcmp_0.mpr (by have h0 : x1389 = 0 := (by omega); have a1 := tm1401; have a2 := hy1389 h0; have a3 := hb1401 h0; omega)) b1429
  · exact absurd (e1407.trans e1401) b1412
theorem cs_20 (hd : 100 ≤ d) (hJ : IV M s N len sc) (hN : N ≤ 900000000) (hi0 : 0 ≤ i ∧ i + 6 ≤ len) (hln : len ≤ 384) (hk : ∀ (M1 : Mem) (s1 : Sg) (N1 : Int) (o5 o6 : Option DV), IV M1 s1 N1 len sc → N1 ≤ N + 120 → mnx M1 ≤ mnx M + 1400 → mns M1 ≤ mns M + 6000 → WP G d mL_law 2737 [some (dR (-5)), some (dR 0), some (dR 744), some (dR 760), some (dI i), o5, o6] [] M1 Q) : WP G d mL_law 1437 [some (dR (-5)), some (dR 0), some (dR 744), some (dR 760), some (dI i), none, none] [] M Q := by
  obtain ⟨v, n, A, hi, vi, tp, sz, fa⟩ := s
  obtain ⟨hC0, hT0, hF, h7, s5, hsc⟩ := id hJ
  have hC : CI M v n A hi vi tp sz fa N := hC0
  have s0 : msh M 0 = some (1, 0) := hC.1.1.1.1
  have hA : okA v := hC.2.1.1
  have hL : lawOK v := hC.2.1.2.1
  have hn : 0 ≤ n ∧ n ≤ 12 := hC.2.2.1.2.1
  refine x_aload_n dL_law_1437 rfl rfl ?_
  refine x_aload_n dL_law_1438 rfl rfl ?_
  refine x_iload dL_law_1439 rfl ?_
  refine x_iconst dL_law_1441 rfl ?_
  first | refine x_iaddN dL_law_1442 (by unfold i32; omega) ?_ | refine x_iadd dL_law_1442 ?_
  refine x_iald dL_law_1443 (by first | assumption | first | assumption | (simp (disch := omega) only [shI, shR, shL, shC, shD, shW, sh_V, shN_e, shN_n, crI, crL, crC, crW, crV, crR_e, crR_n, crN_e, crN_n, ciR, ciL, ciD, ciN_e, ciN_n, rdI_e, rdI_n, rdC_i, rdC_o, rdW, rdU_e, rdU_n, rdLW, clI, clR, clC, clD, clW, clV, clN_e, clN_n, clL_e, clL_n]; done) | (simp (disch := omega) only [shI, shR, shL, shC, shD, shW, sh_V, shN_e, shN_n, crI, crL, crC, crW, crV, crR_e, crR_n, crN_e, crN_n, ciR, ciL, ciD, ciN_e, ciN_n, rdI_e, rdI_n, rdC_i, rdC_o, rdW, rdU_e, rdU_n, rdLW, clI, clR, clC, clD, clW, clV, clN_e, clN_n, clL_e, clL_n] <;> first | assumption | rfl | omega)) (by omega) (by omega) ?_
  rw [hsc]
  refine x_aload_n dL_law_1444 rfl rfl ?_
  refine g_callI (vs := [_, _, _]) (d' := d - 1) rfl (uc_cost (by omega) h7 hC) dL_law_1445 kX0_205 (by omega) (by decide) rfl (Nat.le_of_ble_eq_true rfl) (rcv_n) (fun x1445 M1445 h1445 => ?_)
  obtain ⟨y1445, s1445, N1445, hR1445, hy1445, hN1445, hch1445⟩ := h1445
  obtain ⟨hT1445, ⟨me1445, mw1445⟩, sf1445, hs1445, hok1445, hX1445⟩ := hJ.mid hch1445
  have hI1445 : TI M1445 744 v n A hi vi tp sz fa := hT1445
  refine x_istore (L' := [some _, some _, some _, some _, some _, some _, none]) dL_law_1448 (by decide) rfl ?_
  refine x_aload_n dL_law_1450 rfl rfl ?_
  refine x_aload_n dL_law_1451 rfl rfl ?_
  refine x_iload dL_law_1452 rfl ?_
  refine x_iconst dL_law_1454 rfl ?_
  first | refine x_iaddN dL_law_1455 (by unfold i32; omega) ?_ | refine x_iadd dL_law_1455 ?_
  refine x_iald dL_law_1456 (by first | assumption | first | assumption | (simp (disch := omega) only [shI, shR, shL, shC, shD, shW, sh_V, shN_e, shN_n, crI, crL, crC, crW, crV, crR_e, crR_n, crN_e, crN_n, ciR, ciL, ciD, ciN_e, ciN_n, rdI_e, rdI_n, rdC_i, rdC_o, rdW, rdU_e, rdU_n, rdLW, clI, clR, clC, clD, clW, clV, clN_e, clN_n, clL_e, clL_n]; done) | (simp (disch := omega) only [shI, shR, shL, shC, shD, shW, sh_V, shN_e, shN_n, crI, crL, crC, crW, crV, crR_e, crR_n, crN_e, crN_n, ciR, ciL, ciD, ciN_e, ciN_n, rdI_e, rdI_n, rdC_i, rdC_o, rdW, rdU_e, rdU_n, rdLW, clI, clR, clC, clD, clW, clV, clN_e, clN_n, clL_e, clL_n] <;> first | assumption | rfl | omega)) (by omega) (by omega) ?_
  rw [hs1445]
  refine g_callI (vs := [_, _]) (d' := d - 1) rfl (rc_cost (by omega) hI1445 hok1445 hR1445) dL_law_1457 kX0_207 (by omega) (by decide) rfl (Nat.le_of_ble_eq_true rfl) (rcv_o (by first | assumption | first | assumption | (simp (disch := omega) only [shI, shR, shL, shC, shD, shW, sh_V, shN_e, shN_n, crI, crL, crC, crW, crV, crR_e, crR_n, crN_e, crN_n, ciR, ciL, ciD, ciN_e, ciN_n, rdI_e, rdI_n, rdC_i, rdC_o, rdW, rdU_e, rdU_n, rdLW, clI, clR, clC, clD, clW, clV, clN_e, clN_n, clL_e, clL_n]; done) | (simp (disch := omega) only [shI, shR, shL, shC, shD, shW, sh_V, shN_e, shN_n, crI, crL, crC, crW, crV, crR_e, crR_n, crN_e, crN_n, ciR, ciL, ciD, ciN_e, ciN_n, rdI_e, rdI_n, rdC_i, rdC_o, rdW, rdU_e, rdU_n, rdLW, clI, clR, clC, clD, clW, clV, clN_e, clN_n, clL_e, clL_n] <;> first | assumption | rfl | omega)) rfl) (fun x1457 M1457 h1457 => ?_)
  obtain ⟨e1457, hb1457, ⟨w1457, hv1457, ht1457⟩, hr1457⟩ := h1457
  obtain ⟨hJ1457, la1457, lb1457, tv1457, tm1457, tw1457, te1457⟩ := hJ.st (v' := w1457) hch1445 hr1457 hv1457 ht1457 (xc_cost hF hA hL hn hR1445)
  refine x_istore (L' := [some _, some _, some _, some _, some _, some _, some _]) dL_law_1460 (by decide) rfl ?_
  refine x_aload_n dL_law_1462 rfl rfl ?_
  refine g_callI (vs := [_]) (d' := d - 1) rfl (s_X8_thrown (by omega) tw1457) dL_law_1463 kX0_142 (by omega) (by decide) rfl (Nat.le_of_ble_eq_true rfl) (rcv_o (by first | assumption | first | assumption | (simp (disch := omega) only [shI, shR, shL, shC, shD, shW, sh_V, shN_e, shN_n, crI, crL, crC, crW, crV, crR_e, crR_n, crN_e, crN_n, ciR, ciL, ciD, ciN_e, ciN_n, rdI_e, rdI_n, rdC_i, rdC_o, rdW, rdU_e, rdU_n, rdLW, clI, clR, clC, clD, clW, clV, clN_e, clN_n, clL_e, clL_n]; done) | (simp (disch := omega) only [shI, shR, shL, shC, shD, shW, sh_V, shN_e, shN_n, crI, crL, crC, crW, crV, crR_e, crR_n, crN_e, crN_n, ciR, ciL, ciD, ciN_e, ciN_n, rdI_e, rdI_n, rdC_i, rdC_o, rdW, rdU_e, rdU_n, rdLW, clI, clR, clC, clD, clW, clV, clN_e, clN_n, clL_e, clL_n] <;> first | assumption | rfl | omega)) rfl) (fun x1463 M1463 h1463 => ?_)
  obtain ⟨e1463, f1463⟩ := h1463
  subst f1463
  refine x_iload dL_law_1466 rfl ?_
  refine x_icmp_eq (tgt := 1473) dL_law_1468 (by decide) (fun b1468 => ?_) (fun b1468 => ?_)
  · refine x_iload dL_law_1473 rfl ?_
    refine x_if_ne (tgt := 1490) dL_law_1475 (by decide) (fun b1475 => ?_) (fun b1475 => ?_)
    · refine x_goto (tgt := 2737) dL_law_1490 (by decide) ?_
      exact hk _ _ _ _ _ hJ1457 hN1445 la1457 lb1457
    · refine x_aload_n dL_law_1478 rfl rfl ?_
      refine x_iconst dL_law_1479 rfl ?_
      refine x_lald dL_law_1480 (by first | assumption | first | assumption | (simp (disch := omega) only [shI, shR, shL, shC, shD, shW, sh_V, shN_e, shN_n, crI, crL, crC, crW, crV, crR_e, crR_n, crN_e, crN_n, ciR, ciL, ciD, ciN_e, ciN_n, rdI_e, rdI_n, rdC_i, rdC_o, rdW, rdU_e, rdU_n, rdLW, clI, clR, clC, clD, clW, clV, clN_e, clN_n, clL_e, clL_n]; done) | (simp (disch := omega) only [shI, shR, shL, shC, shD, shW, sh_V, shN_e, shN_n, crI, crL, crC, crW, crV, crR_e, crR_n, crN_e, crN_n, ciR, ciL, ciD, ciN_e, ciN_n, rdI_e, rdI_n, rdC_i, rdC_o, rdW, rdU_e, rdU_n, rdLW, clI, clR, clC, clD, clW, clV, clN_e, clN_n, clL_e, clL_n] <;> first | assumption | rfl | omega)) (by omega) (by omega) ?_
      refine x_iload dL_law_1481 rfl ?_
      refine x_i2l dL_law_1483 ?_
      refine x_lcmp dL_law_1484 ?_
      refine x_if_eq (tgt := 1490) dL_law_1485 (by decide) (fun b1485 => ?_) (fun b1485 => ?_)
      · refine x_goto (tgt := 2737) dL_law_1490 (by decide) ?_
        exact hk _ _ _ _ _ hJ1457 hN1445 la1457 lb1457
      · exact absurd (jlcmp_0.mpr (by have h0 : x1445 = 0 := (by omega); have a1 := tm1457; have a2 := hy1445 h0; have a3 := hb1457 h0; omega)) b1485
  · exact absurd (e1463.trans e1457) b1468
theorem cs_21 (hd : 100 ≤ d) (hJ : IV M s N len sc) (hN : N ≤ 900000000) (hi0 : 0 ≤ i ∧ i + 6 ≤ len) (hln : len ≤ 384) (hk : ∀ (M1 : Mem) (s1 : Sg) (N1 : Int) (o5 o6 : Option DV), IV M1 s1 N1 len sc → N1 ≤ N + 120 → mnx M1 ≤ mnx M + 1400 → mns M1 ≤ mns M + 6000 → WP G d mL_law 2737 [some (dR (-5)), some (dR 0), some (dR 744), some (dR 760), some (dI i), o5, o6] [] M1 Q) : WP G d mL_law 1493 [some (dR (-5)), some (dR 0), some (dR 744), some (dR 760), some (dI i), none, none] [] M Q := by
  obtain ⟨v, n, A, hi, vi, tp, sz, fa⟩ := s
  obtain ⟨hC0, hT0, hF, h7, s5, hsc⟩ := id hJ
  have hC : CI M v n A hi vi tp sz fa N := hC0
  have s0 : msh M 0 = some (1, 0) := hC.1.1.1.1
  have hA : okA v := hC.2.1.1
  have hL : lawOK v := hC.2.1.2.1
  have hn : 0 ≤ n ∧ n ≤ 12 := hC.2.2.1.2.1
  refine x_aload_n dL_law_1493 rfl rfl ?_
  refine x_aload_n dL_law_1494 rfl rfl ?_
  refine x_iload dL_law_1495 rfl ?_
  refine x_iconst dL_law_1497 rfl ?_
  first | refine x_iaddN dL_law_1498 (by unfold i32; omega) ?_ | refine x_iadd dL_law_1498 ?_
  refine x_iald dL_law_1499 (by first | assumption | first | assumption | (simp (disch := omega) only [shI, shR, shL, shC, shD, shW, sh_V, shN_e, shN_n, crI, crL, crC, crW, crV, crR_e, crR_n, crN_e, crN_n, ciR, ciL, ciD, ciN_e, ciN_n, rdI_e, rdI_n, rdC_i, rdC_o, rdW, rdU_e, rdU_n, rdLW, clI, clR, clC, clD, clW, clV, clN_e, clN_n, clL_e, clL_n]; done) | (simp (disch := omega) only [shI, shR, shL, shC, shD, shW, sh_V, shN_e, shN_n, crI, crL, crC, crW, crV, crR_e, crR_n, crN_e, crN_n, ciR, ciL, ciD, ciN_e, ciN_n, rdI_e, rdI_n, rdC_i, rdC_o, rdW, rdU_e, rdU_n, rdLW, clI, clR, clC, clD, clW, clV, clN_e, clN_n, clL_e, clL_n] <;> first | assumption | rfl | omega)) (by omega) (by omega) ?_
  rw [hsc]
  refine x_aload_n dL_law_1500 rfl rfl ?_
  refine g_callI (vs := [_, _, _]) (d' := d - 1) rfl (uc_alarm (by omega) h7 hC) dL_law_1501 kX0_208 (by omega) (by decide) rfl (Nat.le_of_ble_eq_true rfl) (rcv_n) (fun x1501 M1501 h1501 => ?_)
  obtain ⟨y1501, s1501, N1501, hR1501, hy1501, hN1501, hch1501⟩ := h1501
  obtain ⟨hT1501, ⟨me1501, mw1501⟩, sf1501, hs1501, hok1501, hX1501⟩ := hJ.mid hch1501
  have hI1501 : TI M1501 744 v n A hi vi tp sz fa := hT1501
  refine x_istore (L' := [some _, some _, some _, some _, some _, some _, none]) dL_law_1504 (by decide) rfl ?_
  refine x_aload_n dL_law_1506 rfl rfl ?_
  refine x_aload_n dL_law_1507 rfl rfl ?_
  refine x_iload dL_law_1508 rfl ?_
  refine x_iconst dL_law_1510 rfl ?_
  first | refine x_iaddN dL_law_1511 (by unfold i32; omega) ?_ | refine x_iadd dL_law_1511 ?_
  refine x_iald dL_law_1512 (by first | assumption | first | assumption | (simp (disch := omega) only [shI, shR, shL, shC, shD, shW, sh_V, shN_e, shN_n, crI, crL, crC, crW, crV, crR_e, crR_n, crN_e, crN_n, ciR, ciL, ciD, ciN_e, ciN_n, rdI_e, rdI_n, rdC_i, rdC_o, rdW, rdU_e, rdU_n, rdLW, clI, clR, clC, clD, clW, clV, clN_e, clN_n, clL_e, clL_n]; done) | (simp (disch := omega) only [shI, shR, shL, shC, shD, shW, sh_V, shN_e, shN_n, crI, crL, crC, crW, crV, crR_e, crR_n, crN_e, crN_n, ciR, ciL, ciD, ciN_e, ciN_n, rdI_e, rdI_n, rdC_i, rdC_o, rdW, rdU_e, rdU_n, rdLW, clI, clR, clC, clD, clW, clV, clN_e, clN_n, clL_e, clL_n] <;> first | assumption | rfl | omega)) (by omega) (by omega) ?_
  rw [hs1501]
  refine g_callI (vs := [_, _]) (d' := d - 1) rfl (rc_alarm (by omega) hI1501 hok1501 hR1501) dL_law_1513 kX0_210 (by omega) (by decide) rfl (Nat.le_of_ble_eq_true rfl) (rcv_o (by first | assumption | first | assumption | (simp (disch := omega) only [shI, shR, shL, shC, shD, shW, sh_V, shN_e, shN_n, crI, crL, crC, crW, crV, crR_e, crR_n, crN_e, crN_n, ciR, ciL, ciD, ciN_e, ciN_n, rdI_e, rdI_n, rdC_i, rdC_o, rdW, rdU_e, rdU_n, rdLW, clI, clR, clC, clD, clW, clV, clN_e, clN_n, clL_e, clL_n]; done) | (simp (disch := omega) only [shI, shR, shL, shC, shD, shW, sh_V, shN_e, shN_n, crI, crL, crC, crW, crV, crR_e, crR_n, crN_e, crN_n, ciR, ciL, ciD, ciN_e, ciN_n, rdI_e, rdI_n, rdC_i, rdC_o, rdW, rdU_e, rdU_n, rdLW, clI, clR, clC, clD, clW, clV, clN_e, clN_n, clL_e, clL_n] <;> first | assumption | rfl | omega)) rfl) (fun x1513 M1513 h1513 => ?_)
  obtain ⟨e1513, hb1513, ⟨w1513, hv1513, ht1513⟩, hr1513⟩ := h1513
  obtain ⟨hJ1513, la1513, lb1513, tv1513, tm1513, tw1513, te1513⟩ := hJ.st (v' := w1513) hch1501 hr1513 hv1513 ht1513 (xc_alarm hF hA hL hn hR1501)
  refine x_istore (L' := [some _, some _, some _, some _, some _, some _, some _]) dL_law_1516 (by decide) rfl ?_
  refine x_aload_n dL_law_1518 rfl rfl ?_
  refine g_callI (vs := [_]) (d' := d - 1) rfl (s_X8_thrown (by omega) tw1513) dL_law_1519 kX0_142 (by omega) (by decide) rfl (Nat.le_of_ble_eq_true rfl) (rcv_o (by first | assumption | first | assumption | (simp (disch := omega) only [shI, shR, shL, shC, shD, shW, sh_V, shN_e, shN_n, crI, crL, crC, crW, crV, crR_e, crR_n, crN_e, crN_n, ciR, ciL, ciD, ciN_e, ciN_n, rdI_e, rdI_n, rdC_i, rdC_o, rdW, rdU_e, rdU_n, rdLW, clI, clR, clC, clD, clW, clV, clN_e, clN_n, clL_e, clL_n]; done) | (simp (disch := omega) only [shI, shR, shL, shC, shD, shW, sh_V, shN_e, shN_n, crI, crL, crC, crW, crV, crR_e, crR_n, crN_e, crN_n, ciR, ciL, ciD, ciN_e, ciN_n, rdI_e, rdI_n, rdC_i, rdC_o, rdW, rdU_e, rdU_n, rdLW, clI, clR, clC, clD, clW, clV, clN_e, clN_n, clL_e, clL_n] <;> first | assumption | rfl | omega)) rfl) (fun x1519 M1519 h1519 => ?_)
  obtain ⟨e1519, f1519⟩ := h1519
  subst f1519
  refine x_iload dL_law_1522 rfl ?_
  refine x_icmp_eq (tgt := 1529) dL_law_1524 (by decide) (fun b1524 => ?_) (fun b1524 => ?_)
  · refine x_iload dL_law_1529 rfl ?_
    refine x_if_ne (tgt := 1546) dL_law_1531 (by decide) (fun b1531 => ?_) (fun b1531 => ?_)
    · refine x_goto (tgt := 2737) dL_law_1546 (by decide) ?_
      exact hk _ _ _ _ _ hJ1513 hN1501 la1513 lb1513
    · refine x_aload_n dL_law_1534 rfl rfl ?_
      refine x_iconst dL_law_1535 rfl ?_
      refine x_lald dL_law_1536 (by first | assumption | first | assumption | (simp (disch := omega) only [shI, shR, shL, shC, shD, shW, sh_V, shN_e, shN_n, crI, crL, crC, crW, crV, crR_e, crR_n, crN_e, crN_n, ciR, ciL, ciD, ciN_e, ciN_n, rdI_e, rdI_n, rdC_i, rdC_o, rdW, rdU_e, rdU_n, rdLW, clI, clR, clC, clD, clW, clV, clN_e, clN_n, clL_e, clL_n]; done) | (simp (disch := omega) only [shI, shR, shL, shC, shD, shW, sh_V, shN_e, shN_n, crI, crL, crC, crW, crV, crR_e, crR_n, crN_e, crN_n, ciR, ciL, ciD, ciN_e, ciN_n, rdI_e, rdI_n, rdC_i, rdC_o, rdW, rdU_e, rdU_n, rdLW, clI, clR, clC, clD, clW, clV, clN_e, clN_n, clL_e, clL_n] <;> first | assumption | rfl | omega)) (by omega) (by omega) ?_
      refine x_iload dL_law_1537 rfl ?_
      refine x_i2l dL_law_1539 ?_
      refine x_lcmp dL_law_1540 ?_
      refine x_if_eq (tgt := 1546) dL_law_1541 (by decide) (fun b1541 => ?_) (fun b1541 => ?_)
      · refine x_goto (tgt := 2737) dL_law_1546 (by decide) ?_
        exact hk _ _ _ _ _ hJ1513 hN1501 la1513 lb1513
      · exact absurd (jlcmp_0.mpr (by have h0 : x1501 = 0 := (by omega); have a1 := tm1513; have a2 := hy1501 h0; have a3 := hb1513 h0; omega)) b1541
  · exact absurd (e1519.trans e1513) b1524
theorem cs_22 (hd : 100 ≤ d) (hJ : IV M s N len sc) (hN : N ≤ 900000000) (hi0 : 0 ≤ i ∧ i + 6 ≤ len) (hln : len ≤ 384) (hk : ∀ (M1 : Mem) (s1 : Sg) (N1 : Int) (o5 o6 : Option DV), IV M1 s1 N1 len sc → N1 ≤ N + 120 → mnx M1 ≤ mnx M + 1400 → mns M1 ≤ mns M + 6000 → WP G d mL_law 2737 [some (dR (-5)), some (dR 0), some (dR 744), some (dR 760), some (dI i), o5, o6] [] M1 Q) : WP G d mL_law 1549 [some (dR (-5)), some (dR 0), some (dR 744), some (dR 760), some (dI i), none, none] [] M Q := by
  obtain ⟨v, n, A, hi, vi, tp, sz, fa⟩ := s
  obtain ⟨hC0, hT0, hF, h7, s5, hsc⟩ := id hJ
  have hC : CI M v n A hi vi tp sz fa N := hC0
  have s0 : msh M 0 = some (1, 0) := hC.1.1.1.1
  have hA : okA v := hC.2.1.1
  have hL : lawOK v := hC.2.1.2.1
  have hn : 0 ≤ n ∧ n ≤ 12 := hC.2.2.1.2.1
  refine x_aload_n dL_law_1549 rfl rfl ?_
  refine g_callI (vs := [_]) (d' := d - 1) rfl (uc_hostable (by omega) h7 hC) dL_law_1550 kX0_211 (by omega) (by decide) rfl (Nat.le_of_ble_eq_true rfl) (rcv_o (by first | assumption | first | assumption | (simp (disch := omega) only [shI, shR, shL, shC, shD, shW, sh_V, shN_e, shN_n, crI, crL, crC, crW, crV, crR_e, crR_n, crN_e, crN_n, ciR, ciL, ciD, ciN_e, ciN_n, rdI_e, rdI_n, rdC_i, rdC_o, rdW, rdU_e, rdU_n, rdLW, clI, clR, clC, clD, clW, clV, clN_e, clN_n, clL_e, clL_n]; done) | (simp (disch := omega) only [shI, shR, shL, shC, shD, shW, sh_V, shN_e, shN_n, crI, crL, crC, crW, crV, crR_e, crR_n, crN_e, crN_n, ciR, ciL, ciD, ciN_e, ciN_n, rdI_e, rdI_n, rdC_i, rdC_o, rdW, rdU_e, rdU_n, rdLW, clI, clR, clC, clD, clW, clV, clN_e, clN_n, clL_e, clL_n] <;> first | assumption | rfl | omega)) rfl) (fun x1550 M1550 h1550 => ?_)
  obtain ⟨s1550, N1550, hR1550, hN1550, hch1550⟩ := h1550
  obtain ⟨hT1550, ⟨me1550, mw1550⟩, sf1550, hs1550, hok1550, hX1550⟩ := hJ.mid hch1550
  have hI1550 : TI M1550 744 v n A hi vi tp sz fa := hT1550
  refine x_aload_n dL_law_1553 rfl rfl ?_
  refine g_callI (vs := [_]) (d' := d - 1) rfl (rc_hostable (by omega) hI1550 hR1550) dL_law_1554 kX0_215 (by omega) (by decide) rfl (Nat.le_of_ble_eq_true rfl) (rcv_o (by first | assumption | first | assumption | (simp (disch := omega) only [shI, shR, shL, shC, shD, shW, sh_V, shN_e, shN_n, crI, crL, crC, crW, crV, crR_e, crR_n, crN_e, crN_n, ciR, ciL, ciD, ciN_e, ciN_n, rdI_e, rdI_n, rdC_i, rdC_o, rdW, rdU_e, rdU_n, rdLW, clI, clR, clC, clD, clW, clV, clN_e, clN_n, clL_e, clL_n]; done) | (simp (disch := omega) only [shI, shR, shL, shC, shD, shW, sh_V, shN_e, shN_n, crI, crL, crC, crW, crV, crR_e, crR_n, crN_e, crN_n, ciR, ciL, ciD, ciN_e, ciN_n, rdI_e, rdI_n, rdC_i, rdC_o, rdW, rdU_e, rdU_n, rdLW, clI, clR, clC, clD, clW, clV, clN_e, clN_n, clL_e, clL_n] <;> first | assumption | rfl | omega)) rfl) (fun x1554 M1554 h1554 => ?_)
  obtain ⟨e1554, ht1554, hr1554⟩ := h1554
  obtain ⟨hJ1554, la1554, lb1554, tv1554, tm1554, tw1554, te1554⟩ := hJ.st (v' := s1550.1) hch1550 hr1554 (fun _ _ _ => rfl) ht1554 (xc_hostable hF hA hL hn hR1550)
  refine x_icmp_eq (tgt := 2737) dL_law_1557 (by decide) (fun b1557 => ?_) (fun b1557 => ?_)
  · exact hk _ _ _ _ _ hJ1554 hN1550 la1554 lb1554
  · exact absurd e1554.symm b1557
theorem cs_23 (hd : 100 ≤ d) (hJ : IV M s N len sc) (hN : N ≤ 900000000) (hi0 : 0 ≤ i ∧ i + 6 ≤ len) (hln : len ≤ 384) (hk : ∀ (M1 : Mem) (s1 : Sg) (N1 : Int) (o5 o6 : Option DV), IV M1 s1 N1 len sc → N1 ≤ N + 120 → mnx M1 ≤ mnx M + 1400 → mns M1 ≤ mns M + 6000 → WP G d mL_law 2737 [some (dR (-5)), some (dR 0), some (dR 744), some (dR 760), some (dI i), o5, o6] [] M1 Q) : WP G d mL_law 1562 [some (dR (-5)), some (dR 0), some (dR 744), some (dR 760), some (dI i), none, none] [] M Q := by
  obtain ⟨v, n, A, hi, vi, tp, sz, fa⟩ := s
  obtain ⟨hC0, hT0, hF, h7, s5, hsc⟩ := id hJ
  have hC : CI M v n A hi vi tp sz fa N := hC0
  have s0 : msh M 0 = some (1, 0) := hC.1.1.1.1
  have hA : okA v := hC.2.1.1
  have hL : lawOK v := hC.2.1.2.1
  have hn : 0 ≤ n ∧ n ≤ 12 := hC.2.2.1.2.1
  refine x_aload_n dL_law_1562 rfl rfl ?_
  refine g_callI (vs := [_]) (d' := d - 1) rfl (uc_alike (by omega) h7 hC) dL_law_1563 kX0_216 (by omega) (by decide) rfl (Nat.le_of_ble_eq_true rfl) (rcv_o (by first | assumption | first | assumption | (simp (disch := omega) only [shI, shR, shL, shC, shD, shW, sh_V, shN_e, shN_n, crI, crL, crC, crW, crV, crR_e, crR_n, crN_e, crN_n, ciR, ciL, ciD, ciN_e, ciN_n, rdI_e, rdI_n, rdC_i, rdC_o, rdW, rdU_e, rdU_n, rdLW, clI, clR, clC, clD, clW, clV, clN_e, clN_n, clL_e, clL_n]; done) | (simp (disch := omega) only [shI, shR, shL, shC, shD, shW, sh_V, shN_e, shN_n, crI, crL, crC, crW, crV, crR_e, crR_n, crN_e, crN_n, ciR, ciL, ciD, ciN_e, ciN_n, rdI_e, rdI_n, rdC_i, rdC_o, rdW, rdU_e, rdU_n, rdLW, clI, clR, clC, clD, clW, clV, clN_e, clN_n, clL_e, clL_n] <;> first | assumption | rfl | omega)) rfl) (fun x1563 M1563 h1563 => ?_)
  obtain ⟨s1563, N1563, hR1563, hN1563, hch1563⟩ := h1563
  obtain ⟨hT1563, ⟨me1563, mw1563⟩, sf1563, hs1563, hok1563, hX1563⟩ := hJ.mid hch1563
  have hI1563 : TI M1563 744 v n A hi vi tp sz fa := hT1563
  refine x_aload_n dL_law_1566 rfl rfl ?_
  refine g_callI (vs := [_]) (d' := d - 1) rfl (rc_alike (by omega) hI1563 hR1563) dL_law_1567 kX0_219 (by omega) (by decide) rfl (Nat.le_of_ble_eq_true rfl) (rcv_o (by first | assumption | first | assumption | (simp (disch := omega) only [shI, shR, shL, shC, shD, shW, sh_V, shN_e, shN_n, crI, crL, crC, crW, crV, crR_e, crR_n, crN_e, crN_n, ciR, ciL, ciD, ciN_e, ciN_n, rdI_e, rdI_n, rdC_i, rdC_o, rdW, rdU_e, rdU_n, rdLW, clI, clR, clC, clD, clW, clV, clN_e, clN_n, clL_e, clL_n]; done) | (simp (disch := omega) only [shI, shR, shL, shC, shD, shW, sh_V, shN_e, shN_n, crI, crL, crC, crW, crV, crR_e, crR_n, crN_e, crN_n, ciR, ciL, ciD, ciN_e, ciN_n, rdI_e, rdI_n, rdC_i, rdC_o, rdW, rdU_e, rdU_n, rdLW, clI, clR, clC, clD, clW, clV, clN_e, clN_n, clL_e, clL_n] <;> first | assumption | rfl | omega)) rfl) (fun x1567 M1567 h1567 => ?_)
  obtain ⟨e1567, ht1567, hr1567⟩ := h1567
  obtain ⟨hJ1567, la1567, lb1567, tv1567, tm1567, tw1567, te1567⟩ := hJ.st (v' := s1563.1) hch1563 hr1567 (fun _ _ _ => rfl) ht1567 (xc_alike hF hA hL hn hR1563)
  refine x_icmp_eq (tgt := 2737) dL_law_1570 (by decide) (fun b1570 => ?_) (fun b1570 => ?_)
  · exact hk _ _ _ _ _ hJ1567 hN1563 la1567 lb1567
  · exact absurd e1567.symm b1570
theorem cs_24 (hd : 100 ≤ d) (hJ : IV M s N len sc) (hN : N ≤ 900000000) (hi0 : 0 ≤ i ∧ i + 6 ≤ len) (hln : len ≤ 384) (hk : ∀ (M1 : Mem) (s1 : Sg) (N1 : Int) (o5 o6 : Option DV), IV M1 s1 N1 len sc → N1 ≤ N + 120 → mnx M1 ≤ mnx M + 1400 → mns M1 ≤ mns M + 6000 → WP G d mL_law 2737 [some (dR (-5)), some (dR 0), some (dR 744), some (dR 760), some (dI i), o5, o6] [] M1 Q) : WP G d mL_law 1575 [some (dR (-5)), some (dR 0), some (dR 744), some (dR 760), some (dI i), none, none] [] M Q := by
  obtain ⟨v, n, A, hi, vi, tp, sz, fa⟩ := s
  obtain ⟨hC0, hT0, hF, h7, s5, hsc⟩ := id hJ
  have hC : CI M v n A hi vi tp sz fa N := hC0
  have s0 : msh M 0 = some (1, 0) := hC.1.1.1.1
  have hA : okA v := hC.2.1.1
  have hL : lawOK v := hC.2.1.2.1
  have hn : 0 ≤ n ∧ n ≤ 12 := hC.2.2.1.2.1
  refine x_aload_n dL_law_1575 rfl rfl ?_
  refine g_callI (vs := [_]) (d' := d - 1) rfl (uc_leaks (by omega) h7 hC) dL_law_1576 kX0_220 (by omega) (by decide) rfl (Nat.le_of_ble_eq_true rfl) (rcv_o (by first | assumption | first | assumption | (simp (disch := omega) only [shI, shR, shL, shC, shD, shW, sh_V, shN_e, shN_n, crI, crL, crC, crW, crV, crR_e, crR_n, crN_e, crN_n, ciR, ciL, ciD, ciN_e, ciN_n, rdI_e, rdI_n, rdC_i, rdC_o, rdW, rdU_e, rdU_n, rdLW, clI, clR, clC, clD, clW, clV, clN_e, clN_n, clL_e, clL_n]; done) | (simp (disch := omega) only [shI, shR, shL, shC, shD, shW, sh_V, shN_e, shN_n, crI, crL, crC, crW, crV, crR_e, crR_n, crN_e, crN_n, ciR, ciL, ciD, ciN_e, ciN_n, rdI_e, rdI_n, rdC_i, rdC_o, rdW, rdU_e, rdU_n, rdLW, clI, clR, clC, clD, clW, clV, clN_e, clN_n, clL_e, clL_n] <;> first | assumption | rfl | omega)) rfl) (fun x1576 M1576 h1576 => ?_)
  obtain ⟨s1576, N1576, hR1576, hN1576, hch1576⟩ := h1576
  obtain ⟨hT1576, ⟨me1576, mw1576⟩, sf1576, hs1576, hok1576, hX1576⟩ := hJ.mid hch1576
  have hI1576 : TI M1576 744 v n A hi vi tp sz fa := hT1576
  refine x_aload_n dL_law_1579 rfl rfl ?_
  refine g_callI (vs := [_]) (d' := d - 1) rfl (rc_leaks (by omega) hI1576 hR1576) dL_law_1580 kX0_223 (by omega) (by decide) rfl (Nat.le_of_ble_eq_true rfl) (rcv_o (by first | assumption | first | assumption | (simp (disch := omega) only [shI, shR, shL, shC, shD, shW, sh_V, shN_e, shN_n, crI, crL, crC, crW, crV, crR_e, crR_n, crN_e, crN_n, ciR, ciL, ciD, ciN_e, ciN_n, rdI_e, rdI_n, rdC_i, rdC_o, rdW, rdU_e, rdU_n, rdLW, clI, clR, clC, clD, clW, clV, clN_e, clN_n, clL_e, clL_n]; done) | (simp (disch := omega) only [shI, shR, shL, shC, shD, shW, sh_V, shN_e, shN_n, crI, crL, crC, crW, crV, crR_e, crR_n, crN_e, crN_n, ciR, ciL, ciD, ciN_e, ciN_n, rdI_e, rdI_n, rdC_i, rdC_o, rdW, rdU_e, rdU_n, rdLW, clI, clR, clC, clD, clW, clV, clN_e, clN_n, clL_e, clL_n] <;> first | assumption | rfl | omega)) rfl) (fun x1580 M1580 h1580 => ?_)
  obtain ⟨e1580, ht1580, hr1580⟩ := h1580
  obtain ⟨hJ1580, la1580, lb1580, tv1580, tm1580, tw1580, te1580⟩ := hJ.st (v' := s1576.1) hch1576 hr1580 (fun _ _ _ => rfl) ht1580 (xc_leaks hF hA hL hn hR1576)
  refine x_icmp_eq (tgt := 2737) dL_law_1583 (by decide) (fun b1583 => ?_) (fun b1583 => ?_)
  · exact hk _ _ _ _ _ hJ1580 hN1576 la1580 lb1580
  · exact absurd e1580.symm b1583
theorem cs_25 (hd : 100 ≤ d) (hJ : IV M s N len sc) (hN : N ≤ 900000000) (hi0 : 0 ≤ i ∧ i + 6 ≤ len) (hln : len ≤ 384) (hk : ∀ (M1 : Mem) (s1 : Sg) (N1 : Int) (o5 o6 : Option DV), IV M1 s1 N1 len sc → N1 ≤ N + 120 → mnx M1 ≤ mnx M + 1400 → mns M1 ≤ mns M + 6000 → WP G d mL_law 2737 [some (dR (-5)), some (dR 0), some (dR 744), some (dR 760), some (dI i), o5, o6] [] M1 Q) : WP G d mL_law 1588 [some (dR (-5)), some (dR 0), some (dR 744), some (dR 760), some (dI i), none, none] [] M Q := by
  obtain ⟨v, n, A, hi, vi, tp, sz, fa⟩ := s
  obtain ⟨hC0, hT0, hF, h7, s5, hsc⟩ := id hJ
  have hC : CI M v n A hi vi tp sz fa N := hC0
  have s0 : msh M 0 = some (1, 0) := hC.1.1.1.1
  have hA : okA v := hC.2.1.1
  have hL : lawOK v := hC.2.1.2.1
  have hn : 0 ≤ n ∧ n ≤ 12 := hC.2.2.1.2.1
  refine x_aload_n dL_law_1588 rfl rfl ?_
  refine x_aload_n dL_law_1589 rfl rfl ?_
  refine x_iload dL_law_1590 rfl ?_
  refine x_iconst dL_law_1592 rfl ?_
  first | refine x_iaddN dL_law_1593 (by unfold i32; omega) ?_ | refine x_iadd dL_law_1593 ?_
  refine x_iald dL_law_1594 (by first | assumption | first | assumption | (simp (disch := omega) only [shI, shR, shL, shC, shD, shW, sh_V, shN_e, shN_n, crI, crL, crC, crW, crV, crR_e, crR_n, crN_e, crN_n, ciR, ciL, ciD, ciN_e, ciN_n, rdI_e, rdI_n, rdC_i, rdC_o, rdW, rdU_e, rdU_n, rdLW, clI, clR, clC, clD, clW, clV, clN_e, clN_n, clL_e, clL_n]; done) | (simp (disch := omega) only [shI, shR, shL, shC, shD, shW, sh_V, shN_e, shN_n, crI, crL, crC, crW, crV, crR_e, crR_n, crN_e, crN_n, ciR, ciL, ciD, ciN_e, ciN_n, rdI_e, rdI_n, rdC_i, rdC_o, rdW, rdU_e, rdU_n, rdLW, clI, clR, clC, clD, clW, clV, clN_e, clN_n, clL_e, clL_n] <;> first | assumption | rfl | omega)) (by omega) (by omega) ?_
  rw [hsc]
  refine x_aload_n dL_law_1595 rfl rfl ?_
  refine g_callI (vs := [_, _, _]) (d' := d - 1) rfl (uc_traps (by omega) h7 hC) dL_law_1596 kX0_224 (by omega) (by decide) rfl (Nat.le_of_ble_eq_true rfl) (rcv_n) (fun x1596 M1596 h1596 => ?_)
  obtain ⟨y1596, s1596, N1596, hR1596, hy1596, hN1596, hch1596⟩ := h1596
  obtain ⟨hT1596, ⟨me1596, mw1596⟩, sf1596, hs1596, hok1596, hX1596⟩ := hJ.mid hch1596
  have hI1596 : TI M1596 744 v n A hi vi tp sz fa := hT1596
  refine x_istore (L' := [some _, some _, some _, some _, some _, some _, none]) dL_law_1599 (by decide) rfl ?_
  refine x_aload_n dL_law_1601 rfl rfl ?_
  refine x_aload_n dL_law_1602 rfl rfl ?_
  refine x_iload dL_law_1603 rfl ?_
  refine x_iconst dL_law_1605 rfl ?_
  first | refine x_iaddN dL_law_1606 (by unfold i32; omega) ?_ | refine x_iadd dL_law_1606 ?_
  refine x_iald dL_law_1607 (by first | assumption | first | assumption | (simp (disch := omega) only [shI, shR, shL, shC, shD, shW, sh_V, shN_e, shN_n, crI, crL, crC, crW, crV, crR_e, crR_n, crN_e, crN_n, ciR, ciL, ciD, ciN_e, ciN_n, rdI_e, rdI_n, rdC_i, rdC_o, rdW, rdU_e, rdU_n, rdLW, clI, clR, clC, clD, clW, clV, clN_e, clN_n, clL_e, clL_n]; done) | (simp (disch := omega) only [shI, shR, shL, shC, shD, shW, sh_V, shN_e, shN_n, crI, crL, crC, crW, crV, crR_e, crR_n, crN_e, crN_n, ciR, ciL, ciD, ciN_e, ciN_n, rdI_e, rdI_n, rdC_i, rdC_o, rdW, rdU_e, rdU_n, rdLW, clI, clR, clC, clD, clW, clV, clN_e, clN_n, clL_e, clL_n] <;> first | assumption | rfl | omega)) (by omega) (by omega) ?_
  rw [hs1596]
  refine g_callI (vs := [_, _]) (d' := d - 1) rfl (rc_traps (by omega) hI1596 hR1596) dL_law_1608 kX0_226 (by omega) (by decide) rfl (Nat.le_of_ble_eq_true rfl) (rcv_o (by first | assumption | first | assumption | (simp (disch := omega) only [shI, shR, shL, shC, shD, shW, sh_V, shN_e, shN_n, crI, crL, crC, crW, crV, crR_e, crR_n, crN_e, crN_n, ciR, ciL, ciD, ciN_e, ciN_n, rdI_e, rdI_n, rdC_i, rdC_o, rdW, rdU_e, rdU_n, rdLW, clI, clR, clC, clD, clW, clV, clN_e, clN_n, clL_e, clL_n]; done) | (simp (disch := omega) only [shI, shR, shL, shC, shD, shW, sh_V, shN_e, shN_n, crI, crL, crC, crW, crV, crR_e, crR_n, crN_e, crN_n, ciR, ciL, ciD, ciN_e, ciN_n, rdI_e, rdI_n, rdC_i, rdC_o, rdW, rdU_e, rdU_n, rdLW, clI, clR, clC, clD, clW, clV, clN_e, clN_n, clL_e, clL_n] <;> first | assumption | rfl | omega)) rfl) (fun x1608 M1608 h1608 => ?_)
  obtain ⟨e1608, hb1608, ⟨w1608, hv1608, ht1608⟩, hr1608⟩ := h1608
  obtain ⟨hJ1608, la1608, lb1608, tv1608, tm1608, tw1608, te1608⟩ := hJ.st (v' := w1608) hch1596 hr1608 hv1608 ht1608 (xc_traps hF hA hL hn hR1596)
  refine x_istore (L' := [some _, some _, some _, some _, some _, some _, some _]) dL_law_1611 (by decide) rfl ?_
  refine x_aload_n dL_law_1613 rfl rfl ?_
  refine g_callI (vs := [_]) (d' := d - 1) rfl (s_X8_thrown (by omega) tw1608) dL_law_1614 kX0_142 (by omega) (by decide) rfl (Nat.le_of_ble_eq_true rfl) (rcv_o (by first | assumption | first | assumption | (simp (disch := omega) only [shI, shR, shL, shC, shD, shW, sh_V, shN_e, shN_n, crI, crL, crC, crW, crV, crR_e, crR_n, crN_e, crN_n, ciR, ciL, ciD, ciN_e, ciN_n, rdI_e, rdI_n, rdC_i, rdC_o, rdW, rdU_e, rdU_n, rdLW, clI, clR, clC, clD, clW, clV, clN_e, clN_n, clL_e, clL_n]; done) | (simp (disch := omega) only [shI, shR, shL, shC, shD, shW, sh_V, shN_e, shN_n, crI, crL, crC, crW, crV, crR_e, crR_n, crN_e, crN_n, ciR, ciL, ciD, ciN_e, ciN_n, rdI_e, rdI_n, rdC_i, rdC_o, rdW, rdU_e, rdU_n, rdLW, clI, clR, clC, clD, clW, clV, clN_e, clN_n, clL_e, clL_n] <;> first | assumption | rfl | omega)) rfl) (fun x1614 M1614 h1614 => ?_)
  obtain ⟨e1614, f1614⟩ := h1614
  subst f1614
  refine x_iload dL_law_1617 rfl ?_
  refine x_icmp_eq (tgt := 1624) dL_law_1619 (by decide) (fun b1619 => ?_) (fun b1619 => ?_)
  · refine x_iload dL_law_1624 rfl ?_
    refine x_if_ne (tgt := 1641) dL_law_1626 (by decide) (fun b1626 => ?_) (fun b1626 => ?_)
    · refine x_goto (tgt := 2737) dL_law_1641 (by decide) ?_
      exact hk _ _ _ _ _ hJ1608 hN1596 la1608 lb1608
    · refine x_aload_n dL_law_1629 rfl rfl ?_
      refine x_iconst dL_law_1630 rfl ?_
      refine x_lald dL_law_1631 (by first | assumption | first | assumption | (simp (disch := omega) only [shI, shR, shL, shC, shD, shW, sh_V, shN_e, shN_n, crI, crL, crC, crW, crV, crR_e, crR_n, crN_e, crN_n, ciR, ciL, ciD, ciN_e, ciN_n, rdI_e, rdI_n, rdC_i, rdC_o, rdW, rdU_e, rdU_n, rdLW, clI, clR, clC, clD, clW, clV, clN_e, clN_n, clL_e, clL_n]; done) | (simp (disch := omega) only [shI, shR, shL, shC, shD, shW, sh_V, shN_e, shN_n, crI, crL, crC, crW, crV, crR_e, crR_n, crN_e, crN_n, ciR, ciL, ciD, ciN_e, ciN_n, rdI_e, rdI_n, rdC_i, rdC_o, rdW, rdU_e, rdU_n, rdLW, clI, clR, clC, clD, clW, clV, clN_e, clN_n, clL_e, clL_n] <;> first | assumption | rfl | omega)) (by omega) (by omega) ?_
      refine x_iload dL_law_1632 rfl ?_
      refine x_i2l dL_law_1634 ?_
      refine x_lcmp dL_law_1635 ?_
      refine x_if_eq (tgt := 1641) dL_law_1636 (by decide) (fun b1636 => ?_) (fun b1636 => ?_)
      · refine x_goto (tgt := 2737) dL_law_1641 (by decide) ?_
        exact hk _ _ _ _ _ hJ1608 hN1596 la1608 lb1608
      · exact absurd (jlcmp_0.mpr (by have h0 : x1596 = 0 := (by omega); have a1 := tm1608; have a2 := hy1596 h0; have a3 := hb1608 h0; omega)) b1636
  · exact absurd (e1614.trans e1608) b1619
end LW

