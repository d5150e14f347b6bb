/-! GuestViewLaw: the law's cases 39 to 51 -/
section LW
variable {G : GW} {d : Nat} {M : Mem} {Q : Res → Mem → Prop} {s : Sg} {N len i : Int} {sc : Int → Int}
theorem cs_39 (hd : 100 ≤ d) (hJ : IV M s N len sc) (hN : N ≤ 900000000) (hi0 : 0 ≤ i ∧ i + 6 ≤ len) (hln : len ≤ 384) (hk : ∀ (M1 : Mem) (s1 : Sg) (N1 : Int) (o5 o6 : Option DV), IV M1 s1 N1 len sc → N1 ≤ N + 120 → mnx M1 ≤ mnx M + 1400 → mns M1 ≤ mns M + 6000 → WP G d mL_law 2737 [some (dR (-5)), some (dR 0), some (dR 744), some (dR 760), some (dI i), o5, o6] [] M1 Q) : WP G d mL_law 2109 [some (dR (-5)), some (dR 0), some (dR 744), some (dR 760), some (dI i), none, none] [] M Q := by
  obtain ⟨v, n, A, hi, vi, tp, sz, fa⟩ := s
  obtain ⟨hC0, hT0, hF, h7, s5, hsc⟩ := id hJ
  have hC : CI M v n A hi vi tp sz fa N := hC0
  have s0 : msh M 0 = some (1, 0) := hC.1.1.1.1
  have hA : okA v := hC.2.1.1
  have hL : lawOK v := hC.2.1.2.1
  have hn : 0 ≤ n ∧ n ≤ 12 := hC.2.2.1.2.1
  refine x_aload_n dL_law_2109 rfl rfl ?_
  refine x_aload_n dL_law_2110 rfl rfl ?_
  refine x_iload dL_law_2111 rfl ?_
  refine x_iconst dL_law_2113 rfl ?_
  first | refine x_iaddN dL_law_2114 (by unfold i32; omega) ?_ | refine x_iadd dL_law_2114 ?_
  refine x_iald dL_law_2115 (by first | assumption | first | assumption | (simp (disch := omega) only [shI, shR, shL, shC, shD, shW, sh_V, shN_e, shN_n, crI, crL, crC, crW, crV, crR_e, crR_n, crN_e, crN_n, ciR, ciL, ciD, ciN_e, ciN_n, rdI_e, rdI_n, rdC_i, rdC_o, rdW, rdU_e, rdU_n, rdLW, clI, clR, clC, clD, clW, clV, clN_e, clN_n, clL_e, clL_n]; done) | (simp (disch := omega) only [shI, shR, shL, shC, shD, shW, sh_V, shN_e, shN_n, crI, crL, crC, crW, crV, crR_e, crR_n, crN_e, crN_n, ciR, ciL, ciD, ciN_e, ciN_n, rdI_e, rdI_n, rdC_i, rdC_o, rdW, rdU_e, rdU_n, rdLW, clI, clR, clC, clD, clW, clV, clN_e, clN_n, clL_e, clL_n] <;> first | assumption | rfl | omega)) (by omega) (by omega) ?_
  rw [hsc]
  refine x_aload_n dL_law_2116 rfl rfl ?_
  refine x_iload dL_law_2117 rfl ?_
  refine x_iconst dL_law_2119 rfl ?_
  first | refine x_iaddN dL_law_2120 (by unfold i32; omega) ?_ | refine x_iadd dL_law_2120 ?_
  refine x_iald dL_law_2121 (by first | assumption | first | assumption | (simp (disch := omega) only [shI, shR, shL, shC, shD, shW, sh_V, shN_e, shN_n, crI, crL, crC, crW, crV, crR_e, crR_n, crN_e, crN_n, ciR, ciL, ciD, ciN_e, ciN_n, rdI_e, rdI_n, rdC_i, rdC_o, rdW, rdU_e, rdU_n, rdLW, clI, clR, clC, clD, clW, clV, clN_e, clN_n, clL_e, clL_n]; done) | (simp (disch := omega) only [shI, shR, shL, shC, shD, shW, sh_V, shN_e, shN_n, crI, crL, crC, crW, crV, crR_e, crR_n, crN_e, crN_n, ciR, ciL, ciD, ciN_e, ciN_n, rdI_e, rdI_n, rdC_i, rdC_o, rdW, rdU_e, rdU_n, rdLW, clI, clR, clC, clD, clW, clV, clN_e, clN_n, clL_e, clL_n] <;> first | assumption | rfl | omega)) (by omega) (by omega) ?_
  rw [hsc]
  refine x_aload_n dL_law_2122 rfl rfl ?_
  refine g_callI (vs := [_, _, _, _]) (d' := d - 1) rfl (uc_odds (by omega) h7 hC) dL_law_2123 kX0_272 (by omega) (by decide) rfl (Nat.le_of_ble_eq_true rfl) (rcv_n) (fun x2123 M2123 h2123 => ?_)
  obtain ⟨y2123, s2123, N2123, hR2123, hy2123, hN2123, hch2123⟩ := h2123
  obtain ⟨hT2123, ⟨me2123, mw2123⟩, sf2123, hs2123, hok2123, hX2123⟩ := hJ.mid hch2123
  have hI2123 : TI M2123 744 v n A hi vi tp sz fa := hT2123
  refine x_istore (L' := [some _, some _, some _, some _, some _, some _, none]) dL_law_2126 (by decide) rfl ?_
  refine x_aload_n dL_law_2128 rfl rfl ?_
  refine x_aload_n dL_law_2129 rfl rfl ?_
  refine x_iload dL_law_2130 rfl ?_
  refine x_iconst dL_law_2132 rfl ?_
  first | refine x_iaddN dL_law_2133 (by unfold i32; omega) ?_ | refine x_iadd dL_law_2133 ?_
  refine x_iald dL_law_2134 (by first | assumption | first | assumption | (simp (disch := omega) only [shI, shR, shL, shC, shD, shW, sh_V, shN_e, shN_n, crI, crL, crC, crW, crV, crR_e, crR_n, crN_e, crN_n, ciR, ciL, ciD, ciN_e, ciN_n, rdI_e, rdI_n, rdC_i, rdC_o, rdW, rdU_e, rdU_n, rdLW, clI, clR, clC, clD, clW, clV, clN_e, clN_n, clL_e, clL_n]; done) | (simp (disch := omega) only [shI, shR, shL, shC, shD, shW, sh_V, shN_e, shN_n, crI, crL, crC, crW, crV, crR_e, crR_n, crN_e, crN_n, ciR, ciL, ciD, ciN_e, ciN_n, rdI_e, rdI_n, rdC_i, rdC_o, rdW, rdU_e, rdU_n, rdLW, clI, clR, clC, clD, clW, clV, clN_e, clN_n, clL_e, clL_n] <;> first | assumption | rfl | omega)) (by omega) (by omega) ?_
  rw [hs2123]
  refine x_aload_n dL_law_2135 rfl rfl ?_
  refine x_iload dL_law_2136 rfl ?_
  refine x_iconst dL_law_2138 rfl ?_
  first | refine x_iaddN dL_law_2139 (by unfold i32; omega) ?_ | refine x_iadd dL_law_2139 ?_
  refine x_iald dL_law_2140 (by first | assumption | first | assumption | (simp (disch := omega) only [shI, shR, shL, shC, shD, shW, sh_V, shN_e, shN_n, crI, crL, crC, crW, crV, crR_e, crR_n, crN_e, crN_n, ciR, ciL, ciD, ciN_e, ciN_n, rdI_e, rdI_n, rdC_i, rdC_o, rdW, rdU_e, rdU_n, rdLW, clI, clR, clC, clD, clW, clV, clN_e, clN_n, clL_e, clL_n]; done) | (simp (disch := omega) only [shI, shR, shL, shC, shD, shW, sh_V, shN_e, shN_n, crI, crL, crC, crW, crV, crR_e, crR_n, crN_e, crN_n, ciR, ciL, ciD, ciN_e, ciN_n, rdI_e, rdI_n, rdC_i, rdC_o, rdW, rdU_e, rdU_n, rdLW, clI, clR, clC, clD, clW, clV, clN_e, clN_n, clL_e, clL_n] <;> first | assumption | rfl | omega)) (by omega) (by omega) ?_
  rw [hs2123]
  refine g_callI (vs := [_, _, _]) (d' := d - 1) rfl (rc_odds (by omega) hI2123 hR2123) dL_law_2141 kX0_274 (by omega) (by decide) rfl (Nat.le_of_ble_eq_true rfl) (rcv_o (by first | assumption | first | assumption | (simp (disch := omega) only [shI, shR, shL, shC, shD, shW, sh_V, shN_e, shN_n, crI, crL, crC, crW, crV, crR_e, crR_n, crN_e, crN_n, ciR, ciL, ciD, ciN_e, ciN_n, rdI_e, rdI_n, rdC_i, rdC_o, rdW, rdU_e, rdU_n, rdLW, clI, clR, clC, clD, clW, clV, clN_e, clN_n, clL_e, clL_n]; done) | (simp (disch := omega) only [shI, shR, shL, shC, shD, shW, sh_V, shN_e, shN_n, crI, crL, crC, crW, crV, crR_e, crR_n, crN_e, crN_n, ciR, ciL, ciD, ciN_e, ciN_n, rdI_e, rdI_n, rdC_i, rdC_o, rdW, rdU_e, rdU_n, rdLW, clI, clR, clC, clD, clW, clV, clN_e, clN_n, clL_e, clL_n] <;> first | assumption | rfl | omega)) rfl) (fun x2141 M2141 h2141 => ?_)
  obtain ⟨e2141, hb2141, ⟨w2141, hv2141, ht2141⟩, hr2141⟩ := h2141
  obtain ⟨hJ2141, la2141, lb2141, tv2141, tm2141, tw2141, te2141⟩ := hJ.st (v' := w2141) hch2123 hr2141 hv2141 ht2141 (xc_odds hF hA hL hn hR2123)
  refine x_istore (L' := [some _, some _, some _, some _, some _, some _, some _]) dL_law_2144 (by decide) rfl ?_
  refine x_aload_n dL_law_2146 rfl rfl ?_
  refine g_callI (vs := [_]) (d' := d - 1) rfl (s_X8_thrown (by omega) tw2141) dL_law_2147 kX0_142 (by omega) (by decide) rfl (Nat.le_of_ble_eq_true rfl) (rcv_o (by first | assumption | first | assumption | (simp (disch := omega) only [shI, shR, shL, shC, shD, shW, sh_V, shN_e, shN_n, crI, crL, crC, crW, crV, crR_e, crR_n, crN_e, crN_n, ciR, ciL, ciD, ciN_e, ciN_n, rdI_e, rdI_n, rdC_i, rdC_o, rdW, rdU_e, rdU_n, rdLW, clI, clR, clC, clD, clW, clV, clN_e, clN_n, clL_e, clL_n]; done) | (simp (disch := omega) only [shI, shR, shL, shC, shD, shW, sh_V, shN_e, shN_n, crI, crL, crC, crW, crV, crR_e, crR_n, crN_e, crN_n, ciR, ciL, ciD, ciN_e, ciN_n, rdI_e, rdI_n, rdC_i, rdC_o, rdW, rdU_e, rdU_n, rdLW, clI, clR, clC, clD, clW, clV, clN_e, clN_n, clL_e, clL_n] <;> first | assumption | rfl | omega)) rfl) (fun x2147 M2147 h2147 => ?_)
  obtain ⟨e2147, f2147⟩ := h2147
  subst f2147
  refine x_iload dL_law_2150 rfl ?_
  refine x_icmp_eq (tgt := 2157) dL_law_2152 (by decide) (fun b2152 => ?_) (fun b2152 => ?_)
  · refine x_iload dL_law_2157 rfl ?_
    refine x_if_ne (tgt := 2174) dL_law_2159 (by decide) (fun b2159 => ?_) (fun b2159 => ?_)
    · refine x_goto (tgt := 2737) dL_law_2174 (by decide) ?_
      exact hk _ _ _ _ _ hJ2141 hN2123 la2141 lb2141
    · refine x_aload_n dL_law_2162 rfl rfl ?_
      refine x_iconst dL_law_2163 rfl ?_
      refine x_lald dL_law_2164 (by first | assumption | first | assumption | (simp (disch := omega) only [shI, shR, shL, shC, shD, shW, sh_V, shN_e, shN_n, crI, crL, crC, crW, crV, crR_e, crR_n, crN_e, crN_n, ciR, ciL, ciD, ciN_e, ciN_n, rdI_e, rdI_n, rdC_i, rdC_o, rdW, rdU_e, rdU_n, rdLW, clI, clR, clC, clD, clW, clV, clN_e, clN_n, clL_e, clL_n]; done) | (simp (disch := omega) only [shI, shR, shL, shC, shD, shW, sh_V, shN_e, shN_n, crI, crL, crC, crW, crV, crR_e, crR_n, crN_e, crN_n, ciR, ciL, ciD, ciN_e, ciN_n, rdI_e, rdI_n, rdC_i, rdC_o, rdW, rdU_e, rdU_n, rdLW, clI, clR, clC, clD, clW, clV, clN_e, clN_n, clL_e, clL_n] <;> first | assumption | rfl | omega)) (by omega) (by omega) ?_
      refine x_iload dL_law_2165 rfl ?_
      refine x_i2l dL_law_2167 ?_
      refine x_lcmp dL_law_2168 ?_
      refine x_if_eq (tgt := 2174) dL_law_2169 (by decide) (fun b2169 => ?_) (fun b2169 => ?_)
      · refine x_goto (tgt := 2737) dL_law_2174 (by decide) ?_
        exact hk _ _ _ _ _ hJ2141 hN2123 la2141 lb2141
      · exact absurd (jlcmp_0.mpr (by have h0 : x2123 = 0 := (by omega); have a1 := tm2141; have a2 := hy2123 h0; have a3 := hb2141 h0; omega)) b2169
  · exact absurd (e2147.trans e2141) b2152
theorem cs_40 (hd : 100 ≤ d) (hJ : IV M s N len sc) (hN : N ≤ 900000000) (hi0 : 0 ≤ i ∧ i + 6 ≤ len) (hln : len ≤ 384) (hk : ∀ (M1 : Mem) (s1 : Sg) (N1 : Int) (o5 o6 : Option DV), IV M1 s1 N1 len sc → N1 ≤ N + 120 → mnx M1 ≤ mnx M + 1400 → mns M1 ≤ mns M + 6000 → WP G d mL_law 2737 [some (dR (-5)), some (dR 0), some (dR 744), some (dR 760), some (dI i), o5, o6] [] M1 Q) : WP G d mL_law 2177 [some (dR (-5)), some (dR 0), some (dR 744), some (dR 760), some (dI i), none, none] [] M Q := by
  obtain ⟨v, n, A, hi, vi, tp, sz, fa⟩ := s
  obtain ⟨hC0, hT0, hF, h7, s5, hsc⟩ := id hJ
  have hC : CI M v n A hi vi tp sz fa N := hC0
  have s0 : msh M 0 = some (1, 0) := hC.1.1.1.1
  have hA : okA v := hC.2.1.1
  have hL : lawOK v := hC.2.1.2.1
  have hn : 0 ≤ n ∧ n ≤ 12 := hC.2.2.1.2.1
  refine x_aload_n dL_law_2177 rfl rfl ?_
  refine x_aload_n dL_law_2178 rfl rfl ?_
  refine x_iload dL_law_2179 rfl ?_
  refine x_iconst dL_law_2181 rfl ?_
  first | refine x_iaddN dL_law_2182 (by unfold i32; omega) ?_ | refine x_iadd dL_law_2182 ?_
  refine x_iald dL_law_2183 (by first | assumption | first | assumption | (simp (disch := omega) only [shI, shR, shL, shC, shD, shW, sh_V, shN_e, shN_n, crI, crL, crC, crW, crV, crR_e, crR_n, crN_e, crN_n, ciR, ciL, ciD, ciN_e, ciN_n, rdI_e, rdI_n, rdC_i, rdC_o, rdW, rdU_e, rdU_n, rdLW, clI, clR, clC, clD, clW, clV, clN_e, clN_n, clL_e, clL_n]; done) | (simp (disch := omega) only [shI, shR, shL, shC, shD, shW, sh_V, shN_e, shN_n, crI, crL, crC, crW, crV, crR_e, crR_n, crN_e, crN_n, ciR, ciL, ciD, ciN_e, ciN_n, rdI_e, rdI_n, rdC_i, rdC_o, rdW, rdU_e, rdU_n, rdLW, clI, clR, clC, clD, clW, clV, clN_e, clN_n, clL_e, clL_n] <;> first | assumption | rfl | omega)) (by omega) (by omega) ?_
  rw [hsc]
  refine x_aload_n dL_law_2184 rfl rfl ?_
  refine g_callI (vs := [_, _, _]) (d' := d - 1) rfl (uc_most (by omega) h7 hC) dL_law_2185 kX0_275 (by omega) (by decide) rfl (Nat.le_of_ble_eq_true rfl) (rcv_n) (fun x2185 M2185 h2185 => ?_)
  obtain ⟨y2185, s2185, N2185, hR2185, hy2185, hN2185, hch2185⟩ := h2185
  obtain ⟨hT2185, ⟨me2185, mw2185⟩, sf2185, hs2185, hok2185, hX2185⟩ := hJ.mid hch2185
  have hI2185 : TI M2185 744 v n A hi vi tp sz fa := hT2185
  refine x_istore (L' := [some _, some _, some _, some _, some _, some _, none]) dL_law_2188 (by decide) rfl ?_
  refine x_aload_n dL_law_2190 rfl rfl ?_
  refine x_aload_n dL_law_2191 rfl rfl ?_
  refine x_iload dL_law_2192 rfl ?_
  refine x_iconst dL_law_2194 rfl ?_
  first | refine x_iaddN dL_law_2195 (by unfold i32; omega) ?_ | refine x_iadd dL_law_2195 ?_
  refine x_iald dL_law_2196 (by first | assumption | first | assumption | (simp (disch := omega) only [shI, shR, shL, shC, shD, shW, sh_V, shN_e, shN_n, crI, crL, crC, crW, crV, crR_e, crR_n, crN_e, crN_n, ciR, ciL, ciD, ciN_e, ciN_n, rdI_e, rdI_n, rdC_i, rdC_o, rdW, rdU_e, rdU_n, rdLW, clI, clR, clC, clD, clW, clV, clN_e, clN_n, clL_e, clL_n]; done) | (simp (disch := omega) only [shI, shR, shL, shC, shD, shW, sh_V, shN_e, shN_n, crI, crL, crC, crW, crV, crR_e, crR_n, crN_e, crN_n, ciR, ciL, ciD, ciN_e, ciN_n, rdI_e, rdI_n, rdC_i, rdC_o, rdW, rdU_e, rdU_n, rdLW, clI, clR, clC, clD, clW, clV, clN_e, clN_n, clL_e, clL_n] <;> first | assumption | rfl | omega)) (by omega) (by omega) ?_
  rw [hs2185]
  refine g_callI (vs := [_, _]) (d' := d - 1) rfl (rc_most (by omega) hI2185 hR2185) dL_law_2197 kX0_277 (by omega) (by decide) rfl (Nat.le_of_ble_eq_true rfl) (rcv_o (by first | assumption | first | assumption | (simp (disch := omega) only [shI, shR, shL, shC, shD, shW, sh_V, shN_e, shN_n, crI, crL, crC, crW, crV, crR_e, crR_n, crN_e, crN_n, ciR, ciL, ciD, ciN_e, ciN_n, rdI_e, rdI_n, rdC_i, rdC_o, rdW, rdU_e, rdU_n, rdLW, clI, clR, clC, clD, clW, clV, clN_e, clN_n, clL_e, clL_n]; done) | (simp (disch := omega) only [shI, shR, shL, shC, shD, shW, sh_V, shN_e, shN_n, crI, crL, crC, crW, crV, crR_e, crR_n, crN_e, crN_n, ciR, ciL, ciD, ciN_e, ciN_n, rdI_e, rdI_n, rdC_i, rdC_o, rdW, rdU_e, rdU_n, rdLW, clI, clR, clC, clD, clW, clV, clN_e, clN_n, clL_e, clL_n] <;> first | assumption | rfl | omega)) rfl) (fun x2197 M2197 h2197 => ?_)
  obtain ⟨e2197, hb2197, ⟨w2197, hv2197, ht2197⟩, hr2197⟩ := h2197
  obtain ⟨hJ2197, la2197, lb2197, tv2197, tm2197, tw2197, te2197⟩ := hJ.st (v' := w2197) hch2185 hr2197 hv2197 ht2197 (xc_most hF hA hL hn hR2185)
  refine x_istore (L' := [some _, some _, some _, some _, some _, some _, some _]) dL_law_2200 (by decide) rfl ?_
  refine x_aload_n dL_law_2202 rfl rfl ?_
  refine g_callI (vs := [_]) (d' := d - 1) rfl (s_X8_thrown (by omega) tw2197) dL_law_2203 kX0_142 (by omega) (by decide) rfl (Nat.le_of_ble_eq_true rfl) (rcv_o (by first | assumption | first | assumption | (simp (disch := omega) only [shI, shR, shL, shC, shD, shW, sh_V, shN_e, shN_n, crI, crL, crC, crW, crV, crR_e, crR_n, crN_e, crN_n, ciR, ciL, ciD, ciN_e, ciN_n, rdI_e, rdI_n, rdC_i, rdC_o, rdW, rdU_e, rdU_n, rdLW, clI, clR, clC, clD, clW, clV, clN_e, clN_n, clL_e, clL_n]; done) | (simp (disch := omega) only [shI, shR, shL, shC, shD, shW, sh_V, shN_e, shN_n, crI, crL, crC, crW, crV, crR_e, crR_n, crN_e, crN_n, ciR, ciL, ciD, ciN_e, ciN_n, rdI_e, rdI_n, rdC_i, rdC_o, rdW, rdU_e, rdU_n, rdLW, clI, clR, clC, clD, clW, clV, clN_e, clN_n, clL_e, clL_n] <;> first | assumption | rfl | omega)) rfl) (fun x2203 M2203 h2203 => ?_)
  obtain ⟨e2203, f2203⟩ := h2203
  subst f2203
  refine x_iload dL_law_2206 rfl ?_
  refine x_icmp_eq (tgt := 2213) dL_law_2208 (by decide) (fun b2208 => ?_) (fun b2208 => ?_)
  · refine x_iload dL_law_2213 rfl ?_
    refine x_if_ne (tgt := 2230) dL_law_2215 (by decide) (fun b2215 => ?_) (fun b2215 => ?_)
    · refine x_goto (tgt := 2737) dL_law_2230 (by decide) ?_
      exact hk _ _ _ _ _ hJ2197 hN2185 la2197 lb2197
    · refine x_aload_n dL_law_2218 rfl rfl ?_
      refine x_iconst dL_law_2219 rfl ?_
      refine x_lald dL_law_2220 (by first | assumption | first | assumption | (simp (disch := omega) only [shI, shR, shL, shC, shD, shW, sh_V, shN_e, shN_n, crI, crL, crC, crW, crV, crR_e, crR_n, crN_e, crN_n, ciR, ciL, ciD, ciN_e, ciN_n, rdI_e, rdI_n, rdC_i, rdC_o, rdW, rdU_e, rdU_n, rdLW, clI, clR, clC, clD, clW, clV, clN_e, clN_n, clL_e, clL_n]; done) | (simp (disch := omega) only [shI, shR, shL, shC, shD, shW, sh_V, shN_e, shN_n, crI, crL, crC, crW, crV, crR_e, crR_n, crN_e, crN_n, ciR, ciL, ciD, ciN_e, ciN_n, rdI_e, rdI_n, rdC_i, rdC_o, rdW, rdU_e, rdU_n, rdLW, clI, clR, clC, clD, clW, clV, clN_e, clN_n, clL_e, clL_n] <;> first | assumption | rfl | omega)) (by omega) (by omega) ?_
      refine x_iload dL_law_2221 rfl ?_
      refine x_i2l dL_law_2223 ?_
      refine x_lcmp dL_law_2224 ?_
      refine x_if_eq (tgt := 2230) dL_law_2225 (by decide) (fun b2225 => ?_) (fun b2225 => ?_)
      · refine x_goto (tgt := 2737) dL_law_2230 (by decide) ?_
        exact hk _ _ _ _ _ hJ2197 hN2185 la2197 lb2197
      · exact absurd (jlcmp_0.mpr (by have h0 : x2185 = 0 := (by omega); have a1 := tm2197; have a2 := hy2185 h0; have a3 := hb2197 h0; omega)) b2225
  · exact absurd (e2203.trans e2197) b2208
theorem cs_41 (hd : 100 ≤ d) (hJ : IV M s N len sc) (hN : N ≤ 900000000) (hi0 : 0 ≤ i ∧ i + 6 ≤ len) (hln : len ≤ 384) (hk : ∀ (M1 : Mem) (s1 : Sg) (N1 : Int) (o5 o6 : Option DV), IV M1 s1 N1 len sc → N1 ≤ N + 120 → mnx M1 ≤ mnx M + 1400 → mns M1 ≤ mns M + 6000 → WP G d mL_law 2737 [some (dR (-5)), some (dR 0), some (dR 744), some (dR 760), some (dI i), o5, o6] [] M1 Q) : WP G d mL_law 2233 [some (dR (-5)), some (dR 0), some (dR 744), some (dR 760), some (dI i), none, none] [] M Q := by
  obtain ⟨v, n, A, hi, vi, tp, sz, fa⟩ := s
  obtain ⟨hC0, hT0, hF, h7, s5, hsc⟩ := id hJ
  have hC : CI M v n A hi vi tp sz fa N := hC0
  have s0 : msh M 0 = some (1, 0) := hC.1.1.1.1
  have hA : okA v := hC.2.1.1
  have hL : lawOK v := hC.2.1.2.1
  have hn : 0 ≤ n ∧ n ≤ 12 := hC.2.2.1.2.1
  refine x_aload_n dL_law_2233 rfl rfl ?_
  refine g_callI (vs := [_]) (d' := d - 1) rfl (uc_twins (by omega) h7 hC) dL_law_2234 kX0_278 (by omega) (by decide) rfl (Nat.le_of_ble_eq_true rfl) (rcv_o (by first | assumption | first | assumption | (simp (disch := omega) only [shI, shR, shL, shC, shD, shW, sh_V, shN_e, shN_n, crI, crL, crC, crW, crV, crR_e, crR_n, crN_e, crN_n, ciR, ciL, ciD, ciN_e, ciN_n, rdI_e, rdI_n, rdC_i, rdC_o, rdW, rdU_e, rdU_n, rdLW, clI, clR, clC, clD, clW, clV, clN_e, clN_n, clL_e, clL_n]; done) | (simp (disch := omega) only [shI, shR, shL, shC, shD, shW, sh_V, shN_e, shN_n, crI, crL, crC, crW, crV, crR_e, crR_n, crN_e, crN_n, ciR, ciL, ciD, ciN_e, ciN_n, rdI_e, rdI_n, rdC_i, rdC_o, rdW, rdU_e, rdU_n, rdLW, clI, clR, clC, clD, clW, clV, clN_e, clN_n, clL_e, clL_n] <;> first | assumption | rfl | omega)) rfl) (fun x2234 M2234 h2234 => ?_)
  obtain ⟨s2234, N2234, hR2234, hN2234, hch2234⟩ := h2234
  obtain ⟨hT2234, ⟨me2234, mw2234⟩, sf2234, hs2234, hok2234, hX2234⟩ := hJ.mid hch2234
  have hI2234 : TI M2234 744 v n A hi vi tp sz fa := hT2234
  refine x_aload_n dL_law_2237 rfl rfl ?_
  refine g_callI (vs := [_]) (d' := d - 1) rfl (rc_twins (by omega) hI2234 hR2234) dL_law_2238 kX0_281 (by omega) (by decide) rfl (Nat.le_of_ble_eq_true rfl) (rcv_o (by first | assumption | first | assumption | (simp (disch := omega) only [shI, shR, shL, shC, shD, shW, sh_V, shN_e, shN_n, crI, crL, crC, crW, crV, crR_e, crR_n, crN_e, crN_n, ciR, ciL, ciD, ciN_e, ciN_n, rdI_e, rdI_n, rdC_i, rdC_o, rdW, rdU_e, rdU_n, rdLW, clI, clR, clC, clD, clW, clV, clN_e, clN_n, clL_e, clL_n]; done) | (simp (disch := omega) only [shI, shR, shL, shC, shD, shW, sh_V, shN_e, shN_n, crI, crL, crC, crW, crV, crR_e, crR_n, crN_e, crN_n, ciR, ciL, ciD, ciN_e, ciN_n, rdI_e, rdI_n, rdC_i, rdC_o, rdW, rdU_e, rdU_n, rdLW, clI, clR, clC, clD, clW, clV, clN_e, clN_n, clL_e, clL_n] <;> first | assumption | rfl | omega)) rfl) (fun x2238 M2238 h2238 => ?_)
  obtain ⟨e2238, ht2238, hr2238⟩ := h2238
  obtain ⟨hJ2238, la2238, lb2238, tv2238, tm2238, tw2238, te2238⟩ := hJ.st (v' := s2234.1) hch2234 hr2238 (fun _ _ _ => rfl) ht2238 (xc_twins hF hA hL hn hR2234)
  refine x_icmp_eq (tgt := 2737) dL_law_2241 (by decide) (fun b2241 => ?_) (fun b2241 => ?_)
  · exact hk _ _ _ _ _ hJ2238 hN2234 la2238 lb2238
  · exact absurd e2238.symm b2241
theorem cs_42 (hd : 100 ≤ d) (hJ : IV M s N len sc) (hN : N ≤ 900000000) (hi0 : 0 ≤ i ∧ i + 6 ≤ len) (hln : len ≤ 384) (hk : ∀ (M1 : Mem) (s1 : Sg) (N1 : Int) (o5 o6 : Option DV), IV M1 s1 N1 len sc → N1 ≤ N + 120 → mnx M1 ≤ mnx M + 1400 → mns M1 ≤ mns M + 6000 → WP G d mL_law 2737 [some (dR (-5)), some (dR 0), some (dR 744), some (dR 760), some (dI i), o5, o6] [] M1 Q) : WP G d mL_law 2246 [some (dR (-5)), some (dR 0), some (dR 744), some (dR 760), some (dI i), none, none] [] M Q := by
  obtain ⟨v, n, A, hi, vi, tp, sz, fa⟩ := s
  obtain ⟨hC0, hT0, hF, h7, s5, hsc⟩ := id hJ
  have hC : CI M v n A hi vi tp sz fa N := hC0
  have s0 : msh M 0 = some (1, 0) := hC.1.1.1.1
  have hA : okA v := hC.2.1.1
  have hL : lawOK v := hC.2.1.2.1
  have hn : 0 ≤ n ∧ n ≤ 12 := hC.2.2.1.2.1
  by_cases hz : sc (i + 2) = 0
  · refine x_aload_n dL_law_2246 rfl rfl ?_
    refine x_aload_n dL_law_2247 rfl rfl ?_
    refine x_iload dL_law_2248 rfl ?_
    refine x_iconst dL_law_2250 rfl ?_
    first | refine x_iaddN dL_law_2251 (by unfold i32; omega) ?_ | refine x_iadd dL_law_2251 ?_
    refine x_iald dL_law_2252 (by first | assumption | first | assumption | (simp (disch := omega) only [shI, shR, shL, shC, shD, shW, sh_V, shN_e, shN_n, crI, crL, crC, crW, crV, crR_e, crR_n, crN_e, crN_n, ciR, ciL, ciD, ciN_e, ciN_n, rdI_e, rdI_n, rdC_i, rdC_o, rdW, rdU_e, rdU_n, rdLW, clI, clR, clC, clD, clW, clV, clN_e, clN_n, clL_e, clL_n]; done) | (simp (disch := omega) only [shI, shR, shL, shC, shD, shW, sh_V, shN_e, shN_n, crI, crL, crC, crW, crV, crR_e, crR_n, crN_e, crN_n, ciR, ciL, ciD, ciN_e, ciN_n, rdI_e, rdI_n, rdC_i, rdC_o, rdW, rdU_e, rdU_n, rdLW, clI, clR, clC, clD, clW, clV, clN_e, clN_n, clL_e, clL_n] <;> first | assumption | rfl | omega)) (by omega) (by omega) ?_
    rw [hsc]
    refine x_aload_n dL_law_2253 rfl rfl ?_
    refine x_iload dL_law_2254 rfl ?_
    refine x_iconst dL_law_2256 rfl ?_
    first | refine x_iaddN dL_law_2257 (by unfold i32; omega) ?_ | refine x_iadd dL_law_2257 ?_
    refine x_iald dL_law_2258 (by first | assumption | first | assumption | (simp (disch := omega) only [shI, shR, shL, shC, shD, shW, sh_V, shN_e, shN_n, crI, crL, crC, crW, crV, crR_e, crR_n, crN_e, crN_n, ciR, ciL, ciD, ciN_e, ciN_n, rdI_e, rdI_n, rdC_i, rdC_o, rdW, rdU_e, rdU_n, rdLW, clI, clR, clC, clD, clW, clV, clN_e, clN_n, clL_e, clL_n]; done) | (simp (disch := omega) only [shI, shR, shL, shC, shD, shW, sh_V, shN_e, shN_n, crI, crL, crC, crW, crV, crR_e, crR_n, crN_e, crN_n, ciR, ciL, ciD, ciN_e, ciN_n, rdI_e, rdI_n, rdC_i, rdC_o, rdW, rdU_e, rdU_n, rdLW, clI, clR, clC, clD, clW, clV, clN_e, clN_n, clL_e, clL_n] <;> first | assumption | rfl | omega)) (by omega) (by omega) ?_
    rw [hsc]
    refine x_if_eq (tgt := 2266) dL_law_2259 (by decide) (fun b2259 => ?_) (fun b2259 => ?_)
    · refine x_iconst dL_law_2266 rfl ?_
      refine x_aload_n dL_law_2267 rfl rfl ?_
      refine g_callI (vs := [_, _, _, _]) (d' := d - 1) rfl (uc_ahead (by omega) h7 hC hN (Or.inl rfl)) dL_law_2268 kX0_282 (by omega) (by decide) rfl (Nat.le_of_ble_eq_true rfl) (rcv_n) (fun x2268 M2268 h2268 => ?_)
      obtain ⟨y2268, s2268, N2268, hR2268, hy2268, hN2268, hch2268⟩ := h2268
      obtain ⟨hT2268, ⟨me2268, mw2268⟩, sf2268, hs2268, hok2268, hX2268⟩ := hJ.mid hch2268
      have hI2268 : TI M2268 744 v n A hi vi tp sz fa := hT2268
      refine x_istore (L' := [some _, some _, some _, some _, some _, some _, none]) dL_law_2271 (by decide) rfl ?_
      refine x_aload_n dL_law_2273 rfl rfl ?_
      refine x_aload_n dL_law_2274 rfl rfl ?_
      refine x_iload dL_law_2275 rfl ?_
      refine x_iconst dL_law_2277 rfl ?_
      first | refine x_iaddN dL_law_2278 (by unfold i32; omega) ?_ | refine x_iadd dL_law_2278 ?_
      refine x_iald dL_law_2279 (by first | assumption | first | assumption | (simp (disch := omega) only [shI, shR, shL, shC, shD, shW, sh_V, shN_e, shN_n, crI, crL, crC, crW, crV, crR_e, crR_n, crN_e, crN_n, ciR, ciL, ciD, ciN_e, ciN_n, rdI_e, rdI_n, rdC_i, rdC_o, rdW, rdU_e, rdU_n, rdLW, clI, clR, clC, clD, clW, clV, clN_e, clN_n, clL_e, clL_n]; done) | (simp (disch := omega) only [shI, shR, shL, shC, shD, shW, sh_V, shN_e, shN_n, crI, crL, crC, crW, crV, crR_e, crR_n, crN_e, crN_n, ciR, ciL, ciD, ciN_e, ciN_n, rdI_e, rdI_n, rdC_i, rdC_o, rdW, rdU_e, rdU_n, rdLW, clI, clR, clC, clD, clW, clV, clN_e, clN_n, clL_e, clL_n] <;> first | assumption | rfl | omega)) (by omega) (by omega) ?_
      rw [hs2268]
      refine x_aload_n dL_law_2280 rfl rfl ?_
      refine x_iload dL_law_2281 rfl ?_
      refine x_iconst dL_law_2283 rfl ?_
      first | refine x_iaddN dL_law_2284 (by unfold i32; omega) ?_ | refine x_iadd dL_law_2284 ?_
      refine x_iald dL_law_2285 (by first | assumption | first | assumption | (simp (disch := omega) only [shI, shR, shL, shC, shD, shW, sh_V, shN_e, shN_n, crI, crL, crC, crW, crV, crR_e, crR_n, crN_e, crN_n, ciR, ciL, ciD, ciN_e, ciN_n, rdI_e, rdI_n, rdC_i, rdC_o, rdW, rdU_e, rdU_n, rdLW, clI, clR, clC, clD, clW, clV, clN_e, clN_n, clL_e, clL_n]; done) | (simp (disch := omega) only [shI, shR, shL, shC, shD, shW, sh_V, shN_e, shN_n, crI, crL, crC, crW, crV, crR_e, crR_n, crN_e, crN_n, ciR, ciL, ciD, ciN_e, ciN_n, rdI_e, rdI_n, rdC_i, rdC_o, rdW, rdU_e, rdU_n, rdLW, clI, clR, clC, clD, clW, clV, clN_e, clN_n, clL_e, clL_n] <;> first | assumption | rfl | omega)) (by omega) (by omega) ?_
      rw [hs2268]
      refine x_if_eq (tgt := 2293) dL_law_2286 (by decide) (fun b2286 => ?_) (fun b2286 => ?_)
      · refine x_iconst dL_law_2293 rfl ?_
        refine g_callI (vs := [_, _, _]) (d' := d - 1) rfl (rc_ahead (by omega) hI2268 hR2268) dL_law_2294 kX0_284 (by omega) (by decide) rfl (Nat.le_of_ble_eq_true rfl) (rcv_o (by first | assumption | first | assumption | (simp (disch := omega) only [shI, shR, shL, shC, shD, shW, sh_V, shN_e, shN_n, crI, crL, crC, crW, crV, crR_e, crR_n, crN_e, crN_n, ciR, ciL, ciD, ciN_e, ciN_n, rdI_e, rdI_n, rdC_i, rdC_o, rdW, rdU_e, rdU_n, rdLW, clI, clR, clC, clD, clW, clV, clN_e, clN_n, clL_e, clL_n]; done) | (simp (disch := omega) only [shI, shR, shL, shC, shD, shW, sh_V, shN_e, shN_n, crI, crL, crC, crW, crV, crR_e, crR_n, crN_e, crN_n, ciR, ciL, ciD, ciN_e, ciN_n, rdI_e, rdI_n, rdC_i, rdC_o, rdW, rdU_e, rdU_n, rdLW, clI, clR, clC, clD, clW, clV, clN_e, clN_n, clL_e, clL_n] <;> first | assumption | rfl | omega)) rfl) (fun x2294 M2294 h2294 => ?_)
        obtain ⟨e2294, hb2294, ⟨w2294, hv2294, ht2294⟩, hr2294⟩ := h2294
        obtain ⟨hJ2294, la2294, lb2294, tv2294, tm2294, tw2294, te2294⟩ := hJ.st (v' := w2294) hch2268 hr2294 hv2294 ht2294 (xc_ahead hF hA hL hn hR2268)
        refine x_istore (L' := [some _, some _, some _, some _, some _, some _, some _]) dL_law_2297 (by decide) rfl ?_
        refine x_aload_n dL_law_2299 rfl rfl ?_
        refine g_callI (vs := [_]) (d' := d - 1) rfl (s_X8_thrown (by omega) tw2294) dL_law_2300 kX0_142 (by omega) (by decide) rfl (Nat.le_of_ble_eq_true rfl) (rcv_o (by first | assumption | first | assumption | (simp (disch := omega) only [shI, shR, shL, shC, shD, shW, sh_V, shN_e, shN_n, crI, crL, crC, crW, crV, crR_e, crR_n, crN_e, crN_n, ciR, ciL, ciD, ciN_e, ciN_n, rdI_e, rdI_n, rdC_i, rdC_o, rdW, rdU_e, rdU_n, rdLW, clI, clR, clC, clD, clW, clV, clN_e, clN_n, clL_e, clL_n]; done) | (simp (disch := omega) only [shI, shR, shL, shC, shD, shW, sh_V, shN_e, shN_n, crI, crL, crC, crW, crV, crR_e, crR_n, crN_e, crN_n, ciR, ciL, ciD, ciN_e, ciN_n, rdI_e, rdI_n, rdC_i, rdC_o, rdW, rdU_e, rdU_n, rdLW, clI, clR, clC, clD, clW, clV, clN_e, clN_n, clL_e, clL_n] <;> first | assumption | rfl | omega)) rfl) (fun x2300 M2300 h2300 => ?_)
        obtain ⟨e2300, f2300⟩ := h2300
        subst f2300
        refine x_iload dL_law_2303 rfl ?_
        refine x_icmp_eq (tgt := 2310) dL_law_2305 (by decide) (fun b2305 => ?_) (fun b2305 => ?_)
        · refine x_iload dL_law_2310 rfl ?_
          refine x_if_ne (tgt := 2327) dL_law_2312 (by decide) (fun b2312 => ?_) (fun b2312 => ?_)
          · refine x_goto (tgt := 2737) dL_law_2327 (by decide) ?_
            exact hk _ _ _ _ _ hJ2294 hN2268 la2294 lb2294
          · refine x_aload_n dL_law_2315 rfl rfl ?_
            refine x_iconst dL_law_2316 rfl ?_
            refine x_lald dL_law_2317 (by first | assumption | first | assumption | (simp (disch := omega) only [shI, shR, shL, shC, shD, shW, sh_V, shN_e, shN_n, crI, crL, crC, crW, crV, crR_e, crR_n, crN_e, crN_n, ciR, ciL, ciD, ciN_e, ciN_n, rdI_e, rdI_n, rdC_i, rdC_o, rdW, rdU_e, rdU_n, rdLW, clI, clR, clC, clD, clW, clV, clN_e, clN_n, clL_e, clL_n]; done) | (simp (disch := omega) only [shI, shR, shL, shC, shD, shW, sh_V, shN_e, shN_n, crI, crL, crC, crW, crV, crR_e, crR_n, crN_e, crN_n, ciR, ciL, ciD, ciN_e, ciN_n, rdI_e, rdI_n, rdC_i, rdC_o, rdW, rdU_e, rdU_n, rdLW, clI, clR, clC, clD, clW, clV, clN_e, clN_n, clL_e, clL_n] <;> first | assumption | rfl | omega)) (by omega) (by omega) ?_
            refine x_iload dL_law_2318 rfl ?_
            refine x_i2l dL_law_2320 ?_
            refine x_lcmp dL_law_2321 ?_
            refine x_if_eq (tgt := 2327) dL_law_2322 (by decide) (fun b2322 => ?_) (fun b2322 => ?_)
            · refine x_goto (tgt := 2737) dL_law_2327 (by decide) ?_
              exact hk _ _ _ _ _ hJ2294 hN2268 la2294 lb2294
            · exact absurd (jlcmp_0.mpr (by have h0 : x2268 = 0 := (by omega); have a1 := tm2294; have a2 := hy2268 h0; have a3 := hb2294 h0; omega)) b2322
        · exact absurd (e2300.trans e2294) b2305
      · exact absurd hz b2286
    · exact absurd hz b2259
  · refine x_aload_n dL_law_2246 rfl rfl ?_
    refine x_aload_n dL_law_2247 rfl rfl ?_
    refine x_iload dL_law_2248 rfl ?_
    refine x_iconst dL_law_2250 rfl ?_
    first | refine x_iaddN dL_law_2251 (by unfold i32; omega) ?_ | refine x_iadd dL_law_2251 ?_
    refine x_iald dL_law_2252 (by first | assumption | first | assumption | (simp (disch := omega) only [shI, shR, shL, shC, shD, shW, sh_V, shN_e, shN_n, crI, crL, crC, crW, crV, crR_e, crR_n, crN_e, crN_n, ciR, ciL, ciD, ciN_e, ciN_n, rdI_e, rdI_n, rdC_i, rdC_o, rdW, rdU_e, rdU_n, rdLW, clI, clR, clC, clD, clW, clV, clN_e, clN_n, clL_e, clL_n]; done) | (simp (disch := omega) only [shI, shR, shL, shC, shD, shW, sh_V, shN_e, shN_n, crI, crL, crC, crW, crV, crR_e, crR_n, crN_e, crN_n, ciR, ciL, ciD, ciN_e, ciN_n, rdI_e, rdI_n, rdC_i, rdC_o, rdW, rdU_e, rdU_n, rdLW, clI, clR, clC, clD, clW, clV, clN_e, clN_n, clL_e, clL_n] <;> first | assumption | rfl | omega)) (by omega) (by omega) ?_
    rw [hsc]
    refine x_aload_n dL_law_2253 rfl rfl ?_
    refine x_iload dL_law_2254 rfl ?_
    refine x_iconst dL_law_2256 rfl ?_
    first | refine x_iaddN dL_law_2257 (by unfold i32; omega) ?_ | refine x_iadd dL_law_2257 ?_
    refine x_iald dL_law_2258 (by first | assumption | first | assumption | (simp (disch := omega) only [shI, shR, shL, shC, shD, shW, sh_V, shN_e, shN_n, crI, crL, crC, crW, crV, crR_e, crR_n, crN_e, crN_n, ciR, ciL, ciD, ciN_e, ciN_n, rdI_e, rdI_n, rdC_i, rdC_o, rdW, rdU_e, rdU_n, rdLW, clI, clR, clC, clD, clW, clV, clN_e, clN_n, clL_e, clL_n]; done) | (simp (disch := omega) only [shI, shR, shL, shC, shD, shW, sh_V, shN_e, shN_n, crI, crL, crC, crW, crV, crR_e, crR_n, crN_e, crN_n, ciR, ciL, ciD, ciN_e, ciN_n, rdI_e, rdI_n, rdC_i, rdC_o, rdW, rdU_e, rdU_n, rdLW, clI, clR, clC, clD, clW, clV, clN_e, clN_n, clL_e, clL_n] <;> first | assumption | rfl | omega)) (by omega) (by omega) ?_
    rw [hsc]
    refine x_if_eq (tgt := 2266) dL_law_2259 (by decide) (fun b2259 => ?_) (fun b2259 => ?_)
    · exact absurd b2259 hz
    · refine x_iconst dL_law_2262 rfl ?_
      refine x_goto (tgt := 2267) dL_law_2263 (by decide) ?_
      refine x_aload_n dL_law_2267 rfl rfl ?_
      refine g_callI (vs := [_, _, _, _]) (d' := d - 1) rfl (uc_ahead (by omega) h7 hC hN (Or.inr rfl)) dL_law_2268 kX0_282 (by omega) (by decide) rfl (Nat.le_of_ble_eq_true rfl) (rcv_n) (fun x2268 M2268 h2268 => ?_)
      obtain ⟨y2268, s2268, N2268, hR2268, hy2268, hN2268, hch2268⟩ := h2268
      obtain ⟨hT2268, ⟨me2268, mw2268⟩, sf2268, hs2268, hok2268, hX2268⟩ := hJ.mid hch2268
      have hI2268 : TI M2268 744 v n A hi vi tp sz fa := hT2268
      refine x_istore (L' := [some _, some _, some _, some _, some _, some _, none]) dL_law_2271 (by decide) rfl ?_
      refine x_aload_n dL_law_2273 rfl rfl ?_
      refine x_aload_n dL_law_2274 rfl rfl ?_
      refine x_iload dL_law_2275 rfl ?_
      refine x_iconst dL_law_2277 rfl ?_
      first | refine x_iaddN dL_law_2278 (by unfold i32; omega) ?_ | refine x_iadd dL_law_2278 ?_
      refine x_iald dL_law_2279 (by first | assumption | first | assumption | (simp (disch := omega) only [shI, shR, shL, shC, shD, shW, sh_V, shN_e, shN_n, crI, crL, crC, crW, crV, crR_e, crR_n, crN_e, crN_n, ciR, ciL, ciD, ciN_e, ciN_n, rdI_e, rdI_n, rdC_i, rdC_o, rdW, rdU_e, rdU_n, rdLW, clI, clR, clC, clD, clW, clV, clN_e, clN_n, clL_e, clL_n]; done) | (simp (disch := omega) only [shI, shR, shL, shC, shD, shW, sh_V, shN_e, shN_n, crI, crL, crC, crW, crV, crR_e, crR_n, crN_e, crN_n, ciR, ciL, ciD, ciN_e, ciN_n, rdI_e, rdI_n, rdC_i, rdC_o, rdW, rdU_e, rdU_n, rdLW, clI, clR, clC, clD, clW, clV, clN_e, clN_n, clL_e, clL_n] <;> first | assumption | rfl | omega)) (by omega) (by omega) ?_
      rw [hs2268]
      refine x_aload_n dL_law_2280 rfl rfl ?_
      refine x_iload dL_law_2281 rfl ?_
      refine x_iconst dL_law_2283 rfl ?_
      first | refine x_iaddN dL_law_2284 (by unfold i32; omega) ?_ | refine x_iadd dL_law_2284 ?_
      refine x_iald dL_law_2285 (by first | assumption | first | assumption | (simp (disch := omega) only [shI, shR, shL, shC, shD, shW, sh_V, shN_e, shN_n, crI, crL, crC, crW, crV, crR_e, crR_n, crN_e, crN_n, ciR, ciL, ciD, ciN_e, ciN_n, rdI_e, rdI_n, rdC_i, rdC_o, rdW, rdU_e, rdU_n, rdLW, clI, clR, clC, clD, clW, clV, clN_e, clN_n, clL_e, clL_n]; done) | (simp (disch := omega) only [shI, shR, shL, shC, shD, shW, sh_V, shN_e, shN_n, crI, crL, crC, crW, crV, crR_e, crR_n, crN_e, crN_n, ciR, ciL, ciD, ciN_e, ciN_n, rdI_e, rdI_n, rdC_i, rdC_o, rdW, rdU_e, rdU_n, rdLW, clI, clR, clC, clD, clW, clV, clN_e, clN_n, clL_e, clL_n] <;> first | assumption | rfl | omega)) (by omega) (by omega) ?_
      rw [hs2268]
      refine x_if_eq (tgt := 2293) dL_law_2286 (by decide) (fun b2286 => ?_) (fun b2286 => ?_)
      · exact absurd b2286 hz
      · refine x_iconst dL_law_2289 rfl ?_
        refine x_goto (tgt := 2294) dL_law_2290 (by decide) ?_
        refine g_callI (vs := [_, _, _]) (d' := d - 1) rfl (rc_ahead (by omega) hI2268 hR2268) dL_law_2294 kX0_284 (by omega) (by decide) rfl (Nat.le_of_ble_eq_true rfl) (rcv_o (by first | assumption | first | assumption | (simp (disch := omega) only [shI, shR, shL, shC, shD, shW, sh_V, shN_e, shN_n, crI, crL, crC, crW, crV, crR_e, crR_n, crN_e, crN_n, ciR, ciL, ciD, ciN_e, ciN_n, rdI_e, rdI_n, rdC_i, rdC_o, rdW, rdU_e, rdU_n, rdLW, clI, clR, clC, clD, clW, clV, clN_e, clN_n, clL_e, clL_n]; done) | (simp (disch := omega) only [shI, shR, shL, shC, shD, shW, sh_V, shN_e, shN_n, crI, crL, crC, crW, crV, crR_e, crR_n, crN_e, crN_n, ciR, ciL, ciD, ciN_e, ciN_n, rdI_e, rdI_n, rdC_i, rdC_o, rdW, rdU_e, rdU_n, rdLW, clI, clR, clC, clD, clW, clV, clN_e, clN_n, clL_e, clL_n] <;> first | assumption | rfl | omega)) rfl) (fun x2294 M2294 h2294 => ?_)
        obtain ⟨e2294, hb2294, ⟨w2294, hv2294, ht2294⟩, hr2294⟩ := h2294
        obtain ⟨hJ2294, la2294, lb2294, tv2294, tm2294, tw2294, te2294⟩ := hJ.st (v' := w2294) hch2268 hr2294 hv2294 ht2294 (xc_ahead hF hA hL hn hR2268)
        refine x_istore (L' := [some _, some _, some _, some _, some _, some _, some _]) dL_law_2297 (by decide) rfl ?_
        refine x_aload_n dL_law_2299 rfl rfl ?_
        refine g_callI (vs := [_]) (d' := d - 1) rfl (s_X8_thrown (by omega) tw2294) dL_law_2300 kX0_142 (by omega) (by decide) rfl (Nat.le_of_ble_eq_true rfl) (rcv_o (by first | assumption | first | assumption | (simp (disch := omega) only [shI, shR, shL, shC, shD, shW, sh_V, shN_e, shN_n, crI, crL, crC, crW, crV, crR_e, crR_n, crN_e, crN_n, ciR, ciL, ciD, ciN_e, ciN_n, rdI_e, rdI_n, rdC_i, rdC_o, rdW, rdU_e, rdU_n, rdLW, clI, clR, clC, clD, clW, clV, clN_e, clN_n, clL_e, clL_n]; done) | (simp (disch := omega) only [shI, shR, shL, shC, shD, shW, sh_V, shN_e, shN_n, crI, crL, crC, crW, crV, crR_e, crR_n, crN_e, crN_n, ciR, ciL, ciD, ciN_e, ciN_n, rdI_e, rdI_n, rdC_i, rdC_o, rdW, rdU_e, rdU_n, rdLW, clI, clR, clC, clD, clW, clV, clN_e, clN_n, clL_e, clL_n] <;> first | assumption | rfl | omega)) rfl) (fun x2300 M2300 h2300 => ?_)
        obtain ⟨e2300, f2300⟩ := h2300
        subst f2300
        refine x_iload dL_law_2303 rfl ?_
        refine x_icmp_eq (tgt := 2310) dL_law_2305 (by decide) (fun b2305 => ?_) (fun b2305 => ?_)
        · refine x_iload dL_law_2310 rfl ?_
          refine x_if_ne (tgt := 2327) dL_law_2312 (by decide) (fun b2312 => ?_) (fun b2312 => ?_)
          · refine x_goto (tgt := 2737) dL_law_2327 (by decide) ?_
            exact hk _ _ _ _ _ hJ2294 hN2268 la2294 lb2294
          · refine x_aload_n dL_law_2315 rfl rfl ?_
            refine x_iconst dL_law_2316 rfl ?_
            refine x_lald dL_law_2317 (by first | assumption | first | assumption | (simp (disch := omega) only [shI, shR, shL, shC, shD, shW, sh_V, shN_e, shN_n, crI, crL, crC, crW, crV, crR_e, crR_n, crN_e, crN_n, ciR, ciL, ciD, ciN_e, ciN_n, rdI_e, rdI_n, rdC_i, rdC_o, rdW, rdU_e, rdU_n, rdLW, clI, clR, clC, clD, clW, clV, clN_e, clN_n, clL_e, clL_n]; done) | (simp (disch := omega) only [shI, shR, shL, shC, shD, shW, sh_V, shN_e, shN_n, crI, crL, crC, crW, crV, crR_e, crR_n, crN_e, crN_n, ciR, ciL, ciD, ciN_e, ciN_n, rdI_e, rdI_n, rdC_i, rdC_o, rdW, rdU_e, rdU_n, rdLW, clI, clR, clC, clD, clW, clV, clN_e, clN_n, clL_e, clL_n] <;> first | assumption | rfl | omega)) (by omega) (by omega) ?_
            refine x_iload dL_law_2318 rfl ?_
            refine x_i2l dL_law_2320 ?_
            refine x_lcmp dL_law_2321 ?_
            refine x_if_eq (tgt := 2327) dL_law_2322 (by decide) (fun b2322 => ?_) (fun b2322 => ?_)
            · refine x_goto (tgt := 2737) dL_law_2327 (by decide) ?_
              exact hk _ _ _ _ _ hJ2294 hN2268 la2294 lb2294
            · exact absurd (jlcmp_0.mpr (by have h0 : x2268 = 0 := (by omega); have a1 := tm2294; have a2 := hy2268 h0; have a3 := hb2294 h0; omega)) b2322
        · exact absurd (e2300.trans e2294) b2305
theorem cs_43 (hd : 100 ≤ d) (hJ : IV M s N len sc) (hN : N ≤ 900000000) (hi0 : 0 ≤ i ∧ i + 6 ≤ len) (hln : len ≤ 384) (hk : ∀ (M1 : Mem) (s1 : Sg) (N1 : Int) (o5 o6 : Option DV), IV M1 s1 N1 len sc → N1 ≤ N + 120 → mnx M1 ≤ mnx M + 1400 → mns M1 ≤ mns M + 6000 → WP G d mL_law 2737 [some (dR (-5)), some (dR 0), some (dR 744), some (dR 760), some (dI i), o5, o6] [] M1 Q) : WP G d mL_law 2330 [some (dR (-5)), some (dR 0), some (dR 744), some (dR 760), some (dI i), none, none] [] M Q := by
  obtain ⟨v, n, A, hi, vi, tp, sz, fa⟩ := s
  obtain ⟨hC0, hT0, hF, h7, s5, hsc⟩ := id hJ
  have hC : CI M v n A hi vi tp sz fa N := hC0
  have s0 : msh M 0 = some (1, 0) := hC.1.1.1.1
  have hA : okA v := hC.2.1.1
  have hL : lawOK v := hC.2.1.2.1
  have hn : 0 ≤ n ∧ n ≤ 12 := hC.2.2.1.2.1
  by_cases hz : sc (i + 2) = 0
  · refine x_aload_n dL_law_2330 rfl rfl ?_
    refine x_aload_n dL_law_2331 rfl rfl ?_
    refine x_iload dL_law_2332 rfl ?_
    refine x_iconst dL_law_2334 rfl ?_
    first | refine x_iaddN dL_law_2335 (by unfold i32; omega) ?_ | refine x_iadd dL_law_2335 ?_
    refine x_iald dL_law_2336 (by first | assumption | first | assumption | (simp (disch := omega) only [shI, shR, shL, shC, shD, shW, sh_V, shN_e, shN_n, crI, crL, crC, crW, crV, crR_e, crR_n, crN_e, crN_n, ciR, ciL, ciD, ciN_e, ciN_n, rdI_e, rdI_n, rdC_i, rdC_o, rdW, rdU_e, rdU_n, rdLW, clI, clR, clC, clD, clW, clV, clN_e, clN_n, clL_e, clL_n]; done) | (simp (disch := omega) only [shI, shR, shL, shC, shD, shW, sh_V, shN_e, shN_n, crI, crL, crC, crW, crV, crR_e, crR_n, crN_e, crN_n, ciR, ciL, ciD, ciN_e, ciN_n, rdI_e, rdI_n, rdC_i, rdC_o, rdW, rdU_e, rdU_n, rdLW, clI, clR, clC, clD, clW, clV, clN_e, clN_n, clL_e, clL_n] <;> first | assumption | rfl | omega)) (by omega) (by omega) ?_
    rw [hsc]
    refine x_aload_n dL_law_2337 rfl rfl ?_
    refine x_iload dL_law_2338 rfl ?_
    refine x_iconst dL_law_2340 rfl ?_
    first | refine x_iaddN dL_law_2341 (by unfold i32; omega) ?_ | refine x_iadd dL_law_2341 ?_
    refine x_iald dL_law_2342 (by first | assumption | first | assumption | (simp (disch := omega) only [shI, shR, shL, shC, shD, shW, sh_V, shN_e, shN_n, crI, crL, crC, crW, crV, crR_e, crR_n, crN_e, crN_n, ciR, ciL, ciD, ciN_e, ciN_n, rdI_e, rdI_n, rdC_i, rdC_o, rdW, rdU_e, rdU_n, rdLW, clI, clR, clC, clD, clW, clV, clN_e, clN_n, clL_e, clL_n]; done) | (simp (disch := omega) only [shI, shR, shL, shC, shD, shW, sh_V, shN_e, shN_n, crI, crL, crC, crW, crV, crR_e, crR_n, crN_e, crN_n, ciR, ciL, ciD, ciN_e, ciN_n, rdI_e, rdI_n, rdC_i, rdC_o, rdW, rdU_e, rdU_n, rdLW, clI, clR, clC, clD, clW, clV, clN_e, clN_n, clL_e, clL_n] <;> first | assumption | rfl | omega)) (by omega) (by omega) ?_
    rw [hsc]
    refine x_if_eq (tgt := 2350) dL_law_2343 (by decide) (fun b2343 => ?_) (fun b2343 => ?_)
    · refine x_iconst dL_law_2350 rfl ?_
      refine x_aload_n dL_law_2351 rfl rfl ?_
      refine g_callI (vs := [_, _, _, _]) (d' := d - 1) rfl (uc_trial (by omega) h7 hC hN (Or.inl rfl)) dL_law_2352 kX0_285 (by omega) (by decide) rfl (Nat.le_of_ble_eq_true rfl) (rcv_n) (fun x2352 M2352 h2352 => ?_)
      obtain ⟨y2352, s2352, N2352, hR2352, hy2352, hN2352, hch2352⟩ := h2352
      obtain ⟨hT2352, ⟨me2352, mw2352⟩, sf2352, hs2352, hok2352, hX2352⟩ := hJ.mid hch2352
      have hI2352 : TI M2352 744 v n A hi vi tp sz fa := hT2352
      refine x_istore (L' := [some _, some _, some _, some _, some _, some _, none]) dL_law_2355 (by decide) rfl ?_
      refine x_aload_n dL_law_2357 rfl rfl ?_
      refine x_aload_n dL_law_2358 rfl rfl ?_
      refine x_iload dL_law_2359 rfl ?_
      refine x_iconst dL_law_2361 rfl ?_
      first | refine x_iaddN dL_law_2362 (by unfold i32; omega) ?_ | refine x_iadd dL_law_2362 ?_
      refine x_iald dL_law_2363 (by first | assumption | first | assumption | (simp (disch := omega) only [shI, shR, shL, shC, shD, shW, sh_V, shN_e, shN_n, crI, crL, crC, crW, crV, crR_e, crR_n, crN_e, crN_n, ciR, ciL, ciD, ciN_e, ciN_n, rdI_e, rdI_n, rdC_i, rdC_o, rdW, rdU_e, rdU_n, rdLW, clI, clR, clC, clD, clW, clV, clN_e, clN_n, clL_e, clL_n]; done) | (simp (disch := omega) only [shI, shR, shL, shC, shD, shW, sh_V, shN_e, shN_n, crI, crL, crC, crW, crV, crR_e, crR_n, crN_e, crN_n, ciR, ciL, ciD, ciN_e, ciN_n, rdI_e, rdI_n, rdC_i, rdC_o, rdW, rdU_e, rdU_n, rdLW, clI, clR, clC, clD, clW, clV, clN_e, clN_n, clL_e, clL_n] <;> first | assumption | rfl | omega)) (by omega) (by omega) ?_
      rw [hs2352]
      refine x_aload_n dL_law_2364 rfl rfl ?_
      refine x_iload dL_law_2365 rfl ?_
      refine x_iconst dL_law_2367 rfl ?_
      first | refine x_iaddN dL_law_2368 (by unfold i32; omega) ?_ | refine x_iadd dL_law_2368 ?_
      refine x_iald dL_law_2369 (by first | assumption | first | assumption | (simp (disch := omega) only [shI, shR, shL, shC, shD, shW, sh_V, shN_e, shN_n, crI, crL, crC, crW, crV, crR_e, crR_n, crN_e, crN_n, ciR, ciL, ciD, ciN_e, ciN_n, rdI_e, rdI_n, rdC_i, rdC_o, rdW, rdU_e, rdU_n, rdLW, clI, clR, clC, clD, clW, clV, clN_e, clN_n, clL_e, clL_n]; done) | (simp (disch := omega) only [shI, shR, shL, shC, shD, shW, sh_V, shN_e, shN_n, crI, crL, crC, crW, crV, crR_e, crR_n, crN_e, crN_n, ciR, ciL, ciD, ciN_e, ciN_n, rdI_e, rdI_n, rdC_i, rdC_o, rdW, rdU_e, rdU_n, rdLW, clI, clR, clC, clD, clW, clV, clN_e, clN_n, clL_e, clL_n] <;> first | assumption | rfl | omega)) (by omega) (by omega) ?_
      rw [hs2352]
      refine x_if_eq (tgt := 2377) dL_law_2370 (by decide) (fun b2370 => ?_) (fun b2370 => ?_)
      · refine x_iconst dL_law_2377 rfl ?_
        refine g_callI (vs := [_, _, _]) (d' := d - 1) rfl (rc_trial (by omega) hI2352 hR2352) dL_law_2378 kX0_287 (by omega) (by decide) rfl (Nat.le_of_ble_eq_true rfl) (rcv_o (by first | assumption | first | assumption | (simp (disch := omega) only [shI, shR, shL, shC, shD, shW, sh_V, shN_e, shN_n, crI, crL, crC, crW, crV, crR_e, crR_n, crN_e, crN_n, ciR, ciL, ciD, ciN_e, ciN_n, rdI_e, rdI_n, rdC_i, rdC_o, rdW, rdU_e, rdU_n, rdLW, clI, clR, clC, clD, clW, clV, clN_e, clN_n, clL_e, clL_n]; done) | (simp (disch := omega) only [shI, shR, shL, shC, shD, shW, sh_V, shN_e, shN_n, crI, crL, crC, crW, crV, crR_e, crR_n, crN_e, crN_n, ciR, ciL, ciD, ciN_e, ciN_n, rdI_e, rdI_n, rdC_i, rdC_o, rdW, rdU_e, rdU_n, rdLW, clI, clR, clC, clD, clW, clV, clN_e, clN_n, clL_e, clL_n] <;> first | assumption | rfl | omega)) rfl) (fun x2378 M2378 h2378 => ?_)
        obtain ⟨e2378, hb2378, ⟨w2378, hv2378, ht2378⟩, hr2378⟩ := h2378
        obtain ⟨hJ2378, la2378, lb2378, tv2378, tm2378, tw2378, te2378⟩ := hJ.st (v' := w2378) hch2352 hr2378 hv2378 ht2378 (xc_trial hF hA hL hn hR2352)
        refine x_istore (L' := [some _, some _, some _, some _, some _, some _, some _]) dL_law_2381 (by decide) rfl ?_
        refine x_aload_n dL_law_2383 rfl rfl ?_
        refine g_callI (vs := [_]) (d' := d - 1) rfl (s_X8_thrown (by omega) tw2378) dL_law_2384 kX0_142 (by omega) (by decide) rfl (Nat.le_of_ble_eq_true rfl) (rcv_o (by first | assumption | first | assumption | (simp (disch := omega) only [shI, shR, shL, shC, shD, shW, sh_V, shN_e, shN_n, crI, crL, crC, crW, crV, crR_e, crR_n, crN_e, crN_n, ciR, ciL, ciD, ciN_e, ciN_n, rdI_e, rdI_n, rdC_i, rdC_o, rdW, rdU_e, rdU_n, rdLW, clI, clR, clC, clD, clW, clV, clN_e, clN_n, clL_e, clL_n]; done) | (simp (disch := omega) only [shI, shR, shL, shC, shD, shW, sh_V, shN_e, shN_n, crI, crL, crC, crW, crV, crR_e, crR_n, crN_e, crN_n, ciR, ciL, ciD, ciN_e, ciN_n, rdI_e, rdI_n, rdC_i, rdC_o, rdW, rdU_e, rdU_n, rdLW, clI, clR, clC, clD, clW, clV, clN_e, clN_n, clL_e, clL_n] <;> first | assumption | rfl | omega)) rfl) (fun x2384 M2384 h2384 => ?_)
        obtain ⟨e2384, f2384⟩ := h2384
        subst f2384
        refine x_iload dL_law_2387 rfl ?_
        refine x_icmp_eq (tgt := 2394) dL_law_2389 (by decide) (fun b2389 => ?_) (fun b2389 => ?_)
        · refine x_iload dL_law_2394 rfl ?_
          refine x_if_ne (tgt := 2411) dL_law_2396 (by decide) (fun b2396 => ?_) (fun b2396 => ?_)
          · refine x_goto (tgt := 2737) dL_law_2411 (by decide) ?_
            exact hk _ _ _ _ _ hJ2378 hN2352 la2378 lb2378
          · refine x_aload_n dL_law_2399 rfl rfl ?_
            refine x_iconst dL_law_2400 rfl ?_
            refine x_lald dL_law_2401 (by first | assumption | first | assumption | (simp (disch := omega) only [shI, shR, shL, shC, shD, shW, sh_V, shN_e, shN_n, crI, crL, crC, crW, crV, crR_e, crR_n, crN_e, crN_n, ciR, ciL, ciD, ciN_e, ciN_n, rdI_e, rdI_n, rdC_i, rdC_o, rdW, rdU_e, rdU_n, rdLW, clI, clR, clC, clD, clW, clV, clN_e, clN_n, clL_e, clL_n]; done) | (simp (disch := omega) only [shI, shR, shL, shC, shD, shW, sh_V, shN_e, shN_n, crI, crL, crC, crW, crV, crR_e, crR_n, crN_e, crN_n, ciR, ciL, ciD, ciN_e, ciN_n, rdI_e, rdI_n, rdC_i, rdC_o, rdW, rdU_e, rdU_n, rdLW, clI, clR, clC, clD, clW, clV, clN_e, clN_n, clL_e, clL_n] <;> first | assumption | rfl | omega)) (by omega) (by omega) ?_
            refine x_iload dL_law_2402 rfl ?_
            refine x_i2l dL_law_2404 ?_
            refine x_lcmp dL_law_2405 ?_
            refine x_if_eq (tgt := 2411) dL_law_2406 (by decide) (fun b2406 => ?_) (fun b2406 => ?_)
            · refine x_goto (tgt := 2737) dL_law_2411 (by decide) ?_
              exact hk _ _ _ _ _ hJ2378 hN2352 la2378 lb2378
            · exact absurd (jlcmp_0.mpr (by have h0 : x2352 = 0 := (by omega); have a1 := tm2378; have a2 := hy2352 h0; have a3 := hb2378 h0; omega)) b2406
        · exact absurd (e2384.trans e2378) b2389
      · exact absurd hz b2370
    · exact absurd hz b2343
  · refine x_aload_n dL_law_2330 rfl rfl ?_
    refine x_aload_n dL_law_2331 rfl rfl ?_
    refine x_iload dL_law_2332 rfl ?_
    refine x_iconst dL_law_2334 rfl ?_
    first | refine x_iaddN dL_law_2335 (by unfold i32; omega) ?_ | refine x_iadd dL_law_2335 ?_
    refine x_iald dL_law_2336 (by first | assumption | first | assumption | (simp (disch := omega) only [shI, shR, shL, shC, shD, shW, sh_V, shN_e, shN_n, crI, crL, crC, crW, crV, crR_e, crR_n, crN_e, crN_n, ciR, ciL, ciD, ciN_e, ciN_n, rdI_e, rdI_n, rdC_i, rdC_o, rdW, rdU_e, rdU_n, rdLW, clI, clR, clC, clD, clW, clV, clN_e, clN_n, clL_e, clL_n]; done) | (simp (disch := omega) only [shI, shR, shL, shC, shD, shW, sh_V, shN_e, shN_n, crI, crL, crC, crW, crV, crR_e, crR_n, crN_e, crN_n, ciR, ciL, ciD, ciN_e, ciN_n, rdI_e, rdI_n, rdC_i, rdC_o, rdW, rdU_e, rdU_n, rdLW, clI, clR, clC, clD, clW, clV, clN_e, clN_n, clL_e, clL_n] <;> first | assumption | rfl | omega)) (by omega) (by omega) ?_
    rw [hsc]
    refine x_aload_n dL_law_2337 rfl rfl ?_
    refine x_iload dL_law_2338 rfl ?_
    refine x_iconst dL_law_2340 rfl ?_
    first | refine x_iaddN dL_law_2341 (by unfold i32; omega) ?_ | refine x_iadd dL_law_2341 ?_
    refine x_iald dL_law_2342 (by first | assumption | first | assumption | (simp (disch := omega) only [shI, shR, shL, shC, shD, shW, sh_V, shN_e, shN_n, crI, crL, crC, crW, crV, crR_e, crR_n, crN_e, crN_n, ciR, ciL, ciD, ciN_e, ciN_n, rdI_e, rdI_n, rdC_i, rdC_o, rdW, rdU_e, rdU_n, rdLW, clI, clR, clC, clD, clW, clV, clN_e, clN_n, clL_e, clL_n]; done) | (simp (disch := omega) only [shI, shR, shL, shC, shD, shW, sh_V, shN_e, shN_n, crI, crL, crC, crW, crV, crR_e, crR_n, crN_e, crN_n, ciR, ciL, ciD, ciN_e, ciN_n, rdI_e, rdI_n, rdC_i, rdC_o, rdW, rdU_e, rdU_n, rdLW, clI, clR, clC, clD, clW, clV, clN_e, clN_n, clL_e, clL_n] <;> first | assumption | rfl | omega)) (by omega) (by omega) ?_
    rw [hsc]
    refine x_if_eq (tgt := 2350) dL_law_2343 (by decide) (fun b2343 => ?_) (fun b2343 => ?_)
    · exact absurd b2343 hz
    · refine x_iconst dL_law_2346 rfl ?_
      refine x_goto (tgt := 2351) dL_law_2347 (by decide) ?_
      refine x_aload_n dL_law_2351 rfl rfl ?_
      refine g_callI (vs := [_, _, _, _]) (d' := d - 1) rfl (uc_trial (by omega) h7 hC hN (Or.inr rfl)) dL_law_2352 kX0_285 (by omega) (by decide) rfl (Nat.le_of_ble_eq_true rfl) (rcv_n) (fun x2352 M2352 h2352 => ?_)
      obtain ⟨y2352, s2352, N2352, hR2352, hy2352, hN2352, hch2352⟩ := h2352
      obtain ⟨hT2352, ⟨me2352, mw2352⟩, sf2352, hs2352, hok2352, hX2352⟩ := hJ.mid hch2352
      have hI2352 : TI M2352 744 v n A hi vi tp sz fa := hT2352
      refine x_istore (L' := [some _, some _, some _, some _, some _, some _, none]) dL_law_2355 (by decide) rfl ?_
      refine x_aload_n dL_law_2357 rfl rfl ?_
      refine x_aload_n dL_law_2358 rfl rfl ?_
      refine x_iload dL_law_2359 rfl ?_
      refine x_iconst dL_law_2361 rfl ?_
      first | refine x_iaddN dL_law_2362 (by unfold i32; omega) ?_ | refine x_iadd dL_law_2362 ?_
      refine x_iald dL_law_2363 (by first | assumption | first | assumption | (simp (disch := omega) only [shI, shR, shL, shC, shD, shW, sh_V, shN_e, shN_n, crI, crL, crC, crW, crV, crR_e, crR_n, crN_e, crN_n, ciR, ciL, ciD, ciN_e, ciN_n, rdI_e, rdI_n, rdC_i, rdC_o, rdW, rdU_e, rdU_n, rdLW, clI, clR, clC, clD, clW, clV, clN_e, clN_n, clL_e, clL_n]; done) | (simp (disch := omega) only [shI, shR, shL, shC, shD, shW, sh_V, shN_e, shN_n, crI, crL, crC, crW, crV, crR_e, crR_n, crN_e, crN_n, ciR, ciL, ciD, ciN_e, ciN_n, rdI_e, rdI_n, rdC_i, rdC_o, rdW, rdU_e, rdU_n, rdLW, clI, clR, clC, clD, clW, clV, clN_e, clN_n, clL_e, clL_n] <;> first | assumption | rfl | omega)) (by omega) (by omega) ?_
      rw [hs2352]
      refine x_aload_n dL_law_2364 rfl rfl ?_
      refine x_iload dL_law_2365 rfl ?_
      refine x_iconst dL_law_2367 rfl ?_
      first | refine x_iaddN dL_law_2368 (by unfold i32; omega) ?_ | refine x_iadd dL_law_2368 ?_
      refine x_iald dL_law_2369 (by first | assumption | first | assumption | (simp (disch := omega) only [shI, shR, shL, shC, shD, shW, sh_V, shN_e, shN_n, crI, crL, crC, crW, crV, crR_e, crR_n, crN_e, crN_n, ciR, ciL, ciD, ciN_e, ciN_n, rdI_e, rdI_n, rdC_i, rdC_o, rdW, rdU_e, rdU_n, rdLW, clI, clR, clC, clD, clW, clV, clN_e, clN_n, clL_e, clL_n]; done) | (simp (disch := omega) only [shI, shR, shL, shC, shD, shW, sh_V, shN_e, shN_n, crI, crL, crC, crW, crV, crR_e, crR_n, crN_e, crN_n, ciR, ciL, ciD, ciN_e, ciN_n, rdI_e, rdI_n, rdC_i, rdC_o, rdW, rdU_e, rdU_n, rdLW, clI, clR, clC, clD, clW, clV, clN_e, clN_n, clL_e, clL_n] <;> first | assumption | rfl | omega)) (by omega) (by omega) ?_
      rw [hs2352]
      refine x_if_eq (tgt := 2377) dL_law_2370 (by decide) (fun b2370 => ?_) (fun b2370 => ?_)
      · exact absurd b2370 hz
      · refine x_iconst dL_law_2373 rfl ?_
        refine x_goto (tgt := 2378) dL_law_2374 (by decide) ?_
        refine g_callI (vs := [_, _, _]) (d' := d - 1) rfl (rc_trial (by omega) hI2352 hR2352) dL_law_2378 kX0_287 (by omega) (by decide) rfl (Nat.le_of_ble_eq_true rfl) (rcv_o (by first | assumption | first | assumption | (simp (disch := omega) only [shI, shR, shL, shC, shD, shW, sh_V, shN_e, shN_n, crI, crL, crC, crW, crV, crR_e, crR_n, crN_e, crN_n, ciR, ciL, ciD, ciN_e, ciN_n, rdI_e, rdI_n, rdC_i, rdC_o, rdW, rdU_e, rdU_n, rdLW, clI, clR, clC, clD, clW, clV, clN_e, clN_n, clL_e, clL_n]; done) | (simp (disch := omega) only [shI, shR, shL, shC, shD, shW, sh_V, shN_e, shN_n, crI, crL, crC, crW, crV, crR_e, crR_n, crN_e, crN_n, ciR, ciL, ciD, ciN_e, ciN_n, rdI_e, rdI_n, rdC_i, rdC_o, rdW, rdU_e, rdU_n, rdLW, clI, clR, clC, clD, clW, clV, clN_e, clN_n, clL_e, clL_n] <;> first | assumption | rfl | omega)) rfl) (fun x2378 M2378 h2378 => ?_)
        obtain ⟨e2378, hb2378, ⟨w2378, hv2378, ht2378⟩, hr2378⟩ := h2378
        obtain ⟨hJ2378, la2378, lb2378, tv2378, tm2378, tw2378, te2378⟩ := hJ.st (v' := w2378) hch2352 hr2378 hv2378 ht2378 (xc_trial hF hA hL hn hR2352)
        refine x_istore (L' := [some _, some _, some _, some _, some _, some _, some _]) dL_law_2381 (by decide) rfl ?_
        refine x_aload_n dL_law_2383 rfl rfl ?_
        refine g_callI (vs := [_]) (d' := d - 1) rfl (s_X8_thrown (by omega) tw2378) dL_law_2384 kX0_142 (by omega) (by decide) rfl (Nat.le_of_ble_eq_true rfl) (rcv_o (by first | assumption | first | assumption | (simp (disch := omega) only [shI, shR, shL, shC, shD, shW, sh_V, shN_e, shN_n, crI, crL, crC, crW, crV, crR_e, crR_n, crN_e, crN_n, ciR, ciL, ciD, ciN_e, ciN_n, rdI_e, rdI_n, rdC_i, rdC_o, rdW, rdU_e, rdU_n, rdLW, clI, clR, clC, clD, clW, clV, clN_e, clN_n, clL_e, clL_n]; done) | (simp (disch := omega) only [shI, shR, shL, shC, shD, shW, sh_V, shN_e, shN_n, crI, crL, crC, crW, crV, crR_e, crR_n, crN_e, crN_n, ciR, ciL, ciD, ciN_e, ciN_n, rdI_e, rdI_n, rdC_i, rdC_o, rdW, rdU_e, rdU_n, rdLW, clI, clR, clC, clD, clW, clV, clN_e, clN_n, clL_e, clL_n] <;> first | assumption | rfl | omega)) rfl) (fun x2384 M2384 h2384 => ?_)
        obtain ⟨e2384, f2384⟩ := h2384
        subst f2384
        refine x_iload dL_law_2387 rfl ?_
        refine x_icmp_eq (tgt := 2394) dL_law_2389 (by decide) (fun b2389 => ?_) (fun b2389 => ?_)
        · refine x_iload dL_law_2394 rfl ?_
          refine x_if_ne (tgt := 2411) dL_law_2396 (by decide) (fun b2396 => ?_) (fun b2396 => ?_)
          · refine x_goto (tgt := 2737) dL_law_2411 (by decide) ?_
            exact hk _ _ _ _ _ hJ2378 hN2352 la2378 lb2378
          · refine x_aload_n dL_law_2399 rfl rfl ?_
            refine x_iconst dL_law_2400 rfl ?_
            refine x_lald dL_law_2401 (by first | assumption | first | assumption | (simp (disch := omega) only [shI, shR, shL, shC, shD, shW, sh_V, shN_e, shN_n, crI, crL, crC, crW, crV, crR_e, crR_n, crN_e, crN_n, ciR, ciL, ciD, ciN_e, ciN_n, rdI_e, rdI_n, rdC_i, rdC_o, rdW, rdU_e, rdU_n, rdLW, clI, clR, clC, clD, clW, clV, clN_e, clN_n, clL_e, clL_n]; done) | (simp (disch := omega) only [shI, shR, shL, shC, shD, shW, sh_V, shN_e, shN_n, crI, crL, crC, crW, crV, crR_e, crR_n, crN_e, crN_n, ciR, ciL, ciD, ciN_e, ciN_n, rdI_e, rdI_n, rdC_i, rdC_o, rdW, rdU_e, rdU_n, rdLW, clI, clR, clC, clD, clW, clV, clN_e, clN_n, clL_e, clL_n] <;> first | assumption | rfl | omega)) (by omega) (by omega) ?_
            refine x_iload dL_law_2402 rfl ?_
            refine x_i2l dL_law_2404 ?_
            refine x_lcmp dL_law_2405 ?_
            refine x_if_eq (tgt := 2411) dL_law_2406 (by decide) (fun b2406 => ?_) (fun b2406 => ?_)
            · refine x_goto (tgt := 2737) dL_law_2411 (by decide) ?_
              exact hk _ _ _ _ _ hJ2378 hN2352 la2378 lb2378
            · exact absurd (jlcmp_0.mpr (by have h0 : x2352 = 0 := (by omega); have a1 := tm2378; have a2 := hy2352 h0; have a3 := hb2378 h0; omega)) b2406
        · exact absurd (e2384.trans e2378) b2389
theorem cs_44 (hd : 100 ≤ d) (hJ : IV M s N len sc) (hN : N ≤ 900000000) (hi0 : 0 ≤ i ∧ i + 6 ≤ len) (hln : len ≤ 384) (hk : ∀ (M1 : Mem) (s1 : Sg) (N1 : Int) (o5 o6 : Option DV), IV M1 s1 N1 len sc → N1 ≤ N + 120 → mnx M1 ≤ mnx M + 1400 → mns M1 ≤ mns M + 6000 → WP G d mL_law 2737 [some (dR (-5)), some (dR 0), some (dR 744), some (dR 760), some (dI i), o5, o6] [] M1 Q) : WP G d mL_law 2414 [some (dR (-5)), some (dR 0), some (dR 744), some (dR 760), some (dI i), none, none] [] M Q := by
  obtain ⟨v, n, A, hi, vi, tp, sz, fa⟩ := s
  obtain ⟨hC0, hT0, hF, h7, s5, hsc⟩ := id hJ
  have hC : CI M v n A hi vi tp sz fa N := hC0
  have s0 : msh M 0 = some (1, 0) := hC.1.1.1.1
  have hA : okA v := hC.2.1.1
  have hL : lawOK v := hC.2.1.2.1
  have hn : 0 ≤ n ∧ n ≤ 12 := hC.2.2.1.2.1
  by_cases hz : sc (i + 2) = 0
  · refine x_aload_n dL_law_2414 rfl rfl ?_
    refine x_aload_n dL_law_2415 rfl rfl ?_
    refine x_iload dL_law_2416 rfl ?_
    refine x_iconst dL_law_2418 rfl ?_
    first | refine x_iaddN dL_law_2419 (by unfold i32; omega) ?_ | refine x_iadd dL_law_2419 ?_
    refine x_iald dL_law_2420 (by first | assumption | first | assumption | (simp (disch := omega) only [shI, shR, shL, shC, shD, shW, sh_V, shN_e, shN_n, crI, crL, crC, crW, crV, crR_e, crR_n, crN_e, crN_n, ciR, ciL, ciD, ciN_e, ciN_n, rdI_e, rdI_n, rdC_i, rdC_o, rdW, rdU_e, rdU_n, rdLW, clI, clR, clC, clD, clW, clV, clN_e, clN_n, clL_e, clL_n]; done) | (simp (disch := omega) only [shI, shR, shL, shC, shD, shW, sh_V, shN_e, shN_n, crI, crL, crC, crW, crV, crR_e, crR_n, crN_e, crN_n, ciR, ciL, ciD, ciN_e, ciN_n, rdI_e, rdI_n, rdC_i, rdC_o, rdW, rdU_e, rdU_n, rdLW, clI, clR, clC, clD, clW, clV, clN_e, clN_n, clL_e, clL_n] <;> first | assumption | rfl | omega)) (by omega) (by omega) ?_
    rw [hsc]
    refine x_aload_n dL_law_2421 rfl rfl ?_
    refine x_iload dL_law_2422 rfl ?_
    refine x_iconst dL_law_2424 rfl ?_
    first | refine x_iaddN dL_law_2425 (by unfold i32; omega) ?_ | refine x_iadd dL_law_2425 ?_
    refine x_iald dL_law_2426 (by first | assumption | first | assumption | (simp (disch := omega) only [shI, shR, shL, shC, shD, shW, sh_V, shN_e, shN_n, crI, crL, crC, crW, crV, crR_e, crR_n, crN_e, crN_n, ciR, ciL, ciD, ciN_e, ciN_n, rdI_e, rdI_n, rdC_i, rdC_o, rdW, rdU_e, rdU_n, rdLW, clI, clR, clC, clD, clW, clV, clN_e, clN_n, clL_e, clL_n]; done) | (simp (disch := omega) only [shI, shR, shL, shC, shD, shW, sh_V, shN_e, shN_n, crI, crL, crC, crW, crV, crR_e, crR_n, crN_e, crN_n, ciR, ciL, ciD, ciN_e, ciN_n, rdI_e, rdI_n, rdC_i, rdC_o, rdW, rdU_e, rdU_n, rdLW, clI, clR, clC, clD, clW, clV, clN_e, clN_n, clL_e, clL_n] <;> first | assumption | rfl | omega)) (by omega) (by omega) ?_
    rw [hsc]
    refine x_if_eq (tgt := 2434) dL_law_2427 (by decide) (fun b2427 => ?_) (fun b2427 => ?_)
    · refine x_iconst dL_law_2434 rfl ?_
      refine x_aload_n dL_law_2435 rfl rfl ?_
      refine g_callI (vs := [_, _, _, _]) (d' := d - 1) rfl (uc_span (by omega) h7 hC hN (Or.inl rfl)) dL_law_2436 kX0_288 (by omega) (by decide) rfl (Nat.le_of_ble_eq_true rfl) (rcv_n) (fun x2436 M2436 h2436 => ?_)
      obtain ⟨y2436, s2436, N2436, hR2436, hy2436, hN2436, hch2436⟩ := h2436
      obtain ⟨hT2436, ⟨me2436, mw2436⟩, sf2436, hs2436, hok2436, hX2436⟩ := hJ.mid hch2436
      have hI2436 : TI M2436 744 v n A hi vi tp sz fa := hT2436
      refine x_istore (L' := [some _, some _, some _, some _, some _, some _, none]) dL_law_2439 (by decide) rfl ?_
      refine x_aload_n dL_law_2441 rfl rfl ?_
      refine x_aload_n dL_law_2442 rfl rfl ?_
      refine x_iload dL_law_2443 rfl ?_
      refine x_iconst dL_law_2445 rfl ?_
      first | refine x_iaddN dL_law_2446 (by unfold i32; omega) ?_ | refine x_iadd dL_law_2446 ?_
      refine x_iald dL_law_2447 (by first | assumption | first | assumption | (simp (disch := omega) only [shI, shR, shL, shC, shD, shW, sh_V, shN_e, shN_n, crI, crL, crC, crW, crV, crR_e, crR_n, crN_e, crN_n, ciR, ciL, ciD, ciN_e, ciN_n, rdI_e, rdI_n, rdC_i, rdC_o, rdW, rdU_e, rdU_n, rdLW, clI, clR, clC, clD, clW, clV, clN_e, clN_n, clL_e, clL_n]; done) | (simp (disch := omega) only [shI, shR, shL, shC, shD, shW, sh_V, shN_e, shN_n, crI, crL, crC, crW, crV, crR_e, crR_n, crN_e, crN_n, ciR, ciL, ciD, ciN_e, ciN_n, rdI_e, rdI_n, rdC_i, rdC_o, rdW, rdU_e, rdU_n, rdLW, clI, clR, clC, clD, clW, clV, clN_e, clN_n, clL_e, clL_n] <;> first | assumption | rfl | omega)) (by omega) (by omega) ?_
      rw [hs2436]
      refine x_aload_n dL_law_2448 rfl rfl ?_
      refine x_iload dL_law_2449 rfl ?_
      refine x_iconst dL_law_2451 rfl ?_
      first | refine x_iaddN dL_law_2452 (by unfold i32; omega) ?_ | refine x_iadd dL_law_2452 ?_
      refine x_iald dL_law_2453 (by first | assumption | first | assumption | (simp (disch := omega) only [shI, shR, shL, shC, shD, shW, sh_V, shN_e, shN_n, crI, crL, crC, crW, crV, crR_e, crR_n, crN_e, crN_n, ciR, ciL, ciD, ciN_e, ciN_n, rdI_e, rdI_n, rdC_i, rdC_o, rdW, rdU_e, rdU_n, rdLW, clI, clR, clC, clD, clW, clV, clN_e, clN_n, clL_e, clL_n]; done) | (simp (disch := omega) only [shI, shR, shL, shC, shD, shW, sh_V, shN_e, shN_n, crI, crL, crC, crW, crV, crR_e, crR_n, crN_e, crN_n, ciR, ciL, ciD, ciN_e, ciN_n, rdI_e, rdI_n, rdC_i, rdC_o, rdW, rdU_e, rdU_n, rdLW, clI, clR, clC, clD, clW, clV, clN_e, clN_n, clL_e, clL_n] <;> first | assumption | rfl | omega)) (by omega) (by omega) ?_
      rw [hs2436]
      refine x_if_eq (tgt := 2461) dL_law_2454 (by decide) (fun b2454 => ?_) (fun b2454 => ?_)
      · refine x_iconst dL_law_2461 rfl ?_
        refine g_callI (vs := [_, _, _]) (d' := d - 1) rfl (rc_span (by omega) hI2436 hR2436) dL_law_2462 kX0_290 (by omega) (by decide) rfl (Nat.le_of_ble_eq_true rfl) (rcv_o (by first | assumption | first | assumption | (simp (disch := omega) only [shI, shR, shL, shC, shD, shW, sh_V, shN_e, shN_n, crI, crL, crC, crW, crV, crR_e, crR_n, crN_e, crN_n, ciR, ciL, ciD, ciN_e, ciN_n, rdI_e, rdI_n, rdC_i, rdC_o, rdW, rdU_e, rdU_n, rdLW, clI, clR, clC, clD, clW, clV, clN_e, clN_n, clL_e, clL_n]; done) | (simp (disch := omega) only [shI, shR, shL, shC, shD, shW, sh_V, shN_e, shN_n, crI, crL, crC, crW, crV, crR_e, crR_n, crN_e, crN_n, ciR, ciL, ciD, ciN_e, ciN_n, rdI_e, rdI_n, rdC_i, rdC_o, rdW, rdU_e, rdU_n, rdLW, clI, clR, clC, clD, clW, clV, clN_e, clN_n, clL_e, clL_n] <;> first | assumption | rfl | omega)) rfl) (fun x2462 M2462 h2462 => ?_)
        obtain ⟨e2462, hb2462, ⟨w2462, hv2462, ht2462⟩, hr2462⟩ := h2462
        obtain ⟨hJ2462, la2462, lb2462, tv2462, tm2462, tw2462, te2462⟩ := hJ.st (v' := w2462) hch2436 hr2462 hv2462 ht2462 (xc_span hF hA hL hn hR2436)
        refine x_istore (L' := [some _, some _, some _, some _, some _, some _, some _]) dL_law_2465 (by decide) rfl ?_
        refine x_aload_n dL_law_2467 rfl rfl ?_
        refine g_callI (vs := [_]) (d' := d - 1) rfl (s_X8_thrown (by omega) tw2462) dL_law_2468 kX0_142 (by omega) (by decide) rfl (Nat.le_of_ble_eq_true rfl) (rcv_o (by first | assumption | first | assumption | (simp (disch := omega) only [shI, shR, shL, shC, shD, shW, sh_V, shN_e, shN_n, crI, crL, crC, crW, crV, crR_e, crR_n, crN_e, crN_n, ciR, ciL, ciD, ciN_e, ciN_n, rdI_e, rdI_n, rdC_i, rdC_o, rdW, rdU_e, rdU_n, rdLW, clI, clR, clC, clD, clW, clV, clN_e, clN_n, clL_e, clL_n]; done) | (simp (disch := omega) only [shI, shR, shL, shC, shD, shW, sh_V, shN_e, shN_n, crI, crL, crC, crW, crV, crR_e, crR_n, crN_e, crN_n, ciR, ciL, ciD, ciN_e, ciN_n, rdI_e, rdI_n, rdC_i, rdC_o, rdW, rdU_e, rdU_n, rdLW, clI, clR, clC, clD, clW, clV, clN_e, clN_n, clL_e, clL_n] <;> first | assumption | rfl | omega)) rfl) (fun x2468 M2468 h2468 => ?_)
        obtain ⟨e2468, f2468⟩ := h2468
        subst f2468
        refine x_iload dL_law_2471 rfl ?_
        refine x_icmp_eq (tgt := 2478) dL_law_2473 (by decide) (fun b2473 => ?_) (fun b2473 => ?_)
        · refine x_iload dL_law_2478 rfl ?_
          refine x_if_ne (tgt := 2495) dL_law_2480 (by decide) (fun b2480 => ?_) (fun b2480 => ?_)
          · refine x_goto (tgt := 2737) dL_law_2495 (by decide) ?_
            exact hk _ _ _ _ _ hJ2462 hN2436 la2462 lb2462
          · refine x_aload_n dL_law_2483 rfl rfl ?_
            refine x_iconst dL_law_2484 rfl ?_
            refine x_lald dL_law_2485 (by first | assumption | first | assumption | (simp (disch := omega) only [shI, shR, shL, shC, shD, shW, sh_V, shN_e, shN_n, crI, crL, crC, crW, crV, crR_e, crR_n, crN_e, crN_n, ciR, ciL, ciD, ciN_e, ciN_n, rdI_e, rdI_n, rdC_i, rdC_o, rdW, rdU_e, rdU_n, rdLW, clI, clR, clC, clD, clW, clV, clN_e, clN_n, clL_e, clL_n]; done) | (simp (disch := omega) only [shI, shR, shL, shC, shD, shW, sh_V, shN_e, shN_n, crI, crL, crC, crW, crV, crR_e, crR_n, crN_e, crN_n, ciR, ciL, ciD, ciN_e, ciN_n, rdI_e, rdI_n, rdC_i, rdC_o, rdW, rdU_e, rdU_n, rdLW, clI, clR, clC, clD, clW, clV, clN_e, clN_n, clL_e, clL_n] <;> first | assumption | rfl | omega)) (by omega) (by omega) ?_
            refine x_iload dL_law_2486 rfl ?_
            refine x_i2l dL_law_2488 ?_
            refine x_lcmp dL_law_2489 ?_
            refine x_if_eq (tgt := 2495) dL_law_2490 (by decide) (fun b2490 => ?_) (fun b2490 => ?_)
            · refine x_goto (tgt := 2737) dL_law_2495 (by decide) ?_
              exact hk _ _ _ _ _ hJ2462 hN2436 la2462 lb2462
            · exact absurd (jlcmp_0.mpr (by have h0 : x2436 = 0 := (by omega); have a1 := tm2462; have a2 := hy2436 h0; have a3 := hb2462 h0; omega)) b2490
        · exact absurd (e2468.trans e2462) b2473
      · exact absurd hz b2454
    · exact absurd hz b2427
  · refine x_aload_n dL_law_2414 rfl rfl ?_
    refine x_aload_n dL_law_2415 rfl rfl ?_
    refine x_iload dL_law_2416 rfl ?_
    refine x_iconst dL_law_2418 rfl ?_
    first | refine x_iaddN dL_law_2419 (by unfold i32; omega) ?_ | refine x_iadd dL_law_2419 ?_
    refine x_iald dL_law_2420 (by first | assumption | first | assumption | (simp (disch := omega) only [shI, shR, shL, shC, shD, shW, sh_V, shN_e, shN_n, crI, crL, crC, crW, crV, crR_e, crR_n, crN_e, crN_n, ciR, ciL, ciD, ciN_e, ciN_n, rdI_e, rdI_n, rdC_i, rdC_o, rdW, rdU_e, rdU_n, rdLW, clI, clR, clC, clD, clW, clV, clN_e, clN_n, clL_e, clL_n]; done) | (simp (disch := omega) only [shI, shR, shL, shC, shD, shW, sh_V, shN_e, shN_n, crI, crL, crC, crW, crV, crR_e, crR_n, crN_e, crN_n, ciR, ciL, ciD, ciN_e, ciN_n, rdI_e, rdI_n, rdC_i, rdC_o, rdW, rdU_e, rdU_n, rdLW, clI, clR, clC, clD, clW, clV, clN_e, clN_n, clL_e, clL_n] <;> first | assumption | rfl | omega)) (by omega) (by omega) ?_
    rw [hsc]
    refine x_aload_n dL_law_2421 rfl rfl ?_
    refine x_iload dL_law_2422 rfl ?_
    refine x_iconst dL_law_2424 rfl ?_
    first | refine x_iaddN dL_law_2425 (by unfold i32; omega) ?_ | refine x_iadd dL_law_2425 ?_
    refine x_iald dL_law_2426 (by first | assumption | first | assumption | (simp (disch := omega) only [shI, shR, shL, shC, shD, shW, sh_V, shN_e, shN_n, crI, crL, crC, crW, crV, crR_e, crR_n, crN_e, crN_n, ciR, ciL, ciD, ciN_e, ciN_n, rdI_e, rdI_n, rdC_i, rdC_o, rdW, rdU_e, rdU_n, rdLW, clI, clR, clC, clD, clW, clV, clN_e, clN_n, clL_e, clL_n]; done) | (simp (disch := omega) only [shI, shR, shL, shC, shD, shW, sh_V, shN_e, shN_n, crI, crL, crC, crW, crV, crR_e, crR_n, crN_e, crN_n, ciR, ciL, ciD, ciN_e, ciN_n, rdI_e, rdI_n, rdC_i, rdC_o, rdW, rdU_e, rdU_n, rdLW, clI, clR, clC, clD, clW, clV, clN_e, clN_n, clL_e, clL_n] <;> first | assumption | rfl | omega)) (by omega) (by omega) ?_
    rw [hsc]
    refine x_if_eq (tgt := 2434) dL_law_2427 (by decide) (fun b2427 => ?_) (fun b2427 => ?_)
    · exact absurd b2427 hz
    · refine x_iconst dL_law_2430 rfl ?_
      refine x_goto (tgt := 2435) dL_law_2431 (by decide) ?_
      refine x_aload_n dL_law_2435 rfl rfl ?_
      refine g_callI (vs := [_, _, _, _]) (d' := d - 1) rfl (uc_span (by omega) h7 hC hN (Or.inr rfl)) dL_law_2436 kX0_288 (by omega) (by decide) rfl (Nat.le_of_ble_eq_true rfl) (rcv_n) (fun x2436 M2436 h2436 => ?_)
      obtain ⟨y2436, s2436, N2436, hR2436, hy2436, hN2436, hch2436⟩ := h2436
      obtain ⟨hT2436, ⟨me2436, mw2436⟩, sf2436, hs2436, hok2436, hX2436⟩ := hJ.mid hch2436
      have hI2436 : TI M2436 744 v n A hi vi tp sz fa := hT2436
      refine x_istore (L' := [some _, some _, some _, some _, some _, some _, none]) dL_law_2439 (by decide) rfl ?_
      refine x_aload_n dL_law_2441 rfl rfl ?_
      refine x_aload_n dL_law_2442 rfl rfl ?_
      refine x_iload dL_law_2443 rfl ?_
      refine x_iconst dL_law_2445 rfl ?_
      first | refine x_iaddN dL_law_2446 (by unfold i32; omega) ?_ | refine x_iadd dL_law_2446 ?_
      refine x_iald dL_law_2447 (by first | assumption | first | assumption | (simp (disch := omega) only [shI, shR, shL, shC, shD, shW, sh_V, shN_e, shN_n, crI, crL, crC, crW, crV, crR_e, crR_n, crN_e, crN_n, ciR, ciL, ciD, ciN_e, ciN_n, rdI_e, rdI_n, rdC_i, rdC_o, rdW, rdU_e, rdU_n, rdLW, clI, clR, clC, clD, clW, clV, clN_e, clN_n, clL_e, clL_n]; done) | (simp (disch := omega) only [shI, shR, shL, shC, shD, shW, sh_V, shN_e, shN_n, crI, crL, crC, crW, crV, crR_e, crR_n, crN_e, crN_n, ciR, ciL, ciD, ciN_e, ciN_n, rdI_e, rdI_n, rdC_i, rdC_o, rdW, rdU_e, rdU_n, rdLW, clI, clR, clC, clD, clW, clV, clN_e, clN_n, clL_e, clL_n] <;> first | assumption | rfl | omega)) (by omega) (by omega) ?_
      rw [hs2436]
      refine x_aload_n dL_law_2448 rfl rfl ?_
      refine x_iload dL_law_2449 rfl ?_
      refine x_iconst dL_law_2451 rfl ?_
      first | refine x_iaddN dL_law_2452 (by unfold i32; omega) ?_ | refine x_iadd dL_law_2452 ?_
      refine x_iald dL_law_2453 (by first | assumption | first | assumption | (simp (disch := omega) only [shI, shR, shL, shC, shD, shW, sh_V, shN_e, shN_n, crI, crL, crC, crW, crV, crR_e, crR_n, crN_e, crN_n, ciR, ciL, ciD, ciN_e, ciN_n, rdI_e, rdI_n, rdC_i, rdC_o, rdW, rdU_e, rdU_n, rdLW, clI, clR, clC, clD, clW, clV, clN_e, clN_n, clL_e, clL_n]; done) | (simp (disch := omega) only [shI, shR, shL, shC, shD, shW, sh_V, shN_e, shN_n, crI, crL, crC, crW, crV, crR_e, crR_n, crN_e, crN_n, ciR, ciL, ciD, ciN_e, ciN_n, rdI_e, rdI_n, rdC_i, rdC_o, rdW, rdU_e, rdU_n, rdLW, clI, clR, clC, clD, clW, clV, clN_e, clN_n, clL_e, clL_n] <;> first | assumption | rfl | omega)) (by omega) (by omega) ?_
      rw [hs2436]
      refine x_if_eq (tgt := 2461) dL_law_2454 (by decide) (fun b2454 => ?_) (fun b2454 => ?_)
      · exact absurd b2454 hz
      · refine x_iconst dL_law_2457 rfl ?_
        refine x_goto (tgt := 2462) dL_law_2458 (by decide) ?_
        refine g_callI (vs := [_, _, _]) (d' := d - 1) rfl (rc_span (by omega) hI2436 hR2436) dL_law_2462 kX0_290 (by omega) (by decide) rfl (Nat.le_of_ble_eq_true rfl) (rcv_o (by first | assumption | first | assumption | (simp (disch := omega) only [shI, shR, shL, shC, shD, shW, sh_V, shN_e, shN_n, crI, crL, crC, crW, crV, crR_e, crR_n, crN_e, crN_n, ciR, ciL, ciD, ciN_e, ciN_n, rdI_e, rdI_n, rdC_i, rdC_o, rdW, rdU_e, rdU_n, rdLW, clI, clR, clC, clD, clW, clV, clN_e, clN_n, clL_e, clL_n]; done) | (simp (disch := omega) only [shI, shR, shL, shC, shD, shW, sh_V, shN_e, shN_n, crI, crL, crC, crW, crV, crR_e, crR_n, crN_e, crN_n, ciR, ciL, ciD, ciN_e, ciN_n, rdI_e, rdI_n, rdC_i, rdC_o, rdW, rdU_e, rdU_n, rdLW, clI, clR, clC, clD, clW, clV, clN_e, clN_n, clL_e, clL_n] <;> first | assumption | rfl | omega)) rfl) (fun x2462 M2462 h2462 => ?_)
        obtain ⟨e2462, hb2462, ⟨w2462, hv2462, ht2462⟩, hr2462⟩ := h2462
        obtain ⟨hJ2462, la2462, lb2462, tv2462, tm2462, tw2462, te2462⟩ := hJ.st (v' := w2462) hch2436 hr2462 hv2462 ht2462 (xc_span hF hA hL hn hR2436)
        refine x_istore (L' := [some _, some _, some _, some _, some _, some _, some _]) dL_law_2465 (by decide) rfl ?_
        refine x_aload_n dL_law_2467 rfl rfl ?_
        refine g_callI (vs := [_]) (d' := d - 1) rfl (s_X8_thrown (by omega) tw2462) dL_law_2468 kX0_142 (by omega) (by decide) rfl (Nat.le_of_ble_eq_true rfl) (rcv_o (by first | assumption | first | assumption | (simp (disch := omega) only [shI, shR, shL, shC, shD, shW, sh_V, shN_e, shN_n, crI, crL, crC, crW, crV, crR_e, crR_n, crN_e, crN_n, ciR, ciL, ciD, ciN_e, ciN_n, rdI_e, rdI_n, rdC_i, rdC_o, rdW, rdU_e, rdU_n, rdLW, clI, clR, clC, clD, clW, clV, clN_e, clN_n, clL_e, clL_n]; done) | (simp (disch := omega) only [shI, shR, shL, shC, shD, shW, sh_V, shN_e, shN_n, crI, crL, crC, crW, crV, crR_e, crR_n, crN_e, crN_n, ciR, ciL, ciD, ciN_e, ciN_n, rdI_e, rdI_n, rdC_i, rdC_o, rdW, rdU_e, rdU_n, rdLW, clI, clR, clC, clD, clW, clV, clN_e, clN_n, clL_e, clL_n] <;> first | assumption | rfl | omega)) rfl) (fun x2468 M2468 h2468 => ?_)
        obtain ⟨e2468, f2468⟩ := h2468
        subst f2468
        refine x_iload dL_law_2471 rfl ?_
        refine x_icmp_eq (tgt := 2478) dL_law_2473 (by decide) (fun b2473 => ?_) (fun b2473 => ?_)
        · refine x_iload dL_law_2478 rfl ?_
          refine x_if_ne (tgt := 2495) dL_law_2480 (by decide) (fun b2480 => ?_) (fun b2480 => ?_)
          · refine x_goto (tgt := 2737) dL_law_2495 (by decide) ?_
            exact hk _ _ _ _ _ hJ2462 hN2436 la2462 lb2462
          · refine x_aload_n dL_law_2483 rfl rfl ?_
            refine x_iconst dL_law_2484 rfl ?_
            refine x_lald dL_law_2485 (by first | assumption | first | assumption | (simp (disch := omega) only [shI, shR, shL, shC, shD, shW, sh_V, shN_e, shN_n, crI, crL, crC, crW, crV, crR_e, crR_n, crN_e, crN_n, ciR, ciL, ciD, ciN_e, ciN_n, rdI_e, rdI_n, rdC_i, rdC_o, rdW, rdU_e, rdU_n, rdLW, clI, clR, clC, clD, clW, clV, clN_e, clN_n, clL_e, clL_n]; done) | (simp (disch := omega) only [shI, shR, shL, shC, shD, shW, sh_V, shN_e, shN_n, crI, crL, crC, crW, crV, crR_e, crR_n, crN_e, crN_n, ciR, ciL, ciD, ciN_e, ciN_n, rdI_e, rdI_n, rdC_i, rdC_o, rdW, rdU_e, rdU_n, rdLW, clI, clR, clC, clD, clW, clV, clN_e, clN_n, clL_e, clL_n] <;> first | assumption | rfl | omega)) (by omega) (by omega) ?_
            refine x_iload dL_law_2486 rfl ?_
            refine x_i2l dL_law_2488 ?_
            refine x_lcmp dL_law_2489 ?_
            refine x_if_eq (tgt := 2495) dL_law_2490 (by decide) (fun b2490 => ?_) (fun b2490 => ?_)
            · refine x_goto (tgt := 2737) dL_law_2495 (by decide) ?_
              exact hk _ _ _ _ _ hJ2462 hN2436 la2462 lb2462
            · exact absurd (jlcmp_0.mpr (by have h0 : x2436 = 0 := (by omega); have a1 := tm2462; have a2 := hy2436 h0; have a3 := hb2462 h0; omega)) b2490
        · exact absurd (e2468.trans e2462) b2473
theorem cs_45 (hd : 100 ≤ d) (hJ : IV M s N len sc) (hN : N ≤ 900000000) (hi0 : 0 ≤ i ∧ i + 6 ≤ len) (hln : len ≤ 384) (hk : ∀ (M1 : Mem) (s1 : Sg) (N1 : Int) (o5 o6 : Option DV), IV M1 s1 N1 len sc → N1 ≤ N + 120 → mnx M1 ≤ mnx M + 1400 → mns M1 ≤ mns M + 6000 → WP G d mL_law 2737 [some (dR (-5)), some (dR 0), some (dR 744), some (dR 760), some (dI i), o5, o6] [] M1 Q) : WP G d mL_law 2498 [some (dR (-5)), some (dR 0), some (dR 744), some (dR 760), some (dI i), none, none] [] M Q := by
  obtain ⟨v, n, A, hi, vi, tp, sz, fa⟩ := s
  obtain ⟨hC0, hT0, hF, h7, s5, hsc⟩ := id hJ
  have hC : CI M v n A hi vi tp sz fa N := hC0
  have s0 : msh M 0 = some (1, 0) := hC.1.1.1.1
  have hA : okA v := hC.2.1.1
  have hL : lawOK v := hC.2.1.2.1
  have hn : 0 ≤ n ∧ n ≤ 12 := hC.2.2.1.2.1
  by_cases hz : sc (i + 2) = 0
  · refine x_aload_n dL_law_2498 rfl rfl ?_
    refine x_aload_n dL_law_2499 rfl rfl ?_
    refine x_iload dL_law_2500 rfl ?_
    refine x_iconst dL_law_2502 rfl ?_
    first | refine x_iaddN dL_law_2503 (by unfold i32; omega) ?_ | refine x_iadd dL_law_2503 ?_
    refine x_iald dL_law_2504 (by first | assumption | first | assumption | (simp (disch := omega) only [shI, shR, shL, shC, shD, shW, sh_V, shN_e, shN_n, crI, crL, crC, crW, crV, crR_e, crR_n, crN_e, crN_n, ciR, ciL, ciD, ciN_e, ciN_n, rdI_e, rdI_n, rdC_i, rdC_o, rdW, rdU_e, rdU_n, rdLW, clI, clR, clC, clD, clW, clV, clN_e, clN_n, clL_e, clL_n]; done) | (simp (disch := omega) only [shI, shR, shL, shC, shD, shW, sh_V, shN_e, shN_n, crI, crL, crC, crW, crV, crR_e, crR_n, crN_e, crN_n, ciR, ciL, ciD, ciN_e, ciN_n, rdI_e, rdI_n, rdC_i, rdC_o, rdW, rdU_e, rdU_n, rdLW, clI, clR, clC, clD, clW, clV, clN_e, clN_n, clL_e, clL_n] <;> first | assumption | rfl | omega)) (by omega) (by omega) ?_
    rw [hsc]
    refine x_aload_n dL_law_2505 rfl rfl ?_
    refine x_iload dL_law_2506 rfl ?_
    refine x_iconst dL_law_2508 rfl ?_
    first | refine x_iaddN dL_law_2509 (by unfold i32; omega) ?_ | refine x_iadd dL_law_2509 ?_
    refine x_iald dL_law_2510 (by first | assumption | first | assumption | (simp (disch := omega) only [shI, shR, shL, shC, shD, shW, sh_V, shN_e, shN_n, crI, crL, crC, crW, crV, crR_e, crR_n, crN_e, crN_n, ciR, ciL, ciD, ciN_e, ciN_n, rdI_e, rdI_n, rdC_i, rdC_o, rdW, rdU_e, rdU_n, rdLW, clI, clR, clC, clD, clW, clV, clN_e, clN_n, clL_e, clL_n]; done) | (simp (disch := omega) only [shI, shR, shL, shC, shD, shW, sh_V, shN_e, shN_n, crI, crL, crC, crW, crV, crR_e, crR_n, crN_e, crN_n, ciR, ciL, ciD, ciN_e, ciN_n, rdI_e, rdI_n, rdC_i, rdC_o, rdW, rdU_e, rdU_n, rdLW, clI, clR, clC, clD, clW, clV, clN_e, clN_n, clL_e, clL_n] <;> first | assumption | rfl | omega)) (by omega) (by omega) ?_
    rw [hsc]
    refine x_if_eq (tgt := 2518) dL_law_2511 (by decide) (fun b2511 => ?_) (fun b2511 => ?_)
    · refine x_iconst dL_law_2518 rfl ?_
      refine x_aload_n dL_law_2519 rfl rfl ?_
      refine g_callI (vs := [_, _, _, _]) (d' := d - 1) rfl (uc_led (by omega) h7 hC hN hF (Or.inl rfl)) dL_law_2520 kX0_291 (by omega) (by decide) rfl (Nat.le_of_ble_eq_true rfl) (rcv_n) (fun x2520 M2520 h2520 => ?_)
      obtain ⟨y2520, s2520, N2520, hR2520, hy2520, hN2520, hch2520⟩ := h2520
      obtain ⟨hT2520, ⟨me2520, mw2520⟩, sf2520, hs2520, hok2520, hX2520⟩ := hJ.mid hch2520
      have hI2520 : TI M2520 744 v n A hi vi tp sz fa := hT2520
      refine x_istore (L' := [some _, some _, some _, some _, some _, some _, none]) dL_law_2523 (by decide) rfl ?_
      refine x_aload_n dL_law_2525 rfl rfl ?_
      refine x_aload_n dL_law_2526 rfl rfl ?_
      refine x_iload dL_law_2527 rfl ?_
      refine x_iconst dL_law_2529 rfl ?_
      first | refine x_iaddN dL_law_2530 (by unfold i32; omega) ?_ | refine x_iadd dL_law_2530 ?_
      refine x_iald dL_law_2531 (by first | assumption | first | assumption | (simp (disch := omega) only [shI, shR, shL, shC, shD, shW, sh_V, shN_e, shN_n, crI, crL, crC, crW, crV, crR_e, crR_n, crN_e, crN_n, ciR, ciL, ciD, ciN_e, ciN_n, rdI_e, rdI_n, rdC_i, rdC_o, rdW, rdU_e, rdU_n, rdLW, clI, clR, clC, clD, clW, clV, clN_e, clN_n, clL_e, clL_n]; done) | (simp (disch := omega) only [shI, shR, shL, shC, shD, shW, sh_V, shN_e, shN_n, crI, crL, crC, crW, crV, crR_e, crR_n, crN_e, crN_n, ciR, ciL, ciD, ciN_e, ciN_n, rdI_e, rdI_n, rdC_i, rdC_o, rdW, rdU_e, rdU_n, rdLW, clI, clR, clC, clD, clW, clV, clN_e, clN_n, clL_e, clL_n] <;> first | assumption | rfl | omega)) (by omega) (by omega) ?_
      rw [hs2520]
      refine x_aload_n dL_law_2532 rfl rfl ?_
      refine x_iload dL_law_2533 rfl ?_
      refine x_iconst dL_law_2535 rfl ?_
      first | refine x_iaddN dL_law_2536 (by unfold i32; omega) ?_ | refine x_iadd dL_law_2536 ?_
      refine x_iald dL_law_2537 (by first | assumption | first | assumption | (simp (disch := omega) only [shI, shR, shL, shC, shD, shW, sh_V, shN_e, shN_n, crI, crL, crC, crW, crV, crR_e, crR_n, crN_e, crN_n, ciR, ciL, ciD, ciN_e, ciN_n, rdI_e, rdI_n, rdC_i, rdC_o, rdW, rdU_e, rdU_n, rdLW, clI, clR, clC, clD, clW, clV, clN_e, clN_n, clL_e, clL_n]; done) | (simp (disch := omega) only [shI, shR, shL, shC, shD, shW, sh_V, shN_e, shN_n, crI, crL, crC, crW, crV, crR_e, crR_n, crN_e, crN_n, ciR, ciL, ciD, ciN_e, ciN_n, rdI_e, rdI_n, rdC_i, rdC_o, rdW, rdU_e, rdU_n, rdLW, clI, clR, clC, clD, clW, clV, clN_e, clN_n, clL_e, clL_n] <;> first | assumption | rfl | omega)) (by omega) (by omega) ?_
      rw [hs2520]
      refine x_if_eq (tgt := 2545) dL_law_2538 (by decide) (fun b2538 => ?_) (fun b2538 => ?_)
      · refine x_iconst dL_law_2545 rfl ?_
        refine g_callI (vs := [_, _, _]) (d' := d - 1) rfl (rc_led (by omega) hI2520 hR2520) dL_law_2546 kX0_293 (by omega) (by decide) rfl (Nat.le_of_ble_eq_true rfl) (rcv_o (by first | assumption | first | assumption | (simp (disch := omega) only [shI, shR, shL, shC, shD, shW, sh_V, shN_e, shN_n, crI, crL, crC, crW, crV, crR_e, crR_n, crN_e, crN_n, ciR, ciL, ciD, ciN_e, ciN_n, rdI_e, rdI_n, rdC_i, rdC_o, rdW, rdU_e, rdU_n, rdLW, clI, clR, clC, clD, clW, clV, clN_e, clN_n, clL_e, clL_n]; done) | (simp (disch := omega) only [shI, shR, shL, shC, shD, shW, sh_V, shN_e, shN_n, crI, crL, crC, crW, crV, crR_e, crR_n, crN_e, crN_n, ciR, ciL, ciD, ciN_e, ciN_n, rdI_e, rdI_n, rdC_i, rdC_o, rdW, rdU_e, rdU_n, rdLW, clI, clR, clC, clD, clW, clV, clN_e, clN_n, clL_e, clL_n] <;> first | assumption | rfl | omega)) rfl) (fun x2546 M2546 h2546 => ?_)
        obtain ⟨e2546, hb2546, ⟨w2546, hv2546, ht2546⟩, hr2546⟩ := h2546
        obtain ⟨hJ2546, la2546, lb2546, tv2546, tm2546, tw2546, te2546⟩ := hJ.st (v' := w2546) hch2520 hr2546 hv2546 ht2546 (xc_led hF hA hL hn hR2520)
        refine x_istore (L' := [some _, some _, some _, some _, some _, some _, some _]) dL_law_2549 (by decide) rfl ?_
        refine x_aload_n dL_law_2551 rfl rfl ?_
        refine g_callI (vs := [_]) (d' := d - 1) rfl (s_X8_thrown (by omega) tw2546) dL_law_2552 kX0_142 (by omega) (by decide) rfl (Nat.le_of_ble_eq_true rfl) (rcv_o (by first | assumption | first | assumption | (simp (disch := omega) only [shI, shR, shL, shC, shD, shW, sh_V, shN_e, shN_n, crI, crL, crC, crW, crV, crR_e, crR_n, crN_e, crN_n, ciR, ciL, ciD, ciN_e, ciN_n, rdI_e, rdI_n, rdC_i, rdC_o, rdW, rdU_e, rdU_n, rdLW, clI, clR, clC, clD, clW, clV, clN_e, clN_n, clL_e, clL_n]; done) | (simp (disch := omega) only [shI, shR, shL, shC, shD, shW, sh_V, shN_e, shN_n, crI, crL, crC, crW, crV, crR_e, crR_n, crN_e, crN_n, ciR, ciL, ciD, ciN_e, ciN_n, rdI_e, rdI_n, rdC_i, rdC_o, rdW, rdU_e, rdU_n, rdLW, clI, clR, clC, clD, clW, clV, clN_e, clN_n, clL_e, clL_n] <;> first | assumption | rfl | omega)) rfl) (fun x2552 M2552 h2552 => ?_)
        obtain ⟨e2552, f2552⟩ := h2552
        subst f2552
        refine x_iload dL_law_2555 rfl ?_
        refine x_icmp_eq (tgt := 2562) dL_law_2557 (by decide) (fun b2557 => ?_) (fun b2557 => ?_)
        · refine x_iload dL_law_2562 rfl ?_
          refine x_if_ne (tgt := 2579) dL_law_2564 (by decide) (fun b2564 => ?_) (fun b2564 => ?_)
          · refine x_goto (tgt := 2737) dL_law_2579 (by decide) ?_
            exact hk _ _ _ _ _ hJ2546 hN2520 la2546 lb2546
          · refine x_aload_n dL_law_2567 rfl rfl ?_
            refine x_iconst dL_law_2568 rfl ?_
            refine x_lald dL_law_2569 (by first | assumption | first | assumption | (simp (disch := omega) only [shI, shR, shL, shC, shD, shW, sh_V, shN_e, shN_n, crI, crL, crC, crW, crV, crR_e, crR_n, crN_e, crN_n, ciR, ciL, ciD, ciN_e, ciN_n, rdI_e, rdI_n, rdC_i, rdC_o, rdW, rdU_e, rdU_n, rdLW, clI, clR, clC, clD, clW, clV, clN_e, clN_n, clL_e, clL_n]; done) | (simp (disch := omega) only [shI, shR, shL, shC, shD, shW, sh_V, shN_e, shN_n, crI, crL, crC, crW, crV, crR_e, crR_n, crN_e, crN_n, ciR, ciL, ciD, ciN_e, ciN_n, rdI_e, rdI_n, rdC_i, rdC_o, rdW, rdU_e, rdU_n, rdLW, clI, clR, clC, clD, clW, clV, clN_e, clN_n, clL_e, clL_n] <;> first | assumption | rfl | omega)) (by omega) (by omega) ?_
            refine x_iload dL_law_2570 rfl ?_
            refine x_i2l dL_law_2572 ?_
            refine x_lcmp dL_law_2573 ?_
            refine x_if_eq (tgt := 2579) dL_law_2574 (by decide) (fun b2574 => ?_) (fun b2574 => ?_)
            · refine x_goto (tgt := 2737) dL_law_2579 (by decide) ?_
              exact hk _ _ _ _ _ hJ2546 hN2520 la2546 lb2546
            · exact absurd (jlcmp_0.mpr (by have h0 : x2520 = 0 := (by omega); have a1 := tm2546; have a2 := hy2520 h0; have a3 := hb2546 h0; omega)) b2574
        · exact absurd (e2552.trans e2546) b2557
      · exact absurd hz b2538
    · exact absurd hz b2511
  · refine x_aload_n dL_law_2498 rfl rfl ?_
    refine x_aload_n dL_law_2499 rfl rfl ?_
    refine x_iload dL_law_2500 rfl ?_
    refine x_iconst dL_law_2502 rfl ?_
    first | refine x_iaddN dL_law_2503 (by unfold i32; omega) ?_ | refine x_iadd dL_law_2503 ?_
    refine x_iald dL_law_2504 (by first | assumption | first | assumption | (simp (disch := omega) only [shI, shR, shL, shC, shD, shW, sh_V, shN_e, shN_n, crI, crL, crC, crW, crV, crR_e, crR_n, crN_e, crN_n, ciR, ciL, ciD, ciN_e, ciN_n, rdI_e, rdI_n, rdC_i, rdC_o, rdW, rdU_e, rdU_n, rdLW, clI, clR, clC, clD, clW, clV, clN_e, clN_n, clL_e, clL_n]; done) | (simp (disch := omega) only [shI, shR, shL, shC, shD, shW, sh_V, shN_e, shN_n, crI, crL, crC, crW, crV, crR_e, crR_n, crN_e, crN_n, ciR, ciL, ciD, ciN_e, ciN_n, rdI_e, rdI_n, rdC_i, rdC_o, rdW, rdU_e, rdU_n, rdLW, clI, clR, clC, clD, clW, clV, clN_e, clN_n, clL_e, clL_n] <;> first | assumption | rfl | omega)) (by omega) (by omega) ?_
    rw [hsc]
    refine x_aload_n dL_law_2505 rfl rfl ?_
    refine x_iload dL_law_2506 rfl ?_
    refine x_iconst dL_law_2508 rfl ?_
    first | refine x_iaddN dL_law_2509 (by unfold i32; omega) ?_ | refine x_iadd dL_law_2509 ?_
    refine x_iald dL_law_2510 (by first | assumption | first | assumption | (simp (disch := omega) only [shI, shR, shL, shC, shD, shW, sh_V, shN_e, shN_n, crI, crL, crC, crW, crV, crR_e, crR_n, crN_e, crN_n, ciR, ciL, ciD, ciN_e, ciN_n, rdI_e, rdI_n, rdC_i, rdC_o, rdW, rdU_e, rdU_n, rdLW, clI, clR, clC, clD, clW, clV, clN_e, clN_n, clL_e, clL_n]; done) | (simp (disch := omega) only [shI, shR, shL, shC, shD, shW, sh_V, shN_e, shN_n, crI, crL, crC, crW, crV, crR_e, crR_n, crN_e, crN_n, ciR, ciL, ciD, ciN_e, ciN_n, rdI_e, rdI_n, rdC_i, rdC_o, rdW, rdU_e, rdU_n, rdLW, clI, clR, clC, clD, clW, clV, clN_e, clN_n, clL_e, clL_n] <;> first | assumption | rfl | omega)) (by omega) (by omega) ?_
    rw [hsc]
    refine x_if_eq (tgt := 2518) dL_law_2511 (by decide) (fun b2511 => ?_) (fun b2511 => ?_)
    · exact absurd b2511 hz
    · refine x_iconst dL_law_2514 rfl ?_
      refine x_goto (tgt := 2519) dL_law_2515 (by decide) ?_
      refine x_aload_n dL_law_2519 rfl rfl ?_
      refine g_callI (vs := [_, _, _, _]) (d' := d - 1) rfl (uc_led (by omega) h7 hC hN hF (Or.inr rfl)) dL_law_2520 kX0_291 (by omega) (by decide) rfl (Nat.le_of_ble_eq_true rfl) (rcv_n) (fun x2520 M2520 h2520 => ?_)
      obtain ⟨y2520, s2520, N2520, hR2520, hy2520, hN2520, hch2520⟩ := h2520
      obtain ⟨hT2520, ⟨me2520, mw2520⟩, sf2520, hs2520, hok2520, hX2520⟩ := hJ.mid hch2520
      have hI2520 : TI M2520 744 v n A hi vi tp sz fa := hT2520
      refine x_istore (L' := [some _, some _, some _, some _, some _, some _, none]) dL_law_2523 (by decide) rfl ?_
      refine x_aload_n dL_law_2525 rfl rfl ?_
      refine x_aload_n dL_law_2526 rfl rfl ?_
      refine x_iload dL_law_2527 rfl ?_
      refine x_iconst dL_law_2529 rfl ?_
      first | refine x_iaddN dL_law_2530 (by unfold i32; omega) ?_ | refine x_iadd dL_law_2530 ?_
      refine x_iald dL_law_2531 (by first | assumption | first | assumption | (simp (disch := omega) only [shI, shR, shL, shC, shD, shW, sh_V, shN_e, shN_n, crI, crL, crC, crW, crV, crR_e, crR_n, crN_e, crN_n, ciR, ciL, ciD, ciN_e, ciN_n, rdI_e, rdI_n, rdC_i, rdC_o, rdW, rdU_e, rdU_n, rdLW, clI, clR, clC, clD, clW, clV, clN_e, clN_n, clL_e, clL_n]; done) | (simp (disch := omega) only [shI, shR, shL, shC, shD, shW, sh_V, shN_e, shN_n, crI, crL, crC, crW, crV, crR_e, crR_n, crN_e, crN_n, ciR, ciL, ciD, ciN_e, ciN_n, rdI_e, rdI_n, rdC_i, rdC_o, rdW, rdU_e, rdU_n, rdLW, clI, clR, clC, clD, clW, clV, clN_e, clN_n, clL_e, clL_n] <;> first | assumption | rfl | omega)) (by omega) (by omega) ?_
      rw [hs2520]
      refine x_aload_n dL_law_2532 rfl rfl ?_
      refine x_iload dL_law_2533 rfl ?_
      refine x_iconst dL_law_2535 rfl ?_
      first | refine x_iaddN dL_law_2536 (by unfold i32; omega) ?_ | refine x_iadd dL_law_2536 ?_
      refine x_iald dL_law_2537 (by first | assumption | first | assumption | (simp (disch := omega) only [shI, shR, shL, shC, shD, shW, sh_V, shN_e, shN_n, crI, crL, crC, crW, crV, crR_e, crR_n, crN_e, crN_n, ciR, ciL, ciD, ciN_e, ciN_n, rdI_e, rdI_n, rdC_i, rdC_o, rdW, rdU_e, rdU_n, rdLW, clI, clR, clC, clD, clW, clV, clN_e, clN_n, clL_e, clL_n]; done) | (simp (disch := omega) only [shI, shR, shL, shC, shD, shW, sh_V, shN_e, shN_n, crI, crL, crC, crW, crV, crR_e, crR_n, crN_e, crN_n, ciR, ciL, ciD, ciN_e, ciN_n, rdI_e, rdI_n, rdC_i, rdC_o, rdW, rdU_e, rdU_n, rdLW, clI, clR, clC, clD, clW, clV, clN_e, clN_n, clL_e, clL_n] <;> first | assumption | rfl | omega)) (by omega) (by omega) ?_
      rw [hs2520]
      refine x_if_eq (tgt := 2545) dL_law_2538 (by decide) (fun b2538 => ?_) (fun b2538 => ?_)
      · exact absurd b2538 hz
      · refine x_iconst dL_law_2541 rfl ?_
        refine x_goto (tgt := 2546) dL_law_2542 (by decide) ?_
        refine g_callI (vs := [_, _, _]) (d' := d - 1) rfl (rc_led (by omega) hI2520 hR2520) dL_law_2546 kX0_293 (by omega) (by decide) rfl (Nat.le_of_ble_eq_true rfl) (rcv_o (by first | assumption | first | assumption | (simp (disch := omega) only [shI, shR, shL, shC, shD, shW, sh_V, shN_e, shN_n, crI, crL, crC, crW, crV, crR_e, crR_n, crN_e, crN_n, ciR, ciL, ciD, ciN_e, ciN_n, rdI_e, rdI_n, rdC_i, rdC_o, rdW, rdU_e, rdU_n, rdLW, clI, clR, clC, clD, clW, clV, clN_e, clN_n, clL_e, clL_n]; done) | (simp (disch := omega) only [shI, shR, shL, shC, shD, shW, sh_V, shN_e, shN_n, crI, crL, crC, crW, crV, crR_e, crR_n, crN_e, crN_n, ciR, ciL, ciD, ciN_e, ciN_n, rdI_e, rdI_n, rdC_i, rdC_o, rdW, rdU_e, rdU_n, rdLW, clI, clR, clC, clD, clW, clV, clN_e, clN_n, clL_e, clL_n] <;> first | assumption | rfl | omega)) rfl) (fun x2546 M2546 h2546 => ?_)
        obtain ⟨e2546, hb2546, ⟨w2546, hv2546, ht2546⟩, hr2546⟩ := h2546
        obtain ⟨hJ2546, la2546, lb2546, tv2546, tm2546, tw2546, te2546⟩ := hJ.st (v' := w2546) hch2520 hr2546 hv2546 ht2546 (xc_led hF hA hL hn hR2520)
        refine x_istore (L' := [some _, some _, some _, some _, some _, some _, some _]) dL_law_2549 (by decide) rfl ?_
        refine x_aload_n dL_law_2551 rfl rfl ?_
        refine g_callI (vs := [_]) (d' := d - 1) rfl (s_X8_thrown (by omega) tw2546) dL_law_2552 kX0_142 (by omega) (by decide) rfl (Nat.le_of_ble_eq_true rfl) (rcv_o (by first | assumption | first | assumption | (simp (disch := omega) only [shI, shR, shL, shC, shD, shW, sh_V, shN_e, shN_n, crI, crL, crC, crW, crV, crR_e, crR_n, crN_e, crN_n, ciR, ciL, ciD, ciN_e, ciN_n, rdI_e, rdI_n, rdC_i, rdC_o, rdW, rdU_e, rdU_n, rdLW, clI, clR, clC, clD, clW, clV, clN_e, clN_n, clL_e, clL_n]; done) | (simp (disch := omega) only [shI, shR, shL, shC, shD, shW, sh_V, shN_e, shN_n, crI, crL, crC, crW, crV, crR_e, crR_n, crN_e, crN_n, ciR, ciL, ciD, ciN_e, ciN_n, rdI_e, rdI_n, rdC_i, rdC_o, rdW, rdU_e, rdU_n, rdLW, clI, clR, clC, clD, clW, clV, clN_e, clN_n, clL_e, clL_n] <;> first | assumption | rfl | omega)) rfl) (fun x2552 M2552 h2552 => ?_)
        obtain ⟨e2552, f2552⟩ := h2552
        subst f2552
        refine x_iload dL_law_2555 rfl ?_
        refine x_icmp_eq (tgt := 2562) dL_law_2557 (by decide) (fun b2557 => ?_) (fun b2557 => ?_)
        · refine x_iload dL_law_2562 rfl ?_
          refine x_if_ne (tgt := 2579) dL_law_2564 (by decide) (fun b2564 => ?_) (fun b2564 => ?_)
          · refine x_goto (tgt := 2737) dL_law_2579 (by decide) ?_
            exact hk _ _ _ _ _ hJ2546 hN2520 la2546 lb2546
          · refine x_aload_n dL_law_2567 rfl rfl ?_
            refine x_iconst dL_law_2568 rfl ?_
            refine x_lald dL_law_2569 (by first | assumption | first | assumption | (simp (disch := omega) only [shI, shR, shL, shC, shD, shW, sh_V, shN_e, shN_n, crI, crL, crC, crW, crV, crR_e, crR_n, crN_e, crN_n, ciR, ciL, ciD, ciN_e, ciN_n, rdI_e, rdI_n, rdC_i, rdC_o, rdW, rdU_e, rdU_n, rdLW, clI, clR, clC, clD, clW, clV, clN_e, clN_n, clL_e, clL_n]; done) | (simp (disch := omega) only [shI, shR, shL, shC, shD, shW, sh_V, shN_e, shN_n, crI, crL, crC, crW, crV, crR_e, crR_n, crN_e, crN_n, ciR, ciL, ciD, ciN_e, ciN_n, rdI_e, rdI_n, rdC_i, rdC_o, rdW, rdU_e, rdU_n, rdLW, clI, clR, clC, clD, clW, clV, clN_e, clN_n, clL_e, clL_n] <;> first | assumption | rfl | omega)) (by omega) (by omega) ?_
            refine x_iload dL_law_2570 rfl ?_
            refine x_i2l dL_law_2572 ?_
            refine x_lcmp dL_law_2573 ?_
            refine x_if_eq (tgt := 2579) dL_law_2574 (by decide) (fun b2574 => ?_) (fun b2574 => ?_)
            · refine x_goto (tgt := 2737) dL_law_2579 (by decide) ?_
              exact hk _ _ _ _ _ hJ2546 hN2520 la2546 lb2546
            · exact absurd (jlcmp_0.mpr (by have h0 : x2520 = 0 := (by omega); have a1 := tm2546; have a2 := hy2520 h0; have a3 := hb2546 h0; omega)) b2574
        · exact absurd (e2552.trans e2546) b2557
theorem cs_46 (hd : 100 ≤ d) (hJ : IV M s N len sc) (hN : N ≤ 900000000) (hi0 : 0 ≤ i ∧ i + 6 ≤ len) (hln : len ≤ 384) (hk : ∀ (M1 : Mem) (s1 : Sg) (N1 : Int) (o5 o6 : Option DV), IV M1 s1 N1 len sc → N1 ≤ N + 120 → mnx M1 ≤ mnx M + 1400 → mns M1 ≤ mns M + 6000 → WP G d mL_law 2737 [some (dR (-5)), some (dR 0), some (dR 744), some (dR 760), some (dI i), o5, o6] [] M1 Q) : WP G d mL_law 2582 [some (dR (-5)), some (dR 0), some (dR 744), some (dR 760), some (dI i), none, none] [] M Q := by
  obtain ⟨v, n, A, hi, vi, tp, sz, fa⟩ := s
  obtain ⟨hC0, hT0, hF, h7, s5, hsc⟩ := id hJ
  have hC : CI M v n A hi vi tp sz fa N := hC0
  have s0 : msh M 0 = some (1, 0) := hC.1.1.1.1
  have hA : okA v := hC.2.1.1
  have hL : lawOK v := hC.2.1.2.1
  have hn : 0 ≤ n ∧ n ≤ 12 := hC.2.2.1.2.1
  refine x_aload_n dL_law_2582 rfl rfl ?_
  refine x_aload_n dL_law_2583 rfl rfl ?_
  refine x_iload dL_law_2584 rfl ?_
  refine x_iconst dL_law_2586 rfl ?_
  first | refine x_iaddN dL_law_2587 (by unfold i32; omega) ?_ | refine x_iadd dL_law_2587 ?_
  refine x_iald dL_law_2588 (by first | assumption | first | assumption | (simp (disch := omega) only [shI, shR, shL, shC, shD, shW, sh_V, shN_e, shN_n, crI, crL, crC, crW, crV, crR_e, crR_n, crN_e, crN_n, ciR, ciL, ciD, ciN_e, ciN_n, rdI_e, rdI_n, rdC_i, rdC_o, rdW, rdU_e, rdU_n, rdLW, clI, clR, clC, clD, clW, clV, clN_e, clN_n, clL_e, clL_n]; done) | (simp (disch := omega) only [shI, shR, shL, shC, shD, shW, sh_V, shN_e, shN_n, crI, crL, crC, crW, crV, crR_e, crR_n, crN_e, crN_n, ciR, ciL, ciD, ciN_e, ciN_n, rdI_e, rdI_n, rdC_i, rdC_o, rdW, rdU_e, rdU_n, rdLW, clI, clR, clC, clD, clW, clV, clN_e, clN_n, clL_e, clL_n] <;> first | assumption | rfl | omega)) (by omega) (by omega) ?_
  rw [hsc]
  refine x_aload_n dL_law_2589 rfl rfl ?_
  refine x_iload dL_law_2590 rfl ?_
  refine x_iconst dL_law_2592 rfl ?_
  first | refine x_iaddN dL_law_2593 (by unfold i32; omega) ?_ | refine x_iadd dL_law_2593 ?_
  refine x_iald dL_law_2594 (by first | assumption | first | assumption | (simp (disch := omega) only [shI, shR, shL, shC, shD, shW, sh_V, shN_e, shN_n, crI, crL, crC, crW, crV, crR_e, crR_n, crN_e, crN_n, ciR, ciL, ciD, ciN_e, ciN_n, rdI_e, rdI_n, rdC_i, rdC_o, rdW, rdU_e, rdU_n, rdLW, clI, clR, clC, clD, clW, clV, clN_e, clN_n, clL_e, clL_n]; done) | (simp (disch := omega) only [shI, shR, shL, shC, shD, shW, sh_V, shN_e, shN_n, crI, crL, crC, crW, crV, crR_e, crR_n, crN_e, crN_n, ciR, ciL, ciD, ciN_e, ciN_n, rdI_e, rdI_n, rdC_i, rdC_o, rdW, rdU_e, rdU_n, rdLW, clI, clR, clC, clD, clW, clV, clN_e, clN_n, clL_e, clL_n] <;> first | assumption | rfl | omega)) (by omega) (by omega) ?_
  rw [hsc]
  refine x_aload_n dL_law_2595 rfl rfl ?_
  refine g_callI (vs := [_, _, _, _]) (d' := d - 1) rfl (uc_log (by omega) h7 hC hN) dL_law_2596 kX0_294 (by omega) (by decide) rfl (Nat.le_of_ble_eq_true rfl) (rcv_n) (fun x2596 M2596 h2596 => ?_)
  obtain ⟨y2596, s2596, N2596, hR2596, hy2596, hN2596, hch2596⟩ := h2596
  obtain ⟨hT2596, ⟨me2596, mw2596⟩, sf2596, hs2596, hok2596, hX2596⟩ := hJ.mid hch2596
  have hI2596 : TI M2596 744 v n A hi vi tp sz fa := hT2596
  refine x_istore (L' := [some _, some _, some _, some _, some _, some _, none]) dL_law_2599 (by decide) rfl ?_
  refine x_aload_n dL_law_2601 rfl rfl ?_
  refine x_aload_n dL_law_2602 rfl rfl ?_
  refine x_iload dL_law_2603 rfl ?_
  refine x_iconst dL_law_2605 rfl ?_
  first | refine x_iaddN dL_law_2606 (by unfold i32; omega) ?_ | refine x_iadd dL_law_2606 ?_
  refine x_iald dL_law_2607 (by first | assumption | first | assumption | (simp (disch := omega) only [shI, shR, shL, shC, shD, shW, sh_V, shN_e, shN_n, crI, crL, crC, crW, crV, crR_e, crR_n, crN_e, crN_n, ciR, ciL, ciD, ciN_e, ciN_n, rdI_e, rdI_n, rdC_i, rdC_o, rdW, rdU_e, rdU_n, rdLW, clI, clR, clC, clD, clW, clV, clN_e, clN_n, clL_e, clL_n]; done) | (simp (disch := omega) only [shI, shR, shL, shC, shD, shW, sh_V, shN_e, shN_n, crI, crL, crC, crW, crV, crR_e, crR_n, crN_e, crN_n, ciR, ciL, ciD, ciN_e, ciN_n, rdI_e, rdI_n, rdC_i, rdC_o, rdW, rdU_e, rdU_n, rdLW, clI, clR, clC, clD, clW, clV, clN_e, clN_n, clL_e, clL_n] <;> first | assumption | rfl | omega)) (by omega) (by omega) ?_
  rw [hs2596]
  refine x_aload_n dL_law_2608 rfl rfl ?_
  refine x_iload dL_law_2609 rfl ?_
  refine x_iconst dL_law_2611 rfl ?_
  first | refine x_iaddN dL_law_2612 (by unfold i32; omega) ?_ | refine x_iadd dL_law_2612 ?_
  refine x_iald dL_law_2613 (by first | assumption | first | assumption | (simp (disch := omega) only [shI, shR, shL, shC, shD, shW, sh_V, shN_e, shN_n, crI, crL, crC, crW, crV, crR_e, crR_n, crN_e, crN_n, ciR, ciL, ciD, ciN_e, ciN_n, rdI_e, rdI_n, rdC_i, rdC_o, rdW, rdU_e, rdU_n, rdLW, clI, clR, clC, clD, clW, clV, clN_e, clN_n, clL_e, clL_n]; done) | (simp (disch := omega) only [shI, shR, shL, shC, shD, shW, sh_V, shN_e, shN_n, crI, crL, crC, crW, crV, crR_e, crR_n, crN_e, crN_n, ciR, ciL, ciD, ciN_e, ciN_n, rdI_e, rdI_n, rdC_i, rdC_o, rdW, rdU_e, rdU_n, rdLW, clI, clR, clC, clD, clW, clV, clN_e, clN_n, clL_e, clL_n] <;> first | assumption | rfl | omega)) (by omega) (by omega) ?_
  rw [hs2596]
  refine g_callI (vs := [_, _, _]) (d' := d - 1) rfl (rc_log (by omega) hI2596 hR2596) dL_law_2614 kX0_296 (by omega) (by decide) rfl (Nat.le_of_ble_eq_true rfl) (rcv_o (by first | assumption | first | assumption | (simp (disch := omega) only [shI, shR, shL, shC, shD, shW, sh_V, shN_e, shN_n, crI, crL, crC, crW, crV, crR_e, crR_n, crN_e, crN_n, ciR, ciL, ciD, ciN_e, ciN_n, rdI_e, rdI_n, rdC_i, rdC_o, rdW, rdU_e, rdU_n, rdLW, clI, clR, clC, clD, clW, clV, clN_e, clN_n, clL_e, clL_n]; done) | (simp (disch := omega) only [shI, shR, shL, shC, shD, shW, sh_V, shN_e, shN_n, crI, crL, crC, crW, crV, crR_e, crR_n, crN_e, crN_n, ciR, ciL, ciD, ciN_e, ciN_n, rdI_e, rdI_n, rdC_i, rdC_o, rdW, rdU_e, rdU_n, rdLW, clI, clR, clC, clD, clW, clV, clN_e, clN_n, clL_e, clL_n] <;> first | assumption | rfl | omega)) rfl) (fun x2614 M2614 h2614 => ?_)
  obtain ⟨e2614, hb2614, ⟨w2614, hv2614, ht2614⟩, hr2614⟩ := h2614
  obtain ⟨hJ2614, la2614, lb2614, tv2614, tm2614, tw2614, te2614⟩ := hJ.st (v' := w2614) hch2596 hr2614 hv2614 ht2614 (xc_log hF hA hL hn hR2596)
  refine x_istore (L' := [some _, some _, some _, some _, some _, some _, some _]) dL_law_2617 (by decide) rfl ?_
  refine x_aload_n dL_law_2619 rfl rfl ?_
  refine g_callI (vs := [_]) (d' := d - 1) rfl (s_X8_thrown (by omega) tw2614) dL_law_2620 kX0_142 (by omega) (by decide) rfl (Nat.le_of_ble_eq_true rfl) (rcv_o (by first | assumption | first | assumption | (simp (disch := omega) only [shI, shR, shL, shC, shD, shW, sh_V, shN_e, shN_n, crI, crL, crC, crW, crV, crR_e, crR_n, crN_e, crN_n, ciR, ciL, ciD, ciN_e, ciN_n, rdI_e, rdI_n, rdC_i, rdC_o, rdW, rdU_e, rdU_n, rdLW, clI, clR, clC, clD, clW, clV, clN_e, clN_n, clL_e, clL_n]; done) | (simp (disch := omega) only [shI, shR, shL, shC, shD, shW, sh_V, shN_e, shN_n, crI, crL, crC, crW, crV, crR_e, crR_n, crN_e, crN_n, ciR, ciL, ciD, ciN_e, ciN_n, rdI_e, rdI_n, rdC_i, rdC_o, rdW, rdU_e, rdU_n, rdLW, clI, clR, clC, clD, clW, clV, clN_e, clN_n, clL_e, clL_n] <;> first | assumption | rfl | omega)) rfl) (fun x2620 M2620 h2620 => ?_)
  obtain ⟨e2620, f2620⟩ := h2620
  subst f2620
  refine x_iload dL_law_2623 rfl ?_
  refine x_icmp_eq (tgt := 2630) dL_law_2625 (by decide) (fun b2625 => ?_) (fun b2625 => ?_)
  · refine x_iload dL_law_2630 rfl ?_
    refine x_if_ne (tgt := 2647) dL_law_2632 (by decide) (fun b2632 => ?_) (fun b2632 => ?_)
    · refine x_goto (tgt := 2737) dL_law_2647 (by decide) ?_
      exact hk _ _ _ _ _ hJ2614 hN2596 la2614 lb2614
    · refine x_aload_n dL_law_2635 rfl rfl ?_
      refine x_iconst dL_law_2636 rfl ?_
      refine x_lald dL_law_2637 (by first | assumption | first | assumption | (simp (disch := omega) only [shI, shR, shL, shC, shD, shW, sh_V, shN_e, shN_n, crI, crL, crC, crW, crV, crR_e, crR_n, crN_e, crN_n, ciR, ciL, ciD, ciN_e, ciN_n, rdI_e, rdI_n, rdC_i, rdC_o, rdW, rdU_e, rdU_n, rdLW, clI, clR, clC, clD, clW, clV, clN_e, clN_n, clL_e, clL_n]; done) | (simp (disch := omega) only [shI, shR, shL, shC, shD, shW, sh_V, shN_e, shN_n, crI, crL, crC, crW, crV, crR_e, crR_n, crN_e, crN_n, ciR, ciL, ciD, ciN_e, ciN_n, rdI_e, rdI_n, rdC_i, rdC_o, rdW, rdU_e, rdU_n, rdLW, clI, clR, clC, clD, clW, clV, clN_e, clN_n, clL_e, clL_n] <;> first | assumption | rfl | omega)) (by omega) (by omega) ?_
      refine x_iload dL_law_2638 rfl ?_
      refine x_i2l dL_law_2640 ?_
      refine x_lcmp dL_law_2641 ?_
      refine x_if_eq (tgt := 2647) dL_law_2642 (by decide) (fun b2642 => ?_) (fun b2642 => ?_)
      · refine x_goto (tgt := 2737) dL_law_2647 (by decide) ?_
        exact hk _ _ _ _ _ hJ2614 hN2596 la2614 lb2614
      · exact absurd (jlcmp_0.mpr (by have h0 : x2596 = 0 := (by omega); have a1 := tm2614; have a2 := hy2596 h0; have a3 := hb2614 h0; omega)) b2642
  · exact absurd (e2620.trans e2614) b2625
theorem cs_47 (hd : 100 ≤ d) (hJ : IV M s N len sc) (hN : N ≤ 900000000) (hi0 : 0 ≤ i ∧ i + 6 ≤ len) (hln : len ≤ 384) (hk : ∀ (M1 : Mem) (s1 : Sg) (N1 : Int) (o5 o6 : Option DV), IV M1 s1 N1 len sc → N1 ≤ N + 120 → mnx M1 ≤ mnx M + 1400 → mns M1 ≤ mns M + 6000 → WP G d mL_law 2737 [some (dR (-5)), some (dR 0), some (dR 744), some (dR 760), some (dI i), o5, o6] [] M1 Q) : WP G d mL_law 2650 [some (dR (-5)), some (dR 0), some (dR 744), some (dR 760), some (dI i), none, none] [] M Q := by
  obtain ⟨v, n, A, hi, vi, tp, sz, fa⟩ := s
  obtain ⟨hC0, hT0, hF, h7, s5, hsc⟩ := id hJ
  have hC : CI M v n A hi vi tp sz fa N := hC0
  have s0 : msh M 0 = some (1, 0) := hC.1.1.1.1
  have hA : okA v := hC.2.1.1
  have hL : lawOK v := hC.2.1.2.1
  have hn : 0 ≤ n ∧ n ≤ 12 := hC.2.2.1.2.1
  refine x_aload_n dL_law_2650 rfl rfl ?_
  refine x_aload_n dL_law_2651 rfl rfl ?_
  refine x_iload dL_law_2652 rfl ?_
  refine x_iconst dL_law_2654 rfl ?_
  first | refine x_iaddN dL_law_2655 (by unfold i32; omega) ?_ | refine x_iadd dL_law_2655 ?_
  refine x_iald dL_law_2656 (by first | assumption | first | assumption | (simp (disch := omega) only [shI, shR, shL, shC, shD, shW, sh_V, shN_e, shN_n, crI, crL, crC, crW, crV, crR_e, crR_n, crN_e, crN_n, ciR, ciL, ciD, ciN_e, ciN_n, rdI_e, rdI_n, rdC_i, rdC_o, rdW, rdU_e, rdU_n, rdLW, clI, clR, clC, clD, clW, clV, clN_e, clN_n, clL_e, clL_n]; done) | (simp (disch := omega) only [shI, shR, shL, shC, shD, shW, sh_V, shN_e, shN_n, crI, crL, crC, crW, crV, crR_e, crR_n, crN_e, crN_n, ciR, ciL, ciD, ciN_e, ciN_n, rdI_e, rdI_n, rdC_i, rdC_o, rdW, rdU_e, rdU_n, rdLW, clI, clR, clC, clD, clW, clV, clN_e, clN_n, clL_e, clL_n] <;> first | assumption | rfl | omega)) (by omega) (by omega) ?_
  rw [hsc]
  refine g_callI (vs := [_, _]) (d' := d - 1) rfl (uc_seed (by omega) h7 hC) dL_law_2657 kX0_297 (by omega) (by decide) rfl (Nat.le_of_ble_eq_true rfl) (rcv_o (by first | assumption | first | assumption | (simp (disch := omega) only [shI, shR, shL, shC, shD, shW, sh_V, shN_e, shN_n, crI, crL, crC, crW, crV, crR_e, crR_n, crN_e, crN_n, ciR, ciL, ciD, ciN_e, ciN_n, rdI_e, rdI_n, rdC_i, rdC_o, rdW, rdU_e, rdU_n, rdLW, clI, clR, clC, clD, clW, clV, clN_e, clN_n, clL_e, clL_n]; done) | (simp (disch := omega) only [shI, shR, shL, shC, shD, shW, sh_V, shN_e, shN_n, crI, crL, crC, crW, crV, crR_e, crR_n, crN_e, crN_n, ciR, ciL, ciD, ciN_e, ciN_n, rdI_e, rdI_n, rdC_i, rdC_o, rdW, rdU_e, rdU_n, rdLW, clI, clR, clC, clD, clW, clV, clN_e, clN_n, clL_e, clL_n] <;> first | assumption | rfl | omega)) rfl) (fun x2657 M2657 h2657 => ?_)
  obtain ⟨s2657, N2657, hR2657, hN2657, hch2657⟩ := h2657
  obtain ⟨hT2657, ⟨me2657, mw2657⟩, sf2657, hs2657, hok2657, hX2657⟩ := hJ.mid hch2657
  have hI2657 : TI M2657 744 v n A hi vi tp sz fa := hT2657
  refine x_aload_n dL_law_2660 rfl rfl ?_
  refine x_aload_n dL_law_2661 rfl rfl ?_
  refine x_iload dL_law_2662 rfl ?_
  refine x_iconst dL_law_2664 rfl ?_
  first | refine x_iaddN dL_law_2665 (by unfold i32; omega) ?_ | refine x_iadd dL_law_2665 ?_
  refine x_iald dL_law_2666 (by first | assumption | first | assumption | (simp (disch := omega) only [shI, shR, shL, shC, shD, shW, sh_V, shN_e, shN_n, crI, crL, crC, crW, crV, crR_e, crR_n, crN_e, crN_n, ciR, ciL, ciD, ciN_e, ciN_n, rdI_e, rdI_n, rdC_i, rdC_o, rdW, rdU_e, rdU_n, rdLW, clI, clR, clC, clD, clW, clV, clN_e, clN_n, clL_e, clL_n]; done) | (simp (disch := omega) only [shI, shR, shL, shC, shD, shW, sh_V, shN_e, shN_n, crI, crL, crC, crW, crV, crR_e, crR_n, crN_e, crN_n, ciR, ciL, ciD, ciN_e, ciN_n, rdI_e, rdI_n, rdC_i, rdC_o, rdW, rdU_e, rdU_n, rdLW, clI, clR, clC, clD, clW, clV, clN_e, clN_n, clL_e, clL_n] <;> first | assumption | rfl | omega)) (by omega) (by omega) ?_
  rw [hs2657]
  refine g_callI (vs := [_, _]) (d' := d - 1) rfl (rc_seed (by omega) hI2657 hok2657 hR2657) dL_law_2667 kX0_300 (by omega) (by decide) rfl (Nat.le_of_ble_eq_true rfl) (rcv_o (by first | assumption | first | assumption | (simp (disch := omega) only [shI, shR, shL, shC, shD, shW, sh_V, shN_e, shN_n, crI, crL, crC, crW, crV, crR_e, crR_n, crN_e, crN_n, ciR, ciL, ciD, ciN_e, ciN_n, rdI_e, rdI_n, rdC_i, rdC_o, rdW, rdU_e, rdU_n, rdLW, clI, clR, clC, clD, clW, clV, clN_e, clN_n, clL_e, clL_n]; done) | (simp (disch := omega) only [shI, shR, shL, shC, shD, shW, sh_V, shN_e, shN_n, crI, crL, crC, crW, crV, crR_e, crR_n, crN_e, crN_n, ciR, ciL, ciD, ciN_e, ciN_n, rdI_e, rdI_n, rdC_i, rdC_o, rdW, rdU_e, rdU_n, rdLW, clI, clR, clC, clD, clW, clV, clN_e, clN_n, clL_e, clL_n] <;> first | assumption | rfl | omega)) rfl) (fun x2667 M2667 h2667 => ?_)
  obtain ⟨e2667, ht2667, hr2667⟩ := h2667
  obtain ⟨hJ2667, la2667, lb2667, tv2667, tm2667, tw2667, te2667⟩ := hJ.st (v' := s2657.1) hch2657 hr2667 (fun _ _ _ => rfl) ht2667 (xc_seed hF hR2657)
  refine x_icmp_eq (tgt := 2737) dL_law_2670 (by decide) (fun b2670 => ?_) (fun b2670 => ?_)
  · exact hk _ _ _ _ _ hJ2667 hN2657 la2667 lb2667
  · exact absurd e2667.symm b2670
theorem cs_48 (hd : 100 ≤ d) (hJ : IV M s N len sc) (hN : N ≤ 900000000) (hi0 : 0 ≤ i ∧ i + 6 ≤ len) (hln : len ≤ 384) (hk : ∀ (M1 : Mem) (s1 : Sg) (N1 : Int) (o5 o6 : Option DV), IV M1 s1 N1 len sc → N1 ≤ N + 120 → mnx M1 ≤ mnx M + 1400 → mns M1 ≤ mns M + 6000 → WP G d mL_law 2737 [some (dR (-5)), some (dR 0), some (dR 744), some (dR 760), some (dI i), o5, o6] [] M1 Q) : WP G d mL_law 2675 [some (dR (-5)), some (dR 0), some (dR 744), some (dR 760), some (dI i), none, none] [] M Q := by
  obtain ⟨v, n, A, hi, vi, tp, sz, fa⟩ := s
  obtain ⟨hC0, hT0, hF, h7, s5, hsc⟩ := id hJ
  have hC : CI M v n A hi vi tp sz fa N := hC0
  have s0 : msh M 0 = some (1, 0) := hC.1.1.1.1
  have hA : okA v := hC.2.1.1
  have hL : lawOK v := hC.2.1.2.1
  have hn : 0 ≤ n ∧ n ≤ 12 := hC.2.2.1.2.1
  refine x_aload_n dL_law_2675 rfl rfl ?_
  refine g_callI (vs := [_]) (d' := d - 1) rfl (uc_undo (by omega) h7 hC) dL_law_2676 kX0_301 (by omega) (by decide) rfl (Nat.le_of_ble_eq_true rfl) (rcv_o (by first | assumption | first | assumption | (simp (disch := omega) only [shI, shR, shL, shC, shD, shW, sh_V, shN_e, shN_n, crI, crL, crC, crW, crV, crR_e, crR_n, crN_e, crN_n, ciR, ciL, ciD, ciN_e, ciN_n, rdI_e, rdI_n, rdC_i, rdC_o, rdW, rdU_e, rdU_n, rdLW, clI, clR, clC, clD, clW, clV, clN_e, clN_n, clL_e, clL_n]; done) | (simp (disch := omega) only [shI, shR, shL, shC, shD, shW, sh_V, shN_e, shN_n, crI, crL, crC, crW, crV, crR_e, crR_n, crN_e, crN_n, ciR, ciL, ciD, ciN_e, ciN_n, rdI_e, rdI_n, rdC_i, rdC_o, rdW, rdU_e, rdU_n, rdLW, clI, clR, clC, clD, clW, clV, clN_e, clN_n, clL_e, clL_n] <;> first | assumption | rfl | omega)) rfl) (fun x2676 M2676 h2676 => ?_)
  obtain ⟨s2676, N2676, hR2676, hN2676, hch2676⟩ := h2676
  obtain ⟨hT2676, ⟨me2676, mw2676⟩, sf2676, hs2676, hok2676, hX2676⟩ := hJ.mid hch2676
  have hI2676 : TI M2676 744 v n A hi vi tp sz fa := hT2676
  refine x_aload_n dL_law_2679 rfl rfl ?_
  refine g_callI (vs := [_]) (d' := d - 1) rfl (rc_undo (by omega) hI2676 hok2676 hR2676) dL_law_2680 kX0_304 (by omega) (by decide) rfl (Nat.le_of_ble_eq_true rfl) (rcv_o (by first | assumption | first | assumption | (simp (disch := omega) only [shI, shR, shL, shC, shD, shW, sh_V, shN_e, shN_n, crI, crL, crC, crW, crV, crR_e, crR_n, crN_e, crN_n, ciR, ciL, ciD, ciN_e, ciN_n, rdI_e, rdI_n, rdC_i, rdC_o, rdW, rdU_e, rdU_n, rdLW, clI, clR, clC, clD, clW, clV, clN_e, clN_n, clL_e, clL_n]; done) | (simp (disch := omega) only [shI, shR, shL, shC, shD, shW, sh_V, shN_e, shN_n, crI, crL, crC, crW, crV, crR_e, crR_n, crN_e, crN_n, ciR, ciL, ciD, ciN_e, ciN_n, rdI_e, rdI_n, rdC_i, rdC_o, rdW, rdU_e, rdU_n, rdLW, clI, clR, clC, clD, clW, clV, clN_e, clN_n, clL_e, clL_n] <;> first | assumption | rfl | omega)) rfl) (fun x2680 M2680 h2680 => ?_)
  obtain ⟨e2680, ht2680, hr2680⟩ := h2680
  obtain ⟨hJ2680, la2680, lb2680, tv2680, tm2680, tw2680, te2680⟩ := hJ.st (v' := s2676.1) hch2676 hr2680 (fun _ _ _ => rfl) ht2680 (xc_undo hF hn hR2676)
  refine x_icmp_eq (tgt := 2737) dL_law_2683 (by decide) (fun b2683 => ?_) (fun b2683 => ?_)
  · exact hk _ _ _ _ _ hJ2680 hN2676 la2680 lb2680
  · exact absurd e2680.symm b2683
theorem cs_49 (hd : 100 ≤ d) (hJ : IV M s N len sc) (hN : N ≤ 900000000) (hi0 : 0 ≤ i ∧ i + 6 ≤ len) (hln : len ≤ 384) (hk : ∀ (M1 : Mem) (s1 : Sg) (N1 : Int) (o5 o6 : Option DV), IV M1 s1 N1 len sc → N1 ≤ N + 120 → mnx M1 ≤ mnx M + 1400 → mns M1 ≤ mns M + 6000 → WP G d mL_law 2737 [some (dR (-5)), some (dR 0), some (dR 744), some (dR 760), some (dI i), o5, o6] [] M1 Q) : WP G d mL_law 2688 [some (dR (-5)), some (dR 0), some (dR 744), some (dR 760), some (dI i), none, none] [] M Q := by
  obtain ⟨v, n, A, hi, vi, tp, sz, fa⟩ := s
  obtain ⟨hC0, hT0, hF, h7, s5, hsc⟩ := id hJ
  have hC : CI M v n A hi vi tp sz fa N := hC0
  have s0 : msh M 0 = some (1, 0) := hC.1.1.1.1
  have hA : okA v := hC.2.1.1
  have hL : lawOK v := hC.2.1.2.1
  have hn : 0 ≤ n ∧ n ≤ 12 := hC.2.2.1.2.1
  refine x_aload_n dL_law_2688 rfl rfl ?_
  refine g_callN (vs := [_]) (d' := d - 1) rfl (uc_image (by omega) h7 hC) dL_law_2689 kX0_305 (by omega) (by decide) rfl (Nat.le_of_ble_eq_true rfl) (rcv_o (by first | assumption | first | assumption | (simp (disch := omega) only [shI, shR, shL, shC, shD, shW, sh_V, shN_e, shN_n, crI, crL, crC, crW, crV, crR_e, crR_n, crN_e, crN_n, ciR, ciL, ciD, ciN_e, ciN_n, rdI_e, rdI_n, rdC_i, rdC_o, rdW, rdU_e, rdU_n, rdLW, clI, clR, clC, clD, clW, clV, clN_e, clN_n, clL_e, clL_n]; done) | (simp (disch := omega) only [shI, shR, shL, shC, shD, shW, sh_V, shN_e, shN_n, crI, crL, crC, crW, crV, crR_e, crR_n, crN_e, crN_n, ciR, ciL, ciD, ciN_e, ciN_n, rdI_e, rdI_n, rdC_i, rdC_o, rdW, rdU_e, rdU_n, rdLW, clI, clR, clC, clD, clW, clV, clN_e, clN_n, clL_e, clL_n] <;> first | assumption | rfl | omega)) rfl) (fun M2689 h2689 => ?_)
  obtain ⟨s2689, N2689, hR2689, hN2689, hch2689⟩ := h2689
  obtain ⟨hT2689, ⟨me2689, mw2689⟩, sf2689, hs2689, hok2689, hX2689⟩ := hJ.mid hch2689
  have hI2689 : TI M2689 744 v n A hi vi tp sz fa := hT2689
  refine x_aload_n dL_law_2692 rfl rfl ?_
  refine g_callN (vs := [_]) (d' := d - 1) rfl (rc_image (by omega) hI2689 hR2689) dL_law_2693 kX0_308 (by omega) (by decide) rfl (Nat.le_of_ble_eq_true rfl) (rcv_o (by first | assumption | first | assumption | (simp (disch := omega) only [shI, shR, shL, shC, shD, shW, sh_V, shN_e, shN_n, crI, crL, crC, crW, crV, crR_e, crR_n, crN_e, crN_n, ciR, ciL, ciD, ciN_e, ciN_n, rdI_e, rdI_n, rdC_i, rdC_o, rdW, rdU_e, rdU_n, rdLW, clI, clR, clC, clD, clW, clV, clN_e, clN_n, clL_e, clL_n]; done) | (simp (disch := omega) only [shI, shR, shL, shC, shD, shW, sh_V, shN_e, shN_n, crI, crL, crC, crW, crV, crR_e, crR_n, crN_e, crN_n, ciR, ciL, ciD, ciN_e, ciN_n, rdI_e, rdI_n, rdC_i, rdC_o, rdW, rdU_e, rdU_n, rdLW, clI, clR, clC, clD, clW, clV, clN_e, clN_n, clL_e, clL_n] <;> first | assumption | rfl | omega)) rfl) (fun M2693 h2693 => ?_)
  obtain ⟨ht2693, hr2693⟩ := h2693
  obtain ⟨hJ2693, la2693, lb2693, tv2693, tm2693, tw2693, te2693⟩ := hJ.st (v' := s2689.1) hch2689 hr2693 (fun _ _ _ => rfl) ht2693 (xc_image hF hR2689)
  refine x_goto (tgt := 2737) dL_law_2696 (by decide) ?_
  exact hk _ _ _ _ _ hJ2693 hN2689 la2693 lb2693
theorem cs_50 (hd : 100 ≤ d) (hJ : IV M s N len sc) (hN : N ≤ 900000000) (hi0 : 0 ≤ i ∧ i + 6 ≤ len) (hln : len ≤ 384) (hk : ∀ (M1 : Mem) (s1 : Sg) (N1 : Int) (o5 o6 : Option DV), IV M1 s1 N1 len sc → N1 ≤ N + 120 → mnx M1 ≤ mnx M + 1400 → mns M1 ≤ mns M + 6000 → WP G d mL_law 2737 [some (dR (-5)), some (dR 0), some (dR 744), some (dR 760), some (dI i), o5, o6] [] M1 Q) : WP G d mL_law 2699 [some (dR (-5)), some (dR 0), some (dR 744), some (dR 760), some (dI i), none, none] [] M Q := by
  obtain ⟨v, n, A, hi, vi, tp, sz, fa⟩ := s
  obtain ⟨hC0, hT0, hF, h7, s5, hsc⟩ := id hJ
  have hC : CI M v n A hi vi tp sz fa N := hC0
  have s0 : msh M 0 = some (1, 0) := hC.1.1.1.1
  have hA : okA v := hC.2.1.1
  have hL : lawOK v := hC.2.1.2.1
  have hn : 0 ≤ n ∧ n ≤ 12 := hC.2.2.1.2.1
  refine x_aload_n dL_law_2699 rfl rfl ?_
  refine g_callI (vs := [_]) (d' := d - 1) rfl (uc_back (by omega) h7 hC) dL_law_2700 kX0_309 (by omega) (by decide) rfl (Nat.le_of_ble_eq_true rfl) (rcv_o (by first | assumption | first | assumption | (simp (disch := omega) only [shI, shR, shL, shC, shD, shW, sh_V, shN_e, shN_n, crI, crL, crC, crW, crV, crR_e, crR_n, crN_e, crN_n, ciR, ciL, ciD, ciN_e, ciN_n, rdI_e, rdI_n, rdC_i, rdC_o, rdW, rdU_e, rdU_n, rdLW, clI, clR, clC, clD, clW, clV, clN_e, clN_n, clL_e, clL_n]; done) | (simp (disch := omega) only [shI, shR, shL, shC, shD, shW, sh_V, shN_e, shN_n, crI, crL, crC, crW, crV, crR_e, crR_n, crN_e, crN_n, ciR, ciL, ciD, ciN_e, ciN_n, rdI_e, rdI_n, rdC_i, rdC_o, rdW, rdU_e, rdU_n, rdLW, clI, clR, clC, clD, clW, clV, clN_e, clN_n, clL_e, clL_n] <;> first | assumption | rfl | omega)) rfl) (fun x2700 M2700 h2700 => ?_)
  obtain ⟨s2700, N2700, hR2700, hN2700, hch2700⟩ := h2700
  obtain ⟨hT2700, ⟨me2700, mw2700⟩, sf2700, hs2700, hok2700, hX2700⟩ := hJ.mid hch2700
  have hI2700 : TI M2700 744 v n A hi vi tp sz fa := hT2700
  refine x_aload_n dL_law_2703 rfl rfl ?_
  refine g_callI (vs := [_]) (d' := d - 1) rfl (rc_back (by omega) hI2700 hok2700 hR2700) dL_law_2704 kX0_312 (by omega) (by decide) rfl (Nat.le_of_ble_eq_true rfl) (rcv_o (by first | assumption | first | assumption | (simp (disch := omega) only [shI, shR, shL, shC, shD, shW, sh_V, shN_e, shN_n, crI, crL, crC, crW, crV, crR_e, crR_n, crN_e, crN_n, ciR, ciL, ciD, ciN_e, ciN_n, rdI_e, rdI_n, rdC_i, rdC_o, rdW, rdU_e, rdU_n, rdLW, clI, clR, clC, clD, clW, clV, clN_e, clN_n, clL_e, clL_n]; done) | (simp (disch := omega) only [shI, shR, shL, shC, shD, shW, sh_V, shN_e, shN_n, crI, crL, crC, crW, crV, crR_e, crR_n, crN_e, crN_n, ciR, ciL, ciD, ciN_e, ciN_n, rdI_e, rdI_n, rdC_i, rdC_o, rdW, rdU_e, rdU_n, rdLW, clI, clR, clC, clD, clW, clV, clN_e, clN_n, clL_e, clL_n] <;> first | assumption | rfl | omega)) rfl) (fun x2704 M2704 h2704 => ?_)
  obtain ⟨e2704, ht2704, hr2704⟩ := h2704
  obtain ⟨hJ2704, la2704, lb2704, tv2704, tm2704, tw2704, te2704⟩ := hJ.st (v' := s2700.1) hch2700 hr2704 (fun _ _ _ => rfl) ht2704 (xc_back hF hR2700)
  refine x_icmp_eq (tgt := 2737) dL_law_2707 (by decide) (fun b2707 => ?_) (fun b2707 => ?_)
  · exact hk _ _ _ _ _ hJ2704 hN2700 la2704 lb2704
  · exact absurd e2704.symm b2707
theorem cs_51 (hd : 100 ≤ d) (hJ : IV M s N len sc) (hN : N ≤ 900000000) (hi0 : 0 ≤ i ∧ i + 6 ≤ len) (hln : len ≤ 384) (hk : ∀ (M1 : Mem) (s1 : Sg) (N1 : Int) (o5 o6 : Option DV), IV M1 s1 N1 len sc → N1 ≤ N + 120 → mnx M1 ≤ mnx M + 1400 → mns M1 ≤ mns M + 6000 → WP G d mL_law 2737 [some (dR (-5)), some (dR 0), some (dR 744), some (dR 760), some (dI i), o5, o6] [] M1 Q) : WP G d mL_law 2712 [some (dR (-5)), some (dR 0), some (dR 744), some (dR 760), some (dI i), none, none] [] M Q := by
  obtain ⟨v, n, A, hi, vi, tp, sz, fa⟩ := s
  obtain ⟨hC0, hT0, hF, h7, s5, hsc⟩ := id hJ
  have hC : CI M v n A hi vi tp sz fa N := hC0
  have s0 : msh M 0 = some (1, 0) := hC.1.1.1.1
  have hA : okA v := hC.2.1.1
  have hL : lawOK v := hC.2.1.2.1
  have hn : 0 ≤ n ∧ n ≤ 12 := hC.2.2.1.2.1
  refine x_aload_n dL_law_2712 rfl rfl ?_
  refine x_aload_n dL_law_2713 rfl rfl ?_
  refine x_iload dL_law_2714 rfl ?_
  refine x_iconst dL_law_2716 rfl ?_
  first | refine x_iaddN dL_law_2717 (by unfold i32; omega) ?_ | refine x_iadd dL_law_2717 ?_
  refine x_iald dL_law_2718 (by first | assumption | first | assumption | (simp (disch := omega) only [shI, shR, shL, shC, shD, shW, sh_V, shN_e, shN_n, crI, crL, crC, crW, crV, crR_e, crR_n, crN_e, crN_n, ciR, ciL, ciD, ciN_e, ciN_n, rdI_e, rdI_n, rdC_i, rdC_o, rdW, rdU_e, rdU_n, rdLW, clI, clR, clC, clD, clW, clV, clN_e, clN_n, clL_e, clL_n]; done) | (simp (disch := omega) only [shI, shR, shL, shC, shD, shW, sh_V, shN_e, shN_n, crI, crL, crC, crW, crV, crR_e, crR_n, crN_e, crN_n, ciR, ciL, ciD, ciN_e, ciN_n, rdI_e, rdI_n, rdC_i, rdC_o, rdW, rdU_e, rdU_n, rdLW, clI, clR, clC, clD, clW, clV, clN_e, clN_n, clL_e, clL_n] <;> first | assumption | rfl | omega)) (by omega) (by omega) ?_
  rw [hsc]
  refine g_callI (vs := [_, _]) (d' := d - 1) rfl (uc_count (by omega) h7 hC) dL_law_2719 kX0_313 (by omega) (by decide) rfl (Nat.le_of_ble_eq_true rfl) (rcv_o (by first | assumption | first | assumption | (simp (disch := omega) only [shI, shR, shL, shC, shD, shW, sh_V, shN_e, shN_n, crI, crL, crC, crW, crV, crR_e, crR_n, crN_e, crN_n, ciR, ciL, ciD, ciN_e, ciN_n, rdI_e, rdI_n, rdC_i, rdC_o, rdW, rdU_e, rdU_n, rdLW, clI, clR, clC, clD, clW, clV, clN_e, clN_n, clL_e, clL_n]; done) | (simp (disch := omega) only [shI, shR, shL, shC, shD, shW, sh_V, shN_e, shN_n, crI, crL, crC, crW, crV, crR_e, crR_n, crN_e, crN_n, ciR, ciL, ciD, ciN_e, ciN_n, rdI_e, rdI_n, rdC_i, rdC_o, rdW, rdU_e, rdU_n, rdLW, clI, clR, clC, clD, clW, clV, clN_e, clN_n, clL_e, clL_n] <;> first | assumption | rfl | omega)) rfl) (fun x2719 M2719 h2719 => ?_)
  obtain ⟨s2719, N2719, hR2719, hN2719, hch2719⟩ := h2719
  obtain ⟨hT2719, ⟨me2719, mw2719⟩, sf2719, hs2719, hok2719, hX2719⟩ := hJ.mid hch2719
  have hI2719 : TI M2719 744 v n A hi vi tp sz fa := hT2719
  refine x_aload_n dL_law_2722 rfl rfl ?_
  refine x_aload_n dL_law_2723 rfl rfl ?_
  refine x_iload dL_law_2724 rfl ?_
  refine x_iconst dL_law_2726 rfl ?_
  first | refine x_iaddN dL_law_2727 (by unfold i32; omega) ?_ | refine x_iadd dL_law_2727 ?_
  refine x_iald dL_law_2728 (by first | assumption | first | assumption | (simp (disch := omega) only [shI, shR, shL, shC, shD, shW, sh_V, shN_e, shN_n, crI, crL, crC, crW, crV, crR_e, crR_n, crN_e, crN_n, ciR, ciL, ciD, ciN_e, ciN_n, rdI_e, rdI_n, rdC_i, rdC_o, rdW, rdU_e, rdU_n, rdLW, clI, clR, clC, clD, clW, clV, clN_e, clN_n, clL_e, clL_n]; done) | (simp (disch := omega) only [shI, shR, shL, shC, shD, shW, sh_V, shN_e, shN_n, crI, crL, crC, crW, crV, crR_e, crR_n, crN_e, crN_n, ciR, ciL, ciD, ciN_e, ciN_n, rdI_e, rdI_n, rdC_i, rdC_o, rdW, rdU_e, rdU_n, rdLW, clI, clR, clC, clD, clW, clV, clN_e, clN_n, clL_e, clL_n] <;> first | assumption | rfl | omega)) (by omega) (by omega) ?_
  rw [hs2719]
  refine g_callI (vs := [_, _]) (d' := d - 1) rfl (rc_count (by omega) hI2719 hR2719) dL_law_2729 kX0_316 (by omega) (by decide) rfl (Nat.le_of_ble_eq_true rfl) (rcv_o (by first | assumption | first | assumption | (simp (disch := omega) only [shI, shR, shL, shC, shD, shW, sh_V, shN_e, shN_n, crI, crL, crC, crW, crV, crR_e, crR_n, crN_e, crN_n, ciR, ciL, ciD, ciN_e, ciN_n, rdI_e, rdI_n, rdC_i, rdC_o, rdW, rdU_e, rdU_n, rdLW, clI, clR, clC, clD, clW, clV, clN_e, clN_n, clL_e, clL_n]; done) | (simp (disch := omega) only [shI, shR, shL, shC, shD, shW, sh_V, shN_e, shN_n, crI, crL, crC, crW, crV, crR_e, crR_n, crN_e, crN_n, ciR, ciL, ciD, ciN_e, ciN_n, rdI_e, rdI_n, rdC_i, rdC_o, rdW, rdU_e, rdU_n, rdLW, clI, clR, clC, clD, clW, clV, clN_e, clN_n, clL_e, clL_n] <;> first | assumption | rfl | omega)) rfl) (fun x2729 M2729 h2729 => ?_)
  obtain ⟨e2729, ht2729, hr2729⟩ := h2729
  obtain ⟨hJ2729, la2729, lb2729, tv2729, tm2729, tw2729, te2729⟩ := hJ.st (v' := s2719.1) hch2719 hr2729 (fun _ _ _ => rfl) ht2729 (xc_count hF hA hL hn hR2719)
  refine x_icmp_eq (tgt := 2737) dL_law_2732 (by decide) (fun b2732 => ?_) (fun b2732 => ?_)
  · exact hk _ _ _ _ _ hJ2729 hN2719 la2729 lb2729
  · exact absurd e2729.symm b2732
end LW

