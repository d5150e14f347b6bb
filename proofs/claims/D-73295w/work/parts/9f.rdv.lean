/-! GuestViewModel: lines of a law -/
section X8
variable {G : GW} {d : Nat} {M : Mem} {m p b dp c e lo hi k n o a x : Int} {w v u : Vw} {tp : Int → Int}
theorem s_X8_readLawLine (hd : 46 ≤ d) (hR : RdH M m tp e) (hp : 0 ≤ b ∧ b ≤ p ∧ p ≤ e) (hc : 0 ≤ c ∧ c ≤ p) (hn : 0 ≤ n ∧ n < 12) : CS G d mX8_readLawLine [dR m, dI n] (mQr M m p b dp c (drf v u)) (postI fun x M1 => LOut M m 0 v (rLaw tp e n b p c u) x M1) := by
  obtain ⟨hT, he, htp, he2, hX⟩ := id hR
  have hlen : (0 : Int) < ((txB 30).length : Int) := by decide
  have hT_ := hT; obtain ⟨p0, p1, ⟨c1, c2, c3, c4, c5, c6, c7, c8, c9, c10, c11, c12, c13, c14, c15⟩, ⟨t1, t2, t3, t4, t5, t6, t7, t8, t9, t10, t11, t12, t13, t14, t15⟩⟩ := hT_
  refine CS.mkQ (by decide) (Nat.le_of_ble_eq_true rfl) fun Q hQ => ?_
  have hC : ∀ (p b c : Int) (u : Vw), (0 ≤ p ∧ p ≤ e) ∧ 0 ≤ c ∧ c < p → CS G (d - 1) mX8_readCond [dR m] (mQr M m p b 0 c (drf v u)) (postI fun x M1 => LOut M m 0 v (rCnd tp e (rAtm tp e 6) (p, c, u)) x M1) := fun p b c u q =>
    s_X8_readCond (f := rAtm tp e 6) (rAtm_g 6) (by omega) hR (fun p b c u q => s_X8_readAllOf (f := rAtm tp e 6) (rAtm_g 6) (by omega) hR (fun p b c u q => s_X8_readAtom hR 6 (d - 1 - 1 - 1) 0 p b c u (by omega) (by omega) q) q) q
  have aft : ∀ K : Int, K = lawK tp b p → WP G d mX8_readLawLine 56 [some (dR m), some (dI n), some (dI (1218 + 4 * n))] [] (mQr M m p b dp c (drf v (us u (369 + 4 * n) K))) Q := by
    intro K hK
    have e0 : drf v (us u (369 + 4 * n) K) (1218 + 4 * n) = K := (drf_r (j := 369 + 4 * n) (by omega) (by omega)).trans (us_e rfl)
    by_cases hk : K < 0
    · have er : rLaw tp e n b p c u = .inl b := if_pos (by rw [← hK]; exact hk)
      refine x_aload_n dX8_readLawLine_56 rfl rfl ?_
      refine g_getR (kI := 1) rfl dX8_readLawLine_57 fX8_13_8 (by first | assumption | exact hT.2.1) (by first | assumption | exact hT.2.1) ?_
      refine x_iload_n dX8_readLawLine_60 rfl rfl ?_
      refine x_iald dX8_readLawLine_61 (by first | assumption | exact hT.2.1) (by omega) (by omega) ?_
      try simp (disch := omega) only [rdI_e, rdI_n, rdC_i, rdC_o, rdW, rdR, rdU_e, rdU_n, rdLW, Int.add_zero, mQ_p, mQ_b, mQ_d, mQ_c, mQ_w, mQ_e, mQ_t, he, htp]
      rw [e0]
      refine x_if_ge (tgt := 67) dX8_readLawLine_62 (by decide) (fun h62 => ?_) (fun h62 => ?_)
      · omega
      · refine x_iconst dX8_readLawLine_65 rfl ?_
        refine x_zreturn (by first | exact Or.inl rfl | exact Or.inr rfl | exact vB_r _ | exact vP_r _ | assumption | omega) rfl dX8_readLawLine_66 ?_
        exact hQ _ _ ⟨_, rfl, LOut.f er⟩
    · have hk' : ¬ lawK tp b p < 0 := by rw [← hK]; exact hk
      have hs := skB_r (tp := tp) hp.2.2
      rcases hnu : numP tp e p 0 40 with _ | ⟨y, z⟩
      · have er : rLaw tp e n b p c u = .inl (skB tp e p) := by
          unfold rLaw
          rw [if_neg hk', hnu]
        have e1 : drf v (us (us u (369 + 4 * n) K) (370 + 4 * n) (-1)) (1218 + 4 * n + 1) = -1 := (drf_r (j := 370 + 4 * n) (by omega) (by omega)).trans (us_e rfl)
        refine x_aload_n dX8_readLawLine_56 rfl rfl ?_
        refine g_getR (kI := 1) rfl dX8_readLawLine_57 fX8_13_8 (by first | assumption | exact hT.2.1) (by first | assumption | exact hT.2.1) ?_
        refine x_iload_n dX8_readLawLine_60 rfl rfl ?_
        refine x_iald dX8_readLawLine_61 (by first | assumption | exact hT.2.1) (by omega) (by omega) ?_
        try simp (disch := omega) only [rdI_e, rdI_n, rdC_i, rdC_o, rdW, rdR, rdU_e, rdU_n, rdLW, Int.add_zero, mQ_p, mQ_b, mQ_d, mQ_c, mQ_w, mQ_e, mQ_t, he, htp]
        rw [e0]
        refine x_if_ge (tgt := 67) dX8_readLawLine_62 (by decide) (fun h62 => ?_) (fun h62 => ?_)
        · refine x_aload_n dX8_readLawLine_67 rfl rfl ?_
          refine g_getR (kI := 1) rfl dX8_readLawLine_68 fX8_13_8 (by first | assumption | exact hT.2.1) (by first | assumption | exact hT.2.1) ?_
          refine x_iload_n dX8_readLawLine_71 rfl rfl ?_
          refine x_iconst dX8_readLawLine_72 rfl ?_
          first | refine x_iaddN dX8_readLawLine_73 (by unfold i32; omega) ?_ | refine x_iadd dX8_readLawLine_73 ?_
          refine x_aload_n dX8_readLawLine_74 rfl rfl ?_
          refine x_iconst dX8_readLawLine_75 rfl ?_
          refine x_bipush dX8_readLawLine_76 rfl ?_
          refine g_callI (vs := [_, _, _]) (d' := d - 1) rfl (s_X8_number (by omega) hR (by omega)) dX8_readLawLine_78 kX8_128 (by omega) (by decide) rfl (Nat.le_of_ble_eq_true rfl) (rcv_o (by first | assumption | exact hT.2.1) rfl) (fun x78 M78 h78 => ?_)
          obtain ⟨q, hM3, -, hn3'⟩ := h78
          have ex3 := hn3' hnu
          subst ex3
          subst hM3
          refine x_iast (by omega) dX8_readLawLine_81 (by first | assumption | exact hT.2.1) (by omega) (by omega) ?_
          try simp only [mQ_wp, mQ_wb, mQ_wd, mQ_wc, mQ_ww]
          rw [drf_us (j := 370 + 4 * n) (by omega) (by omega)]
          refine x_aload_n dX8_readLawLine_82 rfl rfl ?_
          refine g_getR (kI := 1) rfl dX8_readLawLine_83 fX8_13_8 (by first | assumption | exact hT.2.1) (by first | assumption | exact hT.2.1) ?_
          refine x_iload_n dX8_readLawLine_86 rfl rfl ?_
          refine x_iconst dX8_readLawLine_87 rfl ?_
          first | refine x_iaddN dX8_readLawLine_88 (by unfold i32; omega) ?_ | refine x_iadd dX8_readLawLine_88 ?_
          refine x_iald dX8_readLawLine_89 (by first | assumption | exact hT.2.1) (by omega) (by omega) ?_
          try simp (disch := omega) only [rdI_e, rdI_n, rdC_i, rdC_o, rdW, rdR, rdU_e, rdU_n, rdLW, Int.add_zero, mQ_p, mQ_b, mQ_d, mQ_c, mQ_w, mQ_e, mQ_t, he, htp]
          rw [e1]
          refine x_if_ge (tgt := 95) dX8_readLawLine_90 (by decide) (fun h90 => ?_) (fun h90 => ?_)
          · omega
          · refine x_iconst dX8_readLawLine_93 rfl ?_
            refine x_zreturn (by first | exact Or.inl rfl | exact Or.inr rfl | exact vB_r _ | exact vP_r _ | assumption | omega) rfl dX8_readLawLine_94 ?_
            exact hQ _ _ ⟨_, rfl, LOut.f er⟩
        · omega
      · have hnr := numP_r hp.2.2 hnu
        have e1 : drf v (us (us u (369 + 4 * n) K) (370 + 4 * n) z) (1218 + 4 * n + 1) = z := (drf_r (j := 370 + 4 * n) (by omega) (by omega)).trans (us_e rfl)
        have hs3 := skB_r (tp := tp) hnr.2.1
        have hs4 := wdB_r (tp := tp) hs3.2
        by_cases hif : isW tp (skB tp e y) (wdB tp e (skB tp e y)) (txB 30)
        · have hifl := hif.1
          rcases hm : rCnd tp e (rAtm tp e 6) (wdB tp e (skB tp e y), c, us (us (us u (369 + 4 * n) K) (370 + 4 * n) z) (371 + 4 * n) c) with g | ⟨z1, z2, z3⟩
          · have er : rLaw tp e n b p c u = .inl g := by
              unfold rLaw
              rw [if_neg hk', hnu]
              refine (if_pos hif).trans ?_
              rw [← hK]
              rw [hm]
            refine x_aload_n dX8_readLawLine_56 rfl rfl ?_
            refine g_getR (kI := 1) rfl dX8_readLawLine_57 fX8_13_8 (by first | assumption | exact hT.2.1) (by first | assumption | exact hT.2.1) ?_
            refine x_iload_n dX8_readLawLine_60 rfl rfl ?_
            refine x_iald dX8_readLawLine_61 (by first | assumption | exact hT.2.1) (by omega) (by omega) ?_
            try simp (disch := omega) only [rdI_e, rdI_n, rdC_i, rdC_o, rdW, rdR, rdU_e, rdU_n, rdLW, Int.add_zero, mQ_p, mQ_b, mQ_d, mQ_c, mQ_w, mQ_e, mQ_t, he, htp]
            rw [e0]
            refine x_if_ge (tgt := 67) dX8_readLawLine_62 (by decide) (fun h62 => ?_) (fun h62 => ?_)
            · refine x_aload_n dX8_readLawLine_67 rfl rfl ?_
              refine g_getR (kI := 1) rfl dX8_readLawLine_68 fX8_13_8 (by first | assumption | exact hT.2.1) (by first | assumption | exact hT.2.1) ?_
              refine x_iload_n dX8_readLawLine_71 rfl rfl ?_
              refine x_iconst dX8_readLawLine_72 rfl ?_
              first | refine x_iaddN dX8_readLawLine_73 (by unfold i32; omega) ?_ | refine x_iadd dX8_readLawLine_73 ?_
              refine x_aload_n dX8_readLawLine_74 rfl rfl ?_
              refine x_iconst dX8_readLawLine_75 rfl ?_
              refine x_bipush dX8_readLawLine_76 rfl ?_
              refine g_callI (vs := [_, _, _]) (d' := d - 1) rfl (s_X8_number (by omega) hR (by omega)) dX8_readLawLine_78 kX8_128 (by omega) (by decide) rfl (Nat.le_of_ble_eq_true rfl) (rcv_o (by first | assumption | exact hT.2.1) rfl) (fun x78 M78 h78 => ?_)
              obtain ⟨q, hM3, hn3', -⟩ := h78
              obtain ⟨eq3, ex3⟩ := hn3' _ _ hnu
              subst ex3
              subst eq3
              subst hM3
              refine x_iast (by omega) dX8_readLawLine_81 (by first | assumption | exact hT.2.1) (by omega) (by omega) ?_
              try simp only [mQ_wp, mQ_wb, mQ_wd, mQ_wc, mQ_ww]
              rw [drf_us (j := 370 + 4 * n) (by omega) (by omega)]
              refine x_aload_n dX8_readLawLine_82 rfl rfl ?_
              refine g_getR (kI := 1) rfl dX8_readLawLine_83 fX8_13_8 (by first | assumption | exact hT.2.1) (by first | assumption | exact hT.2.1) ?_
              refine x_iload_n dX8_readLawLine_86 rfl rfl ?_
              refine x_iconst dX8_readLawLine_87 rfl ?_
              first | refine x_iaddN dX8_readLawLine_88 (by unfold i32; omega) ?_ | refine x_iadd dX8_readLawLine_88 ?_
              refine x_iald dX8_readLawLine_89 (by first | assumption | exact hT.2.1) (by omega) (by omega) ?_
              try simp (disch := omega) only [rdI_e, rdI_n, rdC_i, rdC_o, rdW, rdR, rdU_e, rdU_n, rdLW, Int.add_zero, mQ_p, mQ_b, mQ_d, mQ_c, mQ_w, mQ_e, mQ_t, he, htp]
              rw [e1]
              refine x_if_ge (tgt := 95) dX8_readLawLine_90 (by decide) (fun h90 => ?_) (fun h90 => ?_)
              · refine x_aload_n dX8_readLawLine_95 rfl rfl ?_
                refine g_getR (kI := 1) rfl dX8_readLawLine_96 fX8_13_8 (by first | assumption | exact hT.2.1) (by first | assumption | exact hT.2.1) ?_
                refine x_iload_n dX8_readLawLine_99 rfl rfl ?_
                refine x_iconst dX8_readLawLine_100 rfl ?_
                first | refine x_iaddN dX8_readLawLine_101 (by unfold i32; omega) ?_ | refine x_iadd dX8_readLawLine_101 ?_
                refine x_aload_n dX8_readLawLine_102 rfl rfl ?_
                refine g_getI (kI := 16) rfl dX8_readLawLine_103 fX8_202_8 (by first | assumption | exact hT.2.1) ?_
                try simp (disch := omega) only [rdI_e, rdI_n, rdC_i, rdC_o, rdW, rdR, rdU_e, rdU_n, rdLW, Int.add_zero, mQ_p, mQ_b, mQ_d, mQ_c, mQ_w, mQ_e, mQ_t, he, htp]
                refine x_iast (by omega) dX8_readLawLine_106 (by first | assumption | exact hT.2.1) (by omega) (by omega) ?_
                try simp only [mQ_wp, mQ_wb, mQ_wd, mQ_wc, mQ_ww]
                rw [drf_us (j := 371 + 4 * n) (by omega) (by omega)]
                refine x_aload_n dX8_readLawLine_107 rfl rfl ?_
                refine x_iconst dX8_readLawLine_108 rfl ?_
                refine g_putI (kI := 13) rfl dX8_readLawLine_109 fX8_234_8 (by first | assumption | exact hT.2.1) ?_
                try simp only [mQ_wp, mQ_wb, mQ_wd, mQ_wc, mQ_ww]
                refine x_aload_n dX8_readLawLine_112 rfl rfl ?_
                refine x_ldcsw dX8_readLawLine_113 (List.mem_of_getElem? (i := 56) rfl) ?_
                refine g_callI (vs := [_, _]) (d' := d - 1) rfl (s_X8_passes (i := 30) (by omega) hR (by omega) (by omega) rfl) dX8_readLawLine_116 kX8_162 (by omega) (by decide) rfl (Nat.le_of_ble_eq_true rfl) (rcv_o (by first | assumption | exact hT.2.1) rfl) (fun x116 M116 h116 => ?_)
                obtain ⟨e2, t2', -⟩ := h116
                have hM := t2' hif
                subst hM
                rw [vP_t hif] at e2
                subst e2
                refine x_if_eq (tgt := 131) dX8_readLawLine_119 (by decide) (fun h119 => ?_) (fun h119 => ?_)
                · try simp only [vP_0, vP_1, vP_n0, vP_n1, Classical.not_not] at h119
                  simp at h119
                · try simp only [vP_0, vP_1, vP_n0, vP_n1, Classical.not_not] at h119
                  refine x_aload_n dX8_readLawLine_122 rfl rfl ?_
                  refine g_callI (vs := [_]) (d' := d - 1) rfl (hC _ _ _ _ (by omega)) dX8_readLawLine_123 kX8_237 (by omega) (by decide) rfl (Nat.le_of_ble_eq_true rfl) (rcv_o (by first | assumption | exact hT.2.1) rfl) (fun x123 M123 h123 => ?_)
                  obtain ⟨eA, p1, d1, c1, u1, hM⟩ := h123.1 g hm
                  subst eA
                  subst hM
                  refine x_if_ne (tgt := 131) dX8_readLawLine_126 (by decide) (fun h126 => ?_) (fun h126 => ?_)
                  · try simp only [vP_0, vP_1, vP_n0, vP_n1, Classical.not_not] at h126
                    simp at h126
                  · try simp only [vP_0, vP_1, vP_n0, vP_n1, Classical.not_not] at h126
                    refine x_iconst dX8_readLawLine_129 rfl ?_
                    refine x_zreturn (by first | exact Or.inl rfl | exact Or.inr rfl | exact vB_r _ | exact vP_r _ | assumption | omega) rfl dX8_readLawLine_130 ?_
                    exact hQ _ _ ⟨_, rfl, LOut.f er⟩
              · omega
            · omega
          · have er : rLaw tp e n b p c u = .inr (z1, z2, us z3 (372 + 4 * n) z2) := by
              unfold rLaw
              rw [if_neg hk', hnu]
              refine (if_pos hif).trans ?_
              rw [← hK]
              rw [hm]
            refine x_aload_n dX8_readLawLine_56 rfl rfl ?_
            refine g_getR (kI := 1) rfl dX8_readLawLine_57 fX8_13_8 (by first | assumption | exact hT.2.1) (by first | assumption | exact hT.2.1) ?_
            refine x_iload_n dX8_readLawLine_60 rfl rfl ?_
            refine x_iald dX8_readLawLine_61 (by first | assumption | exact hT.2.1) (by omega) (by omega) ?_
            try simp (disch := omega) only [rdI_e, rdI_n, rdC_i, rdC_o, rdW, rdR, rdU_e, rdU_n, rdLW, Int.add_zero, mQ_p, mQ_b, mQ_d, mQ_c, mQ_w, mQ_e, mQ_t, he, htp]
            rw [e0]
            refine x_if_ge (tgt := 67) dX8_readLawLine_62 (by decide) (fun h62 => ?_) (fun h62 => ?_)
            · refine x_aload_n dX8_readLawLine_67 rfl rfl ?_
              refine g_getR (kI := 1) rfl dX8_readLawLine_68 fX8_13_8 (by first | assumption | exact hT.2.1) (by first | assumption | exact hT.2.1) ?_
              refine x_iload_n dX8_readLawLine_71 rfl rfl ?_
              refine x_iconst dX8_readLawLine_72 rfl ?_
              first | refine x_iaddN dX8_readLawLine_73 (by unfold i32; omega) ?_ | refine x_iadd dX8_readLawLine_73 ?_
              refine x_aload_n dX8_readLawLine_74 rfl rfl ?_
              refine x_iconst dX8_readLawLine_75 rfl ?_
              refine x_bipush dX8_readLawLine_76 rfl ?_
              refine g_callI (vs := [_, _, _]) (d' := d - 1) rfl (s_X8_number (by omega) hR (by omega)) dX8_readLawLine_78 kX8_128 (by omega) (by decide) rfl (Nat.le_of_ble_eq_true rfl) (rcv_o (by first | assumption | exact hT.2.1) rfl) (fun x78 M78 h78 => ?_)
              obtain ⟨q, hM3, hn3', -⟩ := h78
              obtain ⟨eq3, ex3⟩ := hn3' _ _ hnu
              subst ex3
              subst eq3
              subst hM3
              refine x_iast (by omega) dX8_readLawLine_81 (by first | assumption | exact hT.2.1) (by omega) (by omega) ?_
              try simp only [mQ_wp, mQ_wb, mQ_wd, mQ_wc, mQ_ww]
              rw [drf_us (j := 370 + 4 * n) (by omega) (by omega)]
              refine x_aload_n dX8_readLawLine_82 rfl rfl ?_
              refine g_getR (kI := 1) rfl dX8_readLawLine_83 fX8_13_8 (by first | assumption | exact hT.2.1) (by first | assumption | exact hT.2.1) ?_
              refine x_iload_n dX8_readLawLine_86 rfl rfl ?_
              refine x_iconst dX8_readLawLine_87 rfl ?_
              first | refine x_iaddN dX8_readLawLine_88 (by unfold i32; omega) ?_ | refine x_iadd dX8_readLawLine_88 ?_
              refine x_iald dX8_readLawLine_89 (by first | assumption | exact hT.2.1) (by omega) (by omega) ?_
              try simp (disch := omega) only [rdI_e, rdI_n, rdC_i, rdC_o, rdW, rdR, rdU_e, rdU_n, rdLW, Int.add_zero, mQ_p, mQ_b, mQ_d, mQ_c, mQ_w, mQ_e, mQ_t, he, htp]
              rw [e1]
              refine x_if_ge (tgt := 95) dX8_readLawLine_90 (by decide) (fun h90 => ?_) (fun h90 => ?_)
              · refine x_aload_n dX8_readLawLine_95 rfl rfl ?_
                refine g_getR (kI := 1) rfl dX8_readLawLine_96 fX8_13_8 (by first | assumption | exact hT.2.1) (by first | assumption | exact hT.2.1) ?_
                refine x_iload_n dX8_readLawLine_99 rfl rfl ?_
                refine x_iconst dX8_readLawLine_100 rfl ?_
                first | refine x_iaddN dX8_readLawLine_101 (by unfold i32; omega) ?_ | refine x_iadd dX8_readLawLine_101 ?_
                refine x_aload_n dX8_readLawLine_102 rfl rfl ?_
                refine g_getI (kI := 16) rfl dX8_readLawLine_103 fX8_202_8 (by first | assumption | exact hT.2.1) ?_
                try simp (disch := omega) only [rdI_e, rdI_n, rdC_i, rdC_o, rdW, rdR, rdU_e, rdU_n, rdLW, Int.add_zero, mQ_p, mQ_b, mQ_d, mQ_c, mQ_w, mQ_e, mQ_t, he, htp]
                refine x_iast (by omega) dX8_readLawLine_106 (by first | assumption | exact hT.2.1) (by omega) (by omega) ?_
                try simp only [mQ_wp, mQ_wb, mQ_wd, mQ_wc, mQ_ww]
                rw [drf_us (j := 371 + 4 * n) (by omega) (by omega)]
                refine x_aload_n dX8_readLawLine_107 rfl rfl ?_
                refine x_iconst dX8_readLawLine_108 rfl ?_
                refine g_putI (kI := 13) rfl dX8_readLawLine_109 fX8_234_8 (by first | assumption | exact hT.2.1) ?_
                try simp only [mQ_wp, mQ_wb, mQ_wd, mQ_wc, mQ_ww]
                refine x_aload_n dX8_readLawLine_112 rfl rfl ?_
                refine x_ldcsw dX8_readLawLine_113 (List.mem_of_getElem? (i := 56) rfl) ?_
                refine g_callI (vs := [_, _]) (d' := d - 1) rfl (s_X8_passes (i := 30) (by omega) hR (by omega) (by omega) rfl) dX8_readLawLine_116 kX8_162 (by omega) (by decide) rfl (Nat.le_of_ble_eq_true rfl) (rcv_o (by first | assumption | exact hT.2.1) rfl) (fun x116 M116 h116 => ?_)
                obtain ⟨e2, t2', -⟩ := h116
                have hM := t2' hif
                subst hM
                rw [vP_t hif] at e2
                subst e2
                refine x_if_eq (tgt := 131) dX8_readLawLine_119 (by decide) (fun h119 => ?_) (fun h119 => ?_)
                · try simp only [vP_0, vP_1, vP_n0, vP_n1, Classical.not_not] at h119
                  simp at h119
                · try simp only [vP_0, vP_1, vP_n0, vP_n1, Classical.not_not] at h119
                  refine x_aload_n dX8_readLawLine_122 rfl rfl ?_
                  refine g_callI (vs := [_]) (d' := d - 1) rfl (hC _ _ _ _ (by omega)) dX8_readLawLine_123 kX8_237 (by omega) (by decide) rfl (Nat.le_of_ble_eq_true rfl) (rcv_o (by first | assumption | exact hT.2.1) rfl) (fun x123 M123 h123 => ?_)
                  obtain ⟨eA, b1, hM⟩ := h123.2 _ hm
                  subst eA
                  have hM2 : M123 = mQr M m z1 b1 0 z2 (drf v z3) := hM
                  subst hM2
                  refine x_if_ne (tgt := 131) dX8_readLawLine_126 (by decide) (fun h126 => ?_) (fun h126 => ?_)
                  · try simp only [vP_0, vP_1, vP_n0, vP_n1, Classical.not_not] at h126
                    refine x_aload_n dX8_readLawLine_131 rfl rfl ?_
                    refine g_getR (kI := 1) rfl dX8_readLawLine_132 fX8_13_8 (by first | assumption | exact hT.2.1) (by first | assumption | exact hT.2.1) ?_
                    refine x_iload_n dX8_readLawLine_135 rfl rfl ?_
                    refine x_iconst dX8_readLawLine_136 rfl ?_
                    first | refine x_iaddN dX8_readLawLine_137 (by unfold i32; omega) ?_ | refine x_iadd dX8_readLawLine_137 ?_
                    refine x_aload_n dX8_readLawLine_138 rfl rfl ?_
                    refine g_getI (kI := 16) rfl dX8_readLawLine_139 fX8_202_8 (by first | assumption | exact hT.2.1) ?_
                    try simp (disch := omega) only [rdI_e, rdI_n, rdC_i, rdC_o, rdW, rdR, rdU_e, rdU_n, rdLW, Int.add_zero, mQ_p, mQ_b, mQ_d, mQ_c, mQ_w, mQ_e, mQ_t, he, htp]
                    refine x_iast (by omega) dX8_readLawLine_142 (by first | assumption | exact hT.2.1) (by omega) (by omega) ?_
                    try simp only [mQ_wp, mQ_wb, mQ_wd, mQ_wc, mQ_ww]
                    rw [drf_us (j := 372 + 4 * n) (by omega) (by omega)]
                    refine x_iconst dX8_readLawLine_143 rfl ?_
                    refine x_zreturn (by first | exact Or.inl rfl | exact Or.inr rfl | exact vB_r _ | exact vP_r _ | assumption | omega) rfl dX8_readLawLine_144 ?_
                    exact hQ _ _ ⟨_, rfl, LOut.s er⟩
                  · try simp only [vP_0, vP_1, vP_n0, vP_n1, Classical.not_not] at h126
                    simp at h126
              · omega
            · omega
        · have er : rLaw tp e n b p c u = .inr (skB tp e y, c, us (us (us (us u (369 + 4 * n) K) (370 + 4 * n) z) (371 + 4 * n) c) (372 + 4 * n) c) := by
            unfold rLaw
            rw [if_neg hk', hnu]
            refine (if_neg hif).trans ?_
            rw [← hK]
          refine x_aload_n dX8_readLawLine_56 rfl rfl ?_
          refine g_getR (kI := 1) rfl dX8_readLawLine_57 fX8_13_8 (by first | assumption | exact hT.2.1) (by first | assumption | exact hT.2.1) ?_
          refine x_iload_n dX8_readLawLine_60 rfl rfl ?_
          refine x_iald dX8_readLawLine_61 (by first | assumption | exact hT.2.1) (by omega) (by omega) ?_
          try simp (disch := omega) only [rdI_e, rdI_n, rdC_i, rdC_o, rdW, rdR, rdU_e, rdU_n, rdLW, Int.add_zero, mQ_p, mQ_b, mQ_d, mQ_c, mQ_w, mQ_e, mQ_t, he, htp]
          rw [e0]
          refine x_if_ge (tgt := 67) dX8_readLawLine_62 (by decide) (fun h62 => ?_) (fun h62 => ?_)
          · refine x_aload_n dX8_readLawLine_67 rfl rfl ?_
            refine g_getR (kI := 1) rfl dX8_readLawLine_68 fX8_13_8 (by first | assumption | exact hT.2.1) (by first | assumption | exact hT.2.1) ?_
            refine x_iload_n dX8_readLawLine_71 rfl rfl ?_
            refine x_iconst dX8_readLawLine_72 rfl ?_
            first | refine x_iaddN dX8_readLawLine_73 (by unfold i32; omega) ?_ | refine x_iadd dX8_readLawLine_73 ?_
            refine x_aload_n dX8_readLawLine_74 rfl rfl ?_
            refine x_iconst dX8_readLawLine_75 rfl ?_
            refine x_bipush dX8_readLawLine_76 rfl ?_
            refine g_callI (vs := [_, _, _]) (d' := d - 1) rfl (s_X8_number (by omega) hR (by omega)) dX8_readLawLine_78 kX8_128 (by omega) (by decide) rfl (Nat.le_of_ble_eq_true rfl) (rcv_o (by first | assumption | exact hT.2.1) rfl) (fun x78 M78 h78 => ?_)
            obtain ⟨q, hM3, hn3', -⟩ := h78
            obtain ⟨eq3, ex3⟩ := hn3' _ _ hnu
            subst ex3
            subst eq3
            subst hM3
            refine x_iast (by omega) dX8_readLawLine_81 (by first | assumption | exact hT.2.1) (by omega) (by omega) ?_
            try simp only [mQ_wp, mQ_wb, mQ_wd, mQ_wc, mQ_ww]
            rw [drf_us (j := 370 + 4 * n) (by omega) (by omega)]
            refine x_aload_n dX8_readLawLine_82 rfl rfl ?_
            refine g_getR (kI := 1) rfl dX8_readLawLine_83 fX8_13_8 (by first | assumption | exact hT.2.1) (by first | assumption | exact hT.2.1) ?_
            refine x_iload_n dX8_readLawLine_86 rfl rfl ?_
            refine x_iconst dX8_readLawLine_87 rfl ?_
            first | refine x_iaddN dX8_readLawLine_88 (by unfold i32; omega) ?_ | refine x_iadd dX8_readLawLine_88 ?_
            refine x_iald dX8_readLawLine_89 (by first | assumption | exact hT.2.1) (by omega) (by omega) ?_
            try simp (disch := omega) only [rdI_e, rdI_n, rdC_i, rdC_o, rdW, rdR, rdU_e, rdU_n, rdLW, Int.add_zero, mQ_p, mQ_b, mQ_d, mQ_c, mQ_w, mQ_e, mQ_t, he, htp]
            rw [e1]
            refine x_if_ge (tgt := 95) dX8_readLawLine_90 (by decide) (fun h90 => ?_) (fun h90 => ?_)
            · refine x_aload_n dX8_readLawLine_95 rfl rfl ?_
              refine g_getR (kI := 1) rfl dX8_readLawLine_96 fX8_13_8 (by first | assumption | exact hT.2.1) (by first | assumption | exact hT.2.1) ?_
              refine x_iload_n dX8_readLawLine_99 rfl rfl ?_
              refine x_iconst dX8_readLawLine_100 rfl ?_
              first | refine x_iaddN dX8_readLawLine_101 (by unfold i32; omega) ?_ | refine x_iadd dX8_readLawLine_101 ?_
              refine x_aload_n dX8_readLawLine_102 rfl rfl ?_
              refine g_getI (kI := 16) rfl dX8_readLawLine_103 fX8_202_8 (by first | assumption | exact hT.2.1) ?_
              try simp (disch := omega) only [rdI_e, rdI_n, rdC_i, rdC_o, rdW, rdR, rdU_e, rdU_n, rdLW, Int.add_zero, mQ_p, mQ_b, mQ_d, mQ_c, mQ_w, mQ_e, mQ_t, he, htp]
              refine x_iast (by omega) dX8_readLawLine_106 (by first | assumption | exact hT.2.1) (by omega) (by omega) ?_
              try simp only [mQ_wp, mQ_wb, mQ_wd, mQ_wc, mQ_ww]
              rw [drf_us (j := 371 + 4 * n) (by omega) (by omega)]
              refine x_aload_n dX8_readLawLine_107 rfl rfl ?_
              refine x_iconst dX8_readLawLine_108 rfl ?_
              refine g_putI (kI := 13) rfl dX8_readLawLine_109 fX8_234_8 (by first | assumption | exact hT.2.1) ?_
              try simp only [mQ_wp, mQ_wb, mQ_wd, mQ_wc, mQ_ww]
              refine x_aload_n dX8_readLawLine_112 rfl rfl ?_
              refine x_ldcsw dX8_readLawLine_113 (List.mem_of_getElem? (i := 56) rfl) ?_
              refine g_callI (vs := [_, _]) (d' := d - 1) rfl (s_X8_passes (i := 30) (by omega) hR (by omega) (by omega) rfl) dX8_readLawLine_116 kX8_162 (by omega) (by decide) rfl (Nat.le_of_ble_eq_true rfl) (rcv_o (by first | assumption | exact hT.2.1) rfl) (fun x116 M116 h116 => ?_)
              obtain ⟨e2, -, f2'⟩ := h116
              have hM := f2' hif
              subst hM
              rw [vP_f hif] at e2
              subst e2
              refine x_if_eq (tgt := 131) dX8_readLawLine_119 (by decide) (fun h119 => ?_) (fun h119 => ?_)
              · try simp only [vP_0, vP_1, vP_n0, vP_n1, Classical.not_not] at h119
                refine x_aload_n dX8_readLawLine_131 rfl rfl ?_
                refine g_getR (kI := 1) rfl dX8_readLawLine_132 fX8_13_8 (by first | assumption | exact hT.2.1) (by first | assumption | exact hT.2.1) ?_
                refine x_iload_n dX8_readLawLine_135 rfl rfl ?_
                refine x_iconst dX8_readLawLine_136 rfl ?_
                first | refine x_iaddN dX8_readLawLine_137 (by unfold i32; omega) ?_ | refine x_iadd dX8_readLawLine_137 ?_
                refine x_aload_n dX8_readLawLine_138 rfl rfl ?_
                refine g_getI (kI := 16) rfl dX8_readLawLine_139 fX8_202_8 (by first | assumption | exact hT.2.1) ?_
                try simp (disch := omega) only [rdI_e, rdI_n, rdC_i, rdC_o, rdW, rdR, rdU_e, rdU_n, rdLW, Int.add_zero, mQ_p, mQ_b, mQ_d, mQ_c, mQ_w, mQ_e, mQ_t, he, htp]
                refine x_iast (by omega) dX8_readLawLine_142 (by first | assumption | exact hT.2.1) (by omega) (by omega) ?_
                try simp only [mQ_wp, mQ_wb, mQ_wd, mQ_wc, mQ_ww]
                rw [drf_us (j := 372 + 4 * n) (by omega) (by omega)]
                refine x_iconst dX8_readLawLine_143 rfl ?_
                refine x_zreturn (by first | exact Or.inl rfl | exact Or.inr rfl | exact vB_r _ | exact vP_r _ | assumption | omega) rfl dX8_readLawLine_144 ?_
                exact hQ _ _ ⟨_, rfl, LOut.s er⟩
              · try simp only [vP_0, vP_1, vP_n0, vP_n1, Classical.not_not] at h119
                simp at h119
            · omega
          · omega
  refine x_sipush dX8_readLawLine_0 rfl ?_
  refine x_iconst dX8_readLawLine_3 rfl ?_
  refine x_iload_n dX8_readLawLine_4 rfl rfl ?_
  first | refine x_imulN dX8_readLawLine_5 (by unfold i32; omega) ?_ | refine x_imul dX8_readLawLine_5 ?_
  first | refine x_iaddN dX8_readLawLine_6 (by unfold i32; omega) ?_ | refine x_iadd dX8_readLawLine_6 ?_
  refine x_istore_n (L' := [some _, some _, some _]) dX8_readLawLine_7 rfl (by decide) rfl ?_
  refine x_aload_n dX8_readLawLine_8 rfl rfl ?_
  refine g_getR (kI := 1) rfl dX8_readLawLine_9 fX8_13_8 (by first | assumption | exact hT.2.1) (by first | assumption | exact hT.2.1) ?_
  refine x_iload_n dX8_readLawLine_12 rfl rfl ?_
  refine x_aload_n dX8_readLawLine_13 rfl rfl ?_
  refine x_ldcs dX8_readLawLine_14 (List.mem_of_getElem? (i := 51) rfl) ?_
  refine g_callI (vs := [_, _]) (d' := d - 1) rfl (s_X8_isWord (i := 25) (by omega) hR (by omega) (by omega) rfl) dX8_readLawLine_16 kX8_124 (by omega) (by decide) rfl (Nat.le_of_ble_eq_true rfl) (rcv_o (by first | assumption | exact hT.2.1) rfl) (fun x16 M16 h16 => ?_)
  obtain ⟨e16, f16⟩ := h16
  have f16' := f16.symm
  subst f16'
  subst e16
  try simp (disch := omega) only [rdI_e, rdI_n, rdC_i, rdC_o, rdW, rdR, rdU_e, rdU_n, rdLW, Int.add_zero, mQ_p, mQ_b, mQ_d, mQ_c, mQ_w, mQ_e, mQ_t, he, htp]
  refine x_if_eq (tgt := 26) dX8_readLawLine_19 (by decide) (fun h19 => ?_) (fun h19 => ?_)
  · try simp only [vP_0, vP_1, vP_n0, vP_n1, Classical.not_not] at h19
    refine x_aload_n dX8_readLawLine_26 rfl rfl ?_
    refine x_ldcsw dX8_readLawLine_27 (List.mem_of_getElem? (i := 54) rfl) ?_
    refine g_callI (vs := [_, _]) (d' := d - 1) rfl (s_X8_isWord (i := 28) (by omega) hR (by omega) (by omega) rfl) dX8_readLawLine_30 kX8_124 (by omega) (by decide) rfl (Nat.le_of_ble_eq_true rfl) (rcv_o (by first | assumption | exact hT.2.1) rfl) (fun x30 M30 h30 => ?_)
    obtain ⟨e30, f30⟩ := h30
    have f30' := f30.symm
    subst f30'
    subst e30
    try simp (disch := omega) only [rdI_e, rdI_n, rdC_i, rdC_o, rdW, rdR, rdU_e, rdU_n, rdLW, Int.add_zero, mQ_p, mQ_b, mQ_d, mQ_c, mQ_w, mQ_e, mQ_t, he, htp]
    refine x_if_eq (tgt := 40) dX8_readLawLine_33 (by decide) (fun h33 => ?_) (fun h33 => ?_)
    · try simp only [vP_0, vP_1, vP_n0, vP_n1, Classical.not_not] at h33
      refine x_aload_n dX8_readLawLine_40 rfl rfl ?_
      refine x_ldcsw dX8_readLawLine_41 (List.mem_of_getElem? (i := 55) rfl) ?_
      refine g_callI (vs := [_, _]) (d' := d - 1) rfl (s_X8_isWord (i := 29) (by omega) hR (by omega) (by omega) rfl) dX8_readLawLine_44 kX8_124 (by omega) (by decide) rfl (Nat.le_of_ble_eq_true rfl) (rcv_o (by first | assumption | exact hT.2.1) rfl) (fun x44 M44 h44 => ?_)
      obtain ⟨e44, f44⟩ := h44
      have f44' := f44.symm
      subst f44'
      subst e44
      try simp (disch := omega) only [rdI_e, rdI_n, rdC_i, rdC_o, rdW, rdR, rdU_e, rdU_n, rdLW, Int.add_zero, mQ_p, mQ_b, mQ_d, mQ_c, mQ_w, mQ_e, mQ_t, he, htp]
      refine x_if_eq (tgt := 54) dX8_readLawLine_47 (by decide) (fun h47 => ?_) (fun h47 => ?_)
      · try simp only [vP_0, vP_1, vP_n0, vP_n1, Classical.not_not] at h47
        refine x_iconst dX8_readLawLine_54 rfl ?_
        refine x_iast (by omega) dX8_readLawLine_55 (by first | assumption | exact hT.2.1) (by omega) (by omega) ?_
        try simp only [mQ_wp, mQ_wb, mQ_wd, mQ_wc, mQ_ww]
        rw [drf_us (j := 369 + 4 * n) (by omega) (by omega)]
        first
        | exact aft _ (if_pos h19).symm
        | exact aft _ ((if_neg h19).trans (if_pos h33)).symm
        | exact aft _ ((if_neg h19).trans ((if_neg h33).trans (if_pos h47))).symm
        | exact aft _ ((if_neg h19).trans ((if_neg h33).trans (if_neg h47))).symm
      · try simp only [vP_0, vP_1, vP_n0, vP_n1, Classical.not_not] at h47
        refine x_iconst dX8_readLawLine_50 rfl ?_
        refine x_goto (tgt := 55) dX8_readLawLine_51 (by decide) ?_
        refine x_iast (by omega) dX8_readLawLine_55 (by first | assumption | exact hT.2.1) (by omega) (by omega) ?_
        try simp only [mQ_wp, mQ_wb, mQ_wd, mQ_wc, mQ_ww]
        rw [drf_us (j := 369 + 4 * n) (by omega) (by omega)]
        first
        | exact aft _ (if_pos h19).symm
        | exact aft _ ((if_neg h19).trans (if_pos h33)).symm
        | exact aft _ ((if_neg h19).trans ((if_neg h33).trans (if_pos h47))).symm
        | exact aft _ ((if_neg h19).trans ((if_neg h33).trans (if_neg h47))).symm
    · try simp only [vP_0, vP_1, vP_n0, vP_n1, Classical.not_not] at h33
      refine x_iconst dX8_readLawLine_36 rfl ?_
      refine x_goto (tgt := 55) dX8_readLawLine_37 (by decide) ?_
      refine x_iast (by omega) dX8_readLawLine_55 (by first | assumption | exact hT.2.1) (by omega) (by omega) ?_
      try simp only [mQ_wp, mQ_wb, mQ_wd, mQ_wc, mQ_ww]
      rw [drf_us (j := 369 + 4 * n) (by omega) (by omega)]
      first
      | exact aft _ (if_pos h19).symm
      | exact aft _ ((if_neg h19).trans (if_pos h33)).symm
      | exact aft _ ((if_neg h19).trans ((if_neg h33).trans (if_pos h47))).symm
      | exact aft _ ((if_neg h19).trans ((if_neg h33).trans (if_neg h47))).symm
  · try simp only [vP_0, vP_1, vP_n0, vP_n1, Classical.not_not] at h19
    refine x_iconst dX8_readLawLine_22 rfl ?_
    refine x_goto (tgt := 55) dX8_readLawLine_23 (by decide) ?_
    refine x_iast (by omega) dX8_readLawLine_55 (by first | assumption | exact hT.2.1) (by omega) (by omega) ?_
    try simp only [mQ_wp, mQ_wb, mQ_wd, mQ_wc, mQ_ww]
    rw [drf_us (j := 369 + 4 * n) (by omega) (by omega)]
    first
    | exact aft _ (if_pos h19).symm
    | exact aft _ ((if_neg h19).trans (if_pos h33)).symm
    | exact aft _ ((if_neg h19).trans ((if_neg h33).trans (if_pos h47))).symm
    | exact aft _ ((if_neg h19).trans ((if_neg h33).trans (if_neg h47))).symm
end X8

