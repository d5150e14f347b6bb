/-! GuestViewModel: a line of a bench -/
theorem rN1_n {tp : Int → Int} {e a hi f p : Int} {v : Vw} (h : numP tp e p 0 hi = none) : rN1 tp e a hi f p v = .inl (skB tp e p) := by
  unfold rN1
  rw [h]
theorem rN1_s {tp : Int → Int} {e a hi f p y z : Int} {v : Vw} (h : numP tp e p 0 hi = some (y, z)) : rN1 tp e a hi f p v = .inr (y, us v a (f * z)) := by
  unfold rN1
  rw [h]
theorem BOut.n1 {M M1 : Mem} {m dp c e a hi p x : Int} {w : Vw} {tp : Int → Int} (hp : 0 ≤ p ∧ p ≤ e) (ha : 0 ≤ a ∧ a < 1217) (h : (∀ y z, numP tp e p 0 hi = some (y, z) → x = 1 ∧ M1 = mQr M m y (skB tp e p) dp c (us w a z)) ∧ (numP tp e p 0 hi = none → x = 0 ∧ ∃ q, M1 = mQr M m q (skB tp e p) dp c w)) : BOut M m dp c e w (rN1 tp e a hi 1 p w) x M1 := by
  rcases hn : numP tp e p 0 hi with _ | ⟨y, z⟩
  · obtain ⟨e1, q, e2⟩ := h.2 hn
    rw [e1, e2]
    exact BOut.f (rN1_n hn) hiW.rfl
  · obtain ⟨e1, e2⟩ := h.1 _ _ hn
    have hr := numP_r hp.2 hn
    rw [e1, e2]
    exact BOut.s (by rw [rN1_s hn, Int.one_mul]) (by omega) (hiW.rfl.us ha)
section X8
variable {G : GW} {d : Nat} {M : Mem} {m p b dp c e lo hi k n o a : Int} {w : Vw} {tp : Int → Int}
theorem s_X8_readShift (hd : 21 ≤ d) (hR : RdH M m tp e) (hp : 0 ≤ p ∧ p ≤ e) : CS G d mX8_readShift [dR m] (mQr M m p b dp c w) (postI fun x M1 => BOut M m dp c e w (rN1 tp e 5 3 2 p w) x M1) := by
  obtain ⟨hT, he, htp, he2, hX⟩ := id hR
  have hT_ := hT; obtain ⟨p0, p1, ⟨c1, c2, c3, c4, c5, c6, c7, c8, c9, c10, c11, c12, c13, c14, c15⟩, ⟨t1, t2, t3, t4, t5, t6, t7, t8, t9, t10, t11, t12, t13, t14, t15⟩⟩ := hT_
  refine CS.mkQ (by decide) (Nat.le_of_ble_eq_true rfl) fun Q hQ => ?_
  rcases hn : numP tp e p 0 3 with _ | ⟨y, z⟩
  · refine x_aload_n dX8_readShift_0 rfl rfl ?_
    refine x_iconst dX8_readShift_1 rfl ?_
    refine x_iconst dX8_readShift_2 rfl ?_
    refine g_callI (vs := [_, _, _]) (d' := d - 1) rfl (s_X8_readNumber (by omega) hR (by omega) (by omega)) dX8_readShift_3 kX8_172 (by omega) (by decide) rfl (Nat.le_of_ble_eq_true rfl) (rcv_o (by first | assumption | exact hT.2.1) rfl) (fun x3 M3 h3 => ?_)
    obtain ⟨e3, q, hM⟩ := h3.2 hn
    subst e3
    subst hM
    refine x_istore_n (L' := [some _, some _]) dX8_readShift_6 rfl (by decide) rfl ?_
    refine x_aload_n dX8_readShift_7 rfl rfl ?_
    refine g_getR (kI := 1) rfl dX8_readShift_8 fX8_13_8 (by first | assumption | exact hT.2.1) (by first | assumption | exact hT.2.1) ?_
    refine x_iconst dX8_readShift_11 rfl ?_
    refine x_dup2 dX8_readShift_12 rfl rfl ?_
    refine x_iald dX8_readShift_13 (by first | assumption | exact hT.2.1) (by omega) (by omega) ?_
    try simp (disch := omega) only [rdI_e, rdI_n, rdC_i, rdC_o, rdW, rdR, rdU_e, rdU_n, rdLW, Int.add_zero, mQ_p, mQ_b, mQ_d, mQ_c, mQ_w, mQ_e, mQ_t, he, htp]
    refine x_iload_n dX8_readShift_14 rfl rfl ?_
    refine x_if_eq (tgt := 22) dX8_readShift_15 (by decide) (fun h15 => ?_) (fun h15 => ?_)
    · refine x_iconst dX8_readShift_22 rfl ?_
      first | refine x_imulN dX8_readShift_23 (by unfold i32; omega) ?_ | refine x_imul dX8_readShift_23 ?_
      refine x_iast (by omega) dX8_readShift_24 (by first | assumption | exact hT.2.1) (by omega) (by omega) ?_
      try simp only [mQ_wp, mQ_wb, mQ_wd, mQ_wc, mQ_ww]
      refine x_iload_n dX8_readShift_25 rfl rfl ?_
      refine x_zreturn (by first | exact Or.inl rfl | exact Or.inr rfl | exact vB_r _ | exact vP_r _ | assumption | omega) rfl dX8_readShift_26 ?_
      exact hQ _ _ ⟨_, rfl, BOut.f (rN1_n hn) (hiW.rfl.us (by omega))⟩
    · simp at h15
  · have hr := numP_r hp.2 hn
    have e5 : us w 5 z 5 = z := us_e rfl
    refine x_aload_n dX8_readShift_0 rfl rfl ?_
    refine x_iconst dX8_readShift_1 rfl ?_
    refine x_iconst dX8_readShift_2 rfl ?_
    refine g_callI (vs := [_, _, _]) (d' := d - 1) rfl (s_X8_readNumber (by omega) hR (by omega) (by omega)) dX8_readShift_3 kX8_172 (by omega) (by decide) rfl (Nat.le_of_ble_eq_true rfl) (rcv_o (by first | assumption | exact hT.2.1) rfl) (fun x3 M3 h3 => ?_)
    obtain ⟨e3, hM⟩ := h3.1 _ _ hn
    subst e3
    subst hM
    refine x_istore_n (L' := [some _, some _]) dX8_readShift_6 rfl (by decide) rfl ?_
    refine x_aload_n dX8_readShift_7 rfl rfl ?_
    refine g_getR (kI := 1) rfl dX8_readShift_8 fX8_13_8 (by first | assumption | exact hT.2.1) (by first | assumption | exact hT.2.1) ?_
    refine x_iconst dX8_readShift_11 rfl ?_
    refine x_dup2 dX8_readShift_12 rfl rfl ?_
    refine x_iald dX8_readShift_13 (by first | assumption | exact hT.2.1) (by omega) (by omega) ?_
    try simp (disch := omega) only [rdI_e, rdI_n, rdC_i, rdC_o, rdW, rdR, rdU_e, rdU_n, rdLW, Int.add_zero, mQ_p, mQ_b, mQ_d, mQ_c, mQ_w, mQ_e, mQ_t, he, htp]
    rw [e5]
    refine x_iload_n dX8_readShift_14 rfl rfl ?_
    refine x_if_eq (tgt := 22) dX8_readShift_15 (by decide) (fun h15 => ?_) (fun h15 => ?_)
    · simp at h15
    · refine x_iconst dX8_readShift_18 rfl ?_
      refine x_goto (tgt := 23) dX8_readShift_19 (by decide) ?_
      first | refine x_imulN dX8_readShift_23 (by unfold i32; omega) ?_ | refine x_imul dX8_readShift_23 ?_
      refine x_iast (by omega) dX8_readShift_24 (by first | assumption | exact hT.2.1) (by omega) (by omega) ?_
      try simp only [mQ_wp, mQ_wb, mQ_wd, mQ_wc, mQ_ww]
      refine x_iload_n dX8_readShift_25 rfl rfl ?_
      refine x_zreturn (by first | exact Or.inl rfl | exact Or.inr rfl | exact vB_r _ | exact vP_r _ | assumption | omega) rfl dX8_readShift_26 ?_
      rw [us_ov, show z * 2 = 2 * z by omega]
      exact hQ _ _ ⟨_, rfl, BOut.s (rN1_s hn) (by omega) (hiW.rfl.us (by omega))⟩
theorem s_X8_readBenchLine (hd : 23 ≤ d) (hR : RdH M m tp e) (hp : 0 ≤ b ∧ b ≤ p ∧ p ≤ e) (h0 : 0 ≤ w 0 ∧ w 0 ≤ 8) : CS G d mX8_readBenchLine [dR m] (mQr M m p b dp c w) (postI fun x M1 => BOut M m dp c e w (rLin tp e b p w) x M1) := by
  obtain ⟨hT, he, htp, he2, hX⟩ := id hR
  refine CS.mkQ (by decide) (Nat.le_of_ble_eq_true rfl) fun Q hQ => ?_
  refine x_aload_n dX8_readBenchLine_0 rfl rfl ?_
  refine x_ldcs dX8_readBenchLine_1 (List.mem_of_getElem? (i := 34) rfl) ?_
  refine g_callI (vs := [_, _]) (d' := d - 1) rfl (s_X8_isWord (i := 0) (by omega) hR (by omega) (by omega) rfl) dX8_readBenchLine_3 kX8_124 (by omega) (by decide) rfl (Nat.le_of_ble_eq_true rfl) (rcv_o (by first | assumption | exact hT.2.1) rfl) (fun x3 M3 h3 => ?_)
  obtain ⟨e3, f3⟩ := h3
  have f3' := f3.symm
  subst f3'
  subst e3
  try simp (disch := omega) only [rdI_e, rdI_n, rdC_i, rdC_o, rdW, rdR, rdU_e, rdU_n, rdLW, Int.add_zero, mQ_p, mQ_b, mQ_d, mQ_c, mQ_w, mQ_e, mQ_t, he, htp]
  refine x_if_eq (tgt := 14) dX8_readBenchLine_6 (by decide) (fun h6 => ?_) (fun h6 => ?_)
  · try simp only [vP_0, vP_1, vP_n0, vP_n1, Classical.not_not] at h6
    refine x_aload_n dX8_readBenchLine_14 rfl rfl ?_
    refine x_ldcs dX8_readBenchLine_15 (List.mem_of_getElem? (i := 47) rfl) ?_
    refine g_callI (vs := [_, _]) (d' := d - 1) rfl (s_X8_isWord (i := 21) (by omega) hR (by omega) (by omega) rfl) dX8_readBenchLine_17 kX8_124 (by omega) (by decide) rfl (Nat.le_of_ble_eq_true rfl) (rcv_o (by first | assumption | exact hT.2.1) rfl) (fun x17 M17 h17 => ?_)
    obtain ⟨e17, f17⟩ := h17
    have f17' := f17.symm
    subst f17'
    subst e17
    try simp (disch := omega) only [rdI_e, rdI_n, rdC_i, rdC_o, rdW, rdR, rdU_e, rdU_n, rdLW, Int.add_zero, mQ_p, mQ_b, mQ_d, mQ_c, mQ_w, mQ_e, mQ_t, he, htp]
    refine x_if_eq (tgt := 28) dX8_readBenchLine_20 (by decide) (fun h20 => ?_) (fun h20 => ?_)
    · try simp only [vP_0, vP_1, vP_n0, vP_n1, Classical.not_not] at h20
      refine x_aload_n dX8_readBenchLine_28 rfl rfl ?_
      refine x_ldcs dX8_readBenchLine_29 (List.mem_of_getElem? (i := 48) rfl) ?_
      refine g_callI (vs := [_, _]) (d' := d - 1) rfl (s_X8_isWord (i := 22) (by omega) hR (by omega) (by omega) rfl) dX8_readBenchLine_31 kX8_124 (by omega) (by decide) rfl (Nat.le_of_ble_eq_true rfl) (rcv_o (by first | assumption | exact hT.2.1) rfl) (fun x31 M31 h31 => ?_)
      obtain ⟨e31, f31⟩ := h31
      have f31' := f31.symm
      subst f31'
      subst e31
      try simp (disch := omega) only [rdI_e, rdI_n, rdC_i, rdC_o, rdW, rdR, rdU_e, rdU_n, rdLW, Int.add_zero, mQ_p, mQ_b, mQ_d, mQ_c, mQ_w, mQ_e, mQ_t, he, htp]
      refine x_if_eq (tgt := 42) dX8_readBenchLine_34 (by decide) (fun h34 => ?_) (fun h34 => ?_)
      · try simp only [vP_0, vP_1, vP_n0, vP_n1, Classical.not_not] at h34
        refine x_aload_n dX8_readBenchLine_42 rfl rfl ?_
        refine x_ldcs dX8_readBenchLine_43 (List.mem_of_getElem? (i := 49) rfl) ?_
        refine g_callI (vs := [_, _]) (d' := d - 1) rfl (s_X8_isWord (i := 23) (by omega) hR (by omega) (by omega) rfl) dX8_readBenchLine_45 kX8_124 (by omega) (by decide) rfl (Nat.le_of_ble_eq_true rfl) (rcv_o (by first | assumption | exact hT.2.1) rfl) (fun x45 M45 h45 => ?_)
        obtain ⟨e45, f45⟩ := h45
        have f45' := f45.symm
        subst f45'
        subst e45
        try simp (disch := omega) only [rdI_e, rdI_n, rdC_i, rdC_o, rdW, rdR, rdU_e, rdU_n, rdLW, Int.add_zero, mQ_p, mQ_b, mQ_d, mQ_c, mQ_w, mQ_e, mQ_t, he, htp]
        refine x_if_eq (tgt := 59) dX8_readBenchLine_48 (by decide) (fun h48 => ?_) (fun h48 => ?_)
        · try simp only [vP_0, vP_1, vP_n0, vP_n1, Classical.not_not] at h48
          refine x_aload_n dX8_readBenchLine_59 rfl rfl ?_
          refine x_ldcs dX8_readBenchLine_60 (List.mem_of_getElem? (i := 50) rfl) ?_
          refine g_callI (vs := [_, _]) (d' := d - 1) rfl (s_X8_isWord (i := 24) (by omega) hR (by omega) (by omega) rfl) dX8_readBenchLine_62 kX8_124 (by omega) (by decide) rfl (Nat.le_of_ble_eq_true rfl) (rcv_o (by first | assumption | exact hT.2.1) rfl) (fun x62 M62 h62 => ?_)
          obtain ⟨e62, f62⟩ := h62
          have f62' := f62.symm
          subst f62'
          subst e62
          try simp (disch := omega) only [rdI_e, rdI_n, rdC_i, rdC_o, rdW, rdR, rdU_e, rdU_n, rdLW, Int.add_zero, mQ_p, mQ_b, mQ_d, mQ_c, mQ_w, mQ_e, mQ_t, he, htp]
          refine x_if_eq (tgt := 73) dX8_readBenchLine_65 (by decide) (fun h65 => ?_) (fun h65 => ?_)
          · try simp only [vP_0, vP_1, vP_n0, vP_n1, Classical.not_not] at h65
            refine x_aload_n dX8_readBenchLine_73 rfl rfl ?_
            refine x_ldcs dX8_readBenchLine_74 (List.mem_of_getElem? (i := 51) rfl) ?_
            refine g_callI (vs := [_, _]) (d' := d - 1) rfl (s_X8_isWord (i := 25) (by omega) hR (by omega) (by omega) rfl) dX8_readBenchLine_76 kX8_124 (by omega) (by decide) rfl (Nat.le_of_ble_eq_true rfl) (rcv_o (by first | assumption | exact hT.2.1) rfl) (fun x76 M76 h76 => ?_)
            obtain ⟨e76, f76⟩ := h76
            have f76' := f76.symm
            subst f76'
            subst e76
            try simp (disch := omega) only [rdI_e, rdI_n, rdC_i, rdC_o, rdW, rdR, rdU_e, rdU_n, rdLW, Int.add_zero, mQ_p, mQ_b, mQ_d, mQ_c, mQ_w, mQ_e, mQ_t, he, htp]
            refine x_if_eq (tgt := 91) dX8_readBenchLine_79 (by decide) (fun h79 => ?_) (fun h79 => ?_)
            · try simp only [vP_0, vP_1, vP_n0, vP_n1, Classical.not_not] at h79
              refine x_aload_n dX8_readBenchLine_91 rfl rfl ?_
              refine x_ldcs dX8_readBenchLine_92 (List.mem_of_getElem? (i := 52) rfl) ?_
              refine g_callI (vs := [_, _]) (d' := d - 1) rfl (s_X8_isWord (i := 26) (by omega) hR (by omega) (by omega) rfl) dX8_readBenchLine_94 kX8_124 (by omega) (by decide) rfl (Nat.le_of_ble_eq_true rfl) (rcv_o (by first | assumption | exact hT.2.1) rfl) (fun x94 M94 h94 => ?_)
              obtain ⟨e94, f94⟩ := h94
              have f94' := f94.symm
              subst f94'
              subst e94
              try simp (disch := omega) only [rdI_e, rdI_n, rdC_i, rdC_o, rdW, rdR, rdU_e, rdU_n, rdLW, Int.add_zero, mQ_p, mQ_b, mQ_d, mQ_c, mQ_w, mQ_e, mQ_t, he, htp]
              refine x_if_eq (tgt := 109) dX8_readBenchLine_97 (by decide) (fun h97 => ?_) (fun h97 => ?_)
              · try simp only [vP_0, vP_1, vP_n0, vP_n1, Classical.not_not] at h97
                refine x_aload_n dX8_readBenchLine_109 rfl rfl ?_
                refine x_ldcs dX8_readBenchLine_110 (List.mem_of_getElem? (i := 53) rfl) ?_
                refine g_callI (vs := [_, _]) (d' := d - 1) rfl (s_X8_isWord (i := 27) (by omega) hR (by omega) (by omega) rfl) dX8_readBenchLine_112 kX8_124 (by omega) (by decide) rfl (Nat.le_of_ble_eq_true rfl) (rcv_o (by first | assumption | exact hT.2.1) rfl) (fun x112 M112 h112 => ?_)
                obtain ⟨e112, f112⟩ := h112
                have f112' := f112.symm
                subst f112'
                subst e112
                try simp (disch := omega) only [rdI_e, rdI_n, rdC_i, rdC_o, rdW, rdR, rdU_e, rdU_n, rdLW, Int.add_zero, mQ_p, mQ_b, mQ_d, mQ_c, mQ_w, mQ_e, mQ_t, he, htp]
                refine x_if_eq (tgt := 134) dX8_readBenchLine_115 (by decide) (fun h115 => ?_) (fun h115 => ?_)
                · try simp only [vP_0, vP_1, vP_n0, vP_n1, Classical.not_not] at h115
                  refine x_iconst dX8_readBenchLine_134 rfl ?_
                  refine x_zreturn (by first | exact Or.inl rfl | exact Or.inr rfl | exact vB_r _ | exact vP_r _ | assumption | omega) rfl dX8_readBenchLine_135 ?_
                  first
                  | (refine hQ _ _ ⟨_, rfl, ?_⟩
                     unfold rLin
                     rw [if_neg h6, if_neg h20, if_neg h34, if_neg h48, if_neg h65, if_neg h79, if_neg h97, if_neg h115]
                     exact BOut.f rfl hiW.rfl)
                  | (refine hQ _ _ ⟨_, rfl, ?_⟩
                     unfold rLin
                     rw [if_neg h6, if_neg h20, if_neg h34, if_neg h48, if_neg h65, if_neg h79, if_neg h97, if_pos h115]
                     have ex : x124 = 0 := by omega
                     subst ex
                     exact h124)
                  | (refine hQ _ _ ⟨_, rfl, ?_⟩
                     unfold rLin
                     rw [if_neg h6, if_neg h20, if_neg h34, if_neg h48, if_neg h65, if_neg h79, if_neg h97, if_pos h115]
                     have ex : x124 = 1 := by omega
                     subst ex
                     exact h124)
                · try simp only [vP_0, vP_1, vP_n0, vP_n1, Classical.not_not] at h115
                  refine x_aload_n dX8_readBenchLine_118 rfl rfl ?_
                  refine x_bipush dX8_readBenchLine_119 rfl ?_
                  refine x_sipush dX8_readBenchLine_121 rfl ?_
                  refine g_callI (vs := [_, _, _]) (d' := d - 1) rfl (s_X8_readNumber (by omega) hR (by omega) (by omega)) dX8_readBenchLine_124 kX8_172 (by omega) (by decide) rfl (Nat.le_of_ble_eq_true rfl) (rcv_o (by first | assumption | exact hT.2.1) rfl) (fun x124 M124 h124 => ?_)
                  replace h124 := BOut.n1 (by omega) (by omega) h124
                  have z124 := BOut.z h124
                  refine x_if_eq (tgt := 134) dX8_readBenchLine_127 (by decide) (fun h127 => ?_) (fun h127 => ?_)
                  · try simp only [vP_0, vP_1, vP_n0, vP_n1, Classical.not_not] at h127
                    refine x_iconst dX8_readBenchLine_134 rfl ?_
                    refine x_zreturn (by first | exact Or.inl rfl | exact Or.inr rfl | exact vB_r _ | exact vP_r _ | assumption | omega) rfl dX8_readBenchLine_135 ?_
                    first
                    | (refine hQ _ _ ⟨_, rfl, ?_⟩
                       unfold rLin
                       rw [if_neg h6, if_neg h20, if_neg h34, if_neg h48, if_neg h65, if_neg h79, if_neg h97, if_neg h115]
                       exact BOut.f rfl hiW.rfl)
                    | (refine hQ _ _ ⟨_, rfl, ?_⟩
                       unfold rLin
                       rw [if_neg h6, if_neg h20, if_neg h34, if_neg h48, if_neg h65, if_neg h79, if_neg h97, if_pos h115]
                       have ex : x124 = 0 := by omega
                       subst ex
                       exact h124)
                    | (refine hQ _ _ ⟨_, rfl, ?_⟩
                       unfold rLin
                       rw [if_neg h6, if_neg h20, if_neg h34, if_neg h48, if_neg h65, if_neg h79, if_neg h97, if_pos h115]
                       have ex : x124 = 1 := by omega
                       subst ex
                       exact h124)
                  · try simp only [vP_0, vP_1, vP_n0, vP_n1, Classical.not_not] at h127
                    refine x_iconst dX8_readBenchLine_130 rfl ?_
                    refine x_goto (tgt := 135) dX8_readBenchLine_131 (by decide) ?_
                    refine x_zreturn (by first | exact Or.inl rfl | exact Or.inr rfl | exact vB_r _ | exact vP_r _ | assumption | omega) rfl dX8_readBenchLine_135 ?_
                    first
                    | (refine hQ _ _ ⟨_, rfl, ?_⟩
                       unfold rLin
                       rw [if_neg h6, if_neg h20, if_neg h34, if_neg h48, if_neg h65, if_neg h79, if_neg h97, if_neg h115]
                       exact BOut.f rfl hiW.rfl)
                    | (refine hQ _ _ ⟨_, rfl, ?_⟩
                       unfold rLin
                       rw [if_neg h6, if_neg h20, if_neg h34, if_neg h48, if_neg h65, if_neg h79, if_neg h97, if_pos h115]
                       have ex : x124 = 0 := by omega
                       subst ex
                       exact h124)
                    | (refine hQ _ _ ⟨_, rfl, ?_⟩
                       unfold rLin
                       rw [if_neg h6, if_neg h20, if_neg h34, if_neg h48, if_neg h65, if_neg h79, if_neg h97, if_pos h115]
                       have ex : x124 = 1 := by omega
                       subst ex
                       exact h124)
              · try simp only [vP_0, vP_1, vP_n0, vP_n1, Classical.not_not] at h97
                refine x_aload_n dX8_readBenchLine_100 rfl rfl ?_
                refine x_bipush dX8_readBenchLine_101 rfl ?_
                refine x_bipush dX8_readBenchLine_103 rfl ?_
                refine g_callI (vs := [_, _, _]) (d' := d - 1) rfl (s_X8_readNumber (by omega) hR (by omega) (by omega)) dX8_readBenchLine_105 kX8_172 (by omega) (by decide) rfl (Nat.le_of_ble_eq_true rfl) (rcv_o (by first | assumption | exact hT.2.1) rfl) (fun x105 M105 h105 => ?_)
                replace h105 := BOut.n1 (by omega) (by omega) h105
                refine x_zreturn (by exact BOut.z h105) rfl dX8_readBenchLine_108 ?_
                exact hQ _ _ ⟨_, rfl, by unfold rLin; rw [if_neg h6, if_neg h20, if_neg h34, if_neg h48, if_neg h65, if_neg h79, if_pos h97]; exact h105⟩
            · try simp only [vP_0, vP_1, vP_n0, vP_n1, Classical.not_not] at h79
              refine x_aload_n dX8_readBenchLine_82 rfl rfl ?_
              refine x_bipush dX8_readBenchLine_83 rfl ?_
              refine x_bipush dX8_readBenchLine_85 rfl ?_
              refine g_callI (vs := [_, _, _]) (d' := d - 1) rfl (s_X8_readNumber (by omega) hR (by omega) (by omega)) dX8_readBenchLine_87 kX8_172 (by omega) (by decide) rfl (Nat.le_of_ble_eq_true rfl) (rcv_o (by first | assumption | exact hT.2.1) rfl) (fun x87 M87 h87 => ?_)
              replace h87 := BOut.n1 (by omega) (by omega) h87
              refine x_zreturn (by exact BOut.z h87) rfl dX8_readBenchLine_90 ?_
              exact hQ _ _ ⟨_, rfl, by unfold rLin; rw [if_neg h6, if_neg h20, if_neg h34, if_neg h48, if_neg h65, if_pos h79]; exact h87⟩
          · try simp only [vP_0, vP_1, vP_n0, vP_n1, Classical.not_not] at h65
            refine x_aload_n dX8_readBenchLine_68 rfl rfl ?_
            refine g_callI (vs := [_]) (d' := d - 1) rfl (s_X8_readShift (by omega) hR (by omega)) dX8_readBenchLine_69 kX8_193 (by omega) (by decide) rfl (Nat.le_of_ble_eq_true rfl) (rcv_o (by first | assumption | exact hT.2.1) rfl) (fun x69 M69 h69 => ?_)
            refine x_zreturn (by exact BOut.z h69) rfl dX8_readBenchLine_72 ?_
            exact hQ _ _ ⟨_, rfl, by unfold rLin; rw [if_neg h6, if_neg h20, if_neg h34, if_neg h48, if_pos h65]; exact h69⟩
        · try simp only [vP_0, vP_1, vP_n0, vP_n1, Classical.not_not] at h48
          refine x_aload_n dX8_readBenchLine_51 rfl rfl ?_
          refine x_iconst dX8_readBenchLine_52 rfl ?_
          refine x_bipush dX8_readBenchLine_53 rfl ?_
          refine g_callI (vs := [_, _, _]) (d' := d - 1) rfl (s_X8_readNumber (by omega) hR (by omega) (by omega)) dX8_readBenchLine_55 kX8_172 (by omega) (by decide) rfl (Nat.le_of_ble_eq_true rfl) (rcv_o (by first | assumption | exact hT.2.1) rfl) (fun x55 M55 h55 => ?_)
          replace h55 := BOut.n1 (by omega) (by omega) h55
          refine x_zreturn (by exact BOut.z h55) rfl dX8_readBenchLine_58 ?_
          exact hQ _ _ ⟨_, rfl, by unfold rLin; rw [if_neg h6, if_neg h20, if_neg h34, if_pos h48]; exact h55⟩
      · try simp only [vP_0, vP_1, vP_n0, vP_n1, Classical.not_not] at h34
        refine x_aload_n dX8_readBenchLine_37 rfl rfl ?_
        refine g_callI (vs := [_]) (d' := d - 1) rfl (s_X8_readCells (by omega) hR (by omega)) dX8_readBenchLine_38 kX8_186 (by omega) (by decide) rfl (Nat.le_of_ble_eq_true rfl) (rcv_o (by first | assumption | exact hT.2.1) rfl) (fun x38 M38 h38 => ?_)
        refine x_zreturn (by exact BOut.z h38) rfl dX8_readBenchLine_41 ?_
        exact hQ _ _ ⟨_, rfl, by unfold rLin; rw [if_neg h6, if_neg h20, if_pos h34]; exact h38⟩
    · try simp only [vP_0, vP_1, vP_n0, vP_n1, Classical.not_not] at h20
      refine x_aload_n dX8_readBenchLine_23 rfl rfl ?_
      refine g_callI (vs := [_]) (d' := d - 1) rfl (s_X8_readProgram (by omega) hR (by omega) h0) dX8_readBenchLine_24 kX8_182 (by omega) (by decide) rfl (Nat.le_of_ble_eq_true rfl) (rcv_o (by first | assumption | exact hT.2.1) rfl) (fun x24 M24 h24 => ?_)
      refine x_zreturn (by exact BOut.z h24) rfl dX8_readBenchLine_27 ?_
      exact hQ _ _ ⟨_, rfl, by unfold rLin; rw [if_neg h6, if_pos h20]; exact h24⟩
  · try simp only [vP_0, vP_1, vP_n0, vP_n1, Classical.not_not] at h6
    refine x_aload_n dX8_readBenchLine_9 rfl rfl ?_
    refine g_callI (vs := [_]) (d' := d - 1) rfl (s_X8_readOp (by omega) hR (by omega) h0) dX8_readBenchLine_10 kX8_177 (by omega) (by decide) rfl (Nat.le_of_ble_eq_true rfl) (rcv_o (by first | assumption | exact hT.2.1) rfl) (fun x10 M10 h10 => ?_)
    refine x_zreturn (by exact BOut.z h10) rfl dX8_readBenchLine_13 ?_
    exact hQ _ _ ⟨_, rfl, by unfold rLin; rw [if_pos h6]; exact h10⟩
end X8

