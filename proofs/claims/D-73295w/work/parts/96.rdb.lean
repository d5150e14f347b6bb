/-! GuestViewModel: reading of a bench's lines -/
theorem micE {u : Vw} {o k x i1 i2 i3 y : Int} (h1 : i1 = 33 + 9 * o + 2 * opN u o) (h2 : i2 = 34 + 9 * o + 2 * opN u o) (h3 : i3 = 30 + 9 * o) (hy : y = opN u o + 1) : us (us (us u i1 k) i2 x) i3 y = micU u o k x := by
  subst h1; subst h2; subst h3; subst hy; rfl
theorem micN {u : Vw} {o k x : Int} : opN (micU u o k x) o = opN u o + 1 := us_e rfl
theorem micH {w u : Vw} {o k x : Int} (h : hiW w u) (ho : 0 ≤ o ∧ o < 8) (hn : 0 ≤ opN u o ∧ opN u o ≤ 3) : hiW w (micU u o k x) := ((h.us (by omega)).us (by omega)).us (by omega)
section X8
variable {G : GW} {d : Nat} {M : Mem} {m p b dp c e lo hi k n o a : Int} {w : Vw} {tp : Int → Int}
theorem s_X8_readMicros (hd : 20 ≤ d) (hR : RdH M m tp e) (hp : 0 ≤ p ∧ p ≤ e) (ho : 0 ≤ o ∧ o < 8) (hn : opN w o = 0) : CS G d mX8_readMicros [dR m, dI o] (mQr M m p b dp c w) (postI fun x M1 => (kndW tp (skB tp e p) (wdB tp e (skB tp e p)) < 0 → x = 0 ∧ ∃ p', M1 = mQr M m p' (skB tp e p) dp c w) ∧ (¬ kndW tp (skB tp e p) (wdB tp e (skB tp e p)) < 0 → BOut M m dp c e w (rMic tp e o 5 p w) x M1)) := by
  obtain ⟨hT, he, htp, he2, hX⟩ := id hR
  have hs := skB_r (tp := tp) hp.2
  have hs2 := wdB_r (tp := tp) hs.2
  have hT_ := hT; obtain ⟨p0, p1, ⟨c1, c2, c3, c4, c5, c6, c7, c8, c9, c10, c11, c12, c13, c14, c15⟩, ⟨t1, t2, t3, t4, t5, t6, t7, t8, t9, t10, t11, t12, t13, t14, t15⟩⟩ := hT_
  refine CS.mkQ (by decide) (Nat.le_of_ble_eq_true rfl) fun Q hQ => ?_
  by_cases hk : kndW tp (skB tp e p) (wdB tp e (skB tp e p)) < 0
  · refine x_aload_n dX8_readMicros_0 rfl rfl ?_
    refine g_callN (vs := [_]) (d' := d - 1) rfl (s_X8_letters (by omega) hR (by omega)) dX8_readMicros_1 kX8_121 (by omega) (by decide) rfl (Nat.le_of_ble_eq_true rfl) (rcv_o (by first | assumption | exact hT.2.1) rfl) (fun M1 h1 => ?_)
    have f1 := h1.symm
    subst f1
    refine x_aload_n dX8_readMicros_4 rfl rfl ?_
    refine g_callI (vs := [_]) (d' := d - 1) rfl (s_X8_kindRead (by omega) hR (by omega)) dX8_readMicros_5 kX8_153 (by omega) (by decide) rfl (Nat.le_of_ble_eq_true rfl) (rcv_o (by first | assumption | exact hT.2.1) rfl) (fun x5 M5 h5 => ?_)
    obtain ⟨e5, f5⟩ := h5
    have f5' := f5.symm
    subst f5'
    subst e5
    try simp (disch := omega) only [rdI_e, rdI_n, rdC_i, rdC_o, rdW, rdR, rdU_e, rdU_n, rdLW, Int.add_zero, mQ_p, mQ_b, mQ_d, mQ_c, mQ_w, mQ_e, mQ_t, he, htp]
    refine x_istore_n (L' := [some _, some _, some _, none, none]) dX8_readMicros_8 rfl (by decide) rfl ?_
    refine x_iload_n dX8_readMicros_9 rfl rfl ?_
    refine x_if_ge (tgt := 15) dX8_readMicros_10 (by decide) (fun h10 => ?_) (fun h10 => ?_)
    · omega
    · refine x_iconst dX8_readMicros_13 rfl ?_
      refine x_zreturn (by first | exact Or.inl rfl | exact Or.inr rfl | exact vB_r _ | exact vP_r _ | assumption | omega) rfl dX8_readMicros_14 ?_
      exact hQ _ _ ⟨_, rfl, fun _ => ⟨rfl, _, rfl⟩, fun q => absurd hk q⟩
  · have hQ2 : ∀ (x : Int) (M1 : Mem), BOut M m dp c e w (rMic tp e o 5 p w) x M1 → Q (rV (dI x)) M1 := fun x M1 h => hQ _ _ ⟨_, rfl, fun q => absurd q hk, fun _ => h⟩
    have lp : ∀ (t : Nat) (p0 : Int) (u : Vw) (fu : Nat), ((fu : Int)).toNat = t → (0 ≤ p0 ∧ p0 ≤ e) → ((fu : Int) + opN u o = 5 ∧ 0 ≤ opN u o ∧ opN u o ≤ 3) → (rMic tp e o 5 p w = rMic tp e o fu p0 u) → (hiW w u) → WP G d mX8_readMicros 15 [some (dR m), some (dI o), some (dI (kndW tp (skB tp e p0) (wdB tp e (skB tp e p0)))), none, none] [] (mQr M m (wdB tp e (skB tp e p0)) (skB tp e p0) dp c u) Q := by
      intro t
      induction t using Nat.strongRecOn with
      | _ t ih =>
        intro p0 u fu ht h0 hf hr hh
        obtain ⟨fu, rfl⟩ : ∃ f2, fu = f2 + 1 := ⟨fu - 1, by omega⟩
        have hs := skB_r (tp := tp) h0.2
        have hs2 := wdB_r (tp := tp) hs.2
        have en : u (30 + 9 * o) = opN u o := rfl
        have en2 : ∀ i1 i2 k x, ¬ i1 = 30 + 9 * o → ¬ i2 = 30 + 9 * o → us (us u i1 k) i2 x (30 + 9 * o) = opN u o := fun i1 i2 k x a1 a2 => by
          rw [us_n (by omega), us_n (by omega), en]
        by_cases hk0 : kndW tp (skB tp e p0) (wdB tp e (skB tp e p0)) < 0
        · have er : rMic tp e o (fu + 1) p0 u = .inr (skB tp e p0, u) := if_pos hk0
          refine x_iload_n dX8_readMicros_15 rfl rfl ?_
          refine x_if_lt (tgt := 119) dX8_readMicros_16 (by decide) (fun h16 => ?_) (fun h16 => ?_)
          · refine x_aload_n dX8_readMicros_119 rfl rfl ?_
            refine x_aload_n dX8_readMicros_120 rfl rfl ?_
            refine g_getI (kI := 12) rfl dX8_readMicros_121 fX8_106_8 (by first | assumption | exact hT.2.1) ?_
            try simp (disch := omega) only [rdI_e, rdI_n, rdC_i, rdC_o, rdW, rdR, rdU_e, rdU_n, rdLW, Int.add_zero, mQ_p, mQ_b, mQ_d, mQ_c, mQ_w, mQ_e, mQ_t, he, htp]
            refine g_putI (kI := 10) rfl dX8_readMicros_124 fX8_96_8 (by first | assumption | exact hT.2.1) ?_
            try simp only [mQ_wp, mQ_wb, mQ_wd, mQ_wc, mQ_ww]
            refine x_iconst dX8_readMicros_127 rfl ?_
            refine x_zreturn (by first | exact Or.inl rfl | exact Or.inr rfl | exact vB_r _ | exact vP_r _ | assumption | omega) rfl dX8_readMicros_128 ?_
            exact hQ2 _ _ (BOut.s (hr.trans er) (by omega) hh)
          · omega
        · by_cases hn3 : opN u o = 3
          · have er : rMic tp e o (fu + 1) p0 u = .inl (skB tp e p0) := (if_neg hk0).trans (if_pos hn3)
            refine x_iload_n dX8_readMicros_15 rfl rfl ?_
            refine x_if_lt (tgt := 119) dX8_readMicros_16 (by decide) (fun h16 => ?_) (fun h16 => ?_)
            · omega
            · refine x_aload_n dX8_readMicros_19 rfl rfl ?_
              refine x_iload_n dX8_readMicros_20 rfl rfl ?_
              refine x_iconst dX8_readMicros_21 rfl ?_
              refine g_callI (vs := [_, _, _]) (d' := d - 1) rfl (s_X8_of (by omega) hT mQ_wf (by omega) (by omega)) dX8_readMicros_22 kX8_78 (by omega) (by decide) rfl (Nat.le_of_ble_eq_true rfl) (rcv_o (by first | assumption | exact hT.2.1) rfl) (fun x22 M22 h22 => ?_)
              obtain ⟨e22, f22⟩ := h22
              have f22' := f22.symm
              subst f22'
              subst e22
              try simp (disch := omega) only [rdI_e, rdI_n, rdC_i, rdC_o, rdW, rdR, rdU_e, rdU_n, rdLW, Int.add_zero, mQ_p, mQ_b, mQ_d, mQ_c, mQ_w, mQ_e, mQ_t, he, htp]
              refine x_istore_n (L' := [some _, some _, some _, some _, none]) dX8_readMicros_25 rfl (by decide) rfl ?_
              refine x_iload_n dX8_readMicros_26 rfl rfl ?_
              refine x_iconst dX8_readMicros_27 rfl ?_
              refine x_icmp_ne (tgt := 33) dX8_readMicros_28 (by decide) (fun h28 => ?_) (fun h28 => ?_)
              · omega
              · refine x_iconst dX8_readMicros_31 rfl ?_
                refine x_zreturn (by first | exact Or.inl rfl | exact Or.inr rfl | exact vB_r _ | exact vP_r _ | assumption | omega) rfl dX8_readMicros_32 ?_
                exact hQ2 _ _ (BOut.f (hr.trans er) hh)
          · have kr := wrF_r (tp := tp) (b := skB tp e p0) (q := wdB tp e (skB tp e p0)) (i := 10) 11 0
            by_cases hnm : hasN (kndW tp (skB tp e p0) (wdB tp e (skB tp e p0)))
            · rcases hnu : numP tp e (wdB tp e (skB tp e p0)) 0 7 with _ | ⟨y, z⟩
              · have er : rMic tp e o (fu + 1) p0 u = .inl (skB tp e (wdB tp e (skB tp e p0))) := by
                  refine (if_neg hk0).trans ((if_neg hn3).trans ((if_pos hnm).trans ?_))
                  rw [hnu]
                refine x_iload_n dX8_readMicros_15 rfl rfl ?_
                refine x_if_lt (tgt := 119) dX8_readMicros_16 (by decide) (fun h16 => ?_) (fun h16 => ?_)
                · omega
                · refine x_aload_n dX8_readMicros_19 rfl rfl ?_
                  refine x_iload_n dX8_readMicros_20 rfl rfl ?_
                  refine x_iconst dX8_readMicros_21 rfl ?_
                  refine g_callI (vs := [_, _, _]) (d' := d - 1) rfl (s_X8_of (by omega) hT mQ_wf (by omega) (by omega)) dX8_readMicros_22 kX8_78 (by omega) (by decide) rfl (Nat.le_of_ble_eq_true rfl) (rcv_o (by first | assumption | exact hT.2.1) rfl) (fun x22 M22 h22 => ?_)
                  obtain ⟨e22, f22⟩ := h22
                  have f22' := f22.symm
                  subst f22'
                  subst e22
                  try simp (disch := omega) only [rdI_e, rdI_n, rdC_i, rdC_o, rdW, rdR, rdU_e, rdU_n, rdLW, Int.add_zero, mQ_p, mQ_b, mQ_d, mQ_c, mQ_w, mQ_e, mQ_t, he, htp]
                  refine x_istore_n (L' := [some _, some _, some _, some _, none]) dX8_readMicros_25 rfl (by decide) rfl ?_
                  refine x_iload_n dX8_readMicros_26 rfl rfl ?_
                  refine x_iconst dX8_readMicros_27 rfl ?_
                  refine x_icmp_ne (tgt := 33) dX8_readMicros_28 (by decide) (fun h28 => ?_) (fun h28 => ?_)
                  · refine x_iload_n dX8_readMicros_33 rfl rfl ?_
                    refine g_callI (vs := [_]) (d' := d - 1) rfl (s_X8_hasNumber (by omega)) dX8_readMicros_34 kX8_156 (by omega) (by decide) rfl (Nat.le_of_ble_eq_true rfl) (rcv_n) (fun x34 M34 h34 => ?_)
                    obtain ⟨e34, f34⟩ := h34
                    have f34' := f34.symm
                    subst f34'
                    subst e34
                    try simp (disch := omega) only [rdI_e, rdI_n, rdC_i, rdC_o, rdW, rdR, rdU_e, rdU_n, rdLW, Int.add_zero, mQ_p, mQ_b, mQ_d, mQ_c, mQ_w, mQ_e, mQ_t, he, htp]
                    refine x_if_eq (tgt := 50) dX8_readMicros_37 (by decide) (fun h37 => ?_) (fun h37 => ?_)
                    · try simp only [vP_0, vP_1, vP_n0, vP_n1, Classical.not_not] at h37
                      exact absurd hnm h37
                    · try simp only [vP_0, vP_1, vP_n0, vP_n1, Classical.not_not] at h37
                      refine x_aload_n dX8_readMicros_40 rfl rfl ?_
                      refine x_iconst dX8_readMicros_41 rfl ?_
                      refine x_bipush dX8_readMicros_42 rfl ?_
                      refine g_callI (vs := [_, _, _]) (d' := d - 1) rfl (s_X8_number (by omega) hR (by omega)) dX8_readMicros_44 kX8_128 (by omega) (by decide) rfl (Nat.le_of_ble_eq_true rfl) (rcv_o (by first | assumption | exact hT.2.1) rfl) (fun x44 M44 h44 => ?_)
                      obtain ⟨q, hM3, -, hn3'⟩ := h44
                      have ex3 := hn3' hnu
                      subst ex3
                      subst hM3
                      refine x_goto (tgt := 51) dX8_readMicros_47 (by decide) ?_
                      refine x_istore (L' := [some _, some _, some _, some _, some _]) dX8_readMicros_51 (by decide) rfl ?_
                      refine x_iload dX8_readMicros_53 rfl ?_
                      refine x_if_ge (tgt := 60) dX8_readMicros_55 (by decide) (fun h55 => ?_) (fun h55 => ?_)
                      · omega
                      · refine x_iconst dX8_readMicros_58 rfl ?_
                        refine x_zreturn (by first | exact Or.inl rfl | exact Or.inr rfl | exact vB_r _ | exact vP_r _ | assumption | omega) rfl dX8_readMicros_59 ?_
                        exact hQ2 _ _ (BOut.f (hr.trans er) hh)
                  · omega
              · have er : rMic tp e o (fu + 1) p0 u = rMic tp e o fu y (micU u o (kndW tp (skB tp e p0) (wdB tp e (skB tp e p0))) z) := by
                  refine (if_neg hk0).trans ((if_neg hn3).trans ((if_pos hnm).trans ?_))
                  rw [hnu]
                have hnr := numP_r hs2.2 hnu
                have hy2 := skB_r (tp := tp) (e := e) (p := y) (by omega)
                have hy3 := wdB_r (tp := tp) hy2.2
                refine x_iload_n dX8_readMicros_15 rfl rfl ?_
                refine x_if_lt (tgt := 119) dX8_readMicros_16 (by decide) (fun h16 => ?_) (fun h16 => ?_)
                · omega
                · refine x_aload_n dX8_readMicros_19 rfl rfl ?_
                  refine x_iload_n dX8_readMicros_20 rfl rfl ?_
                  refine x_iconst dX8_readMicros_21 rfl ?_
                  refine g_callI (vs := [_, _, _]) (d' := d - 1) rfl (s_X8_of (by omega) hT mQ_wf (by omega) (by omega)) dX8_readMicros_22 kX8_78 (by omega) (by decide) rfl (Nat.le_of_ble_eq_true rfl) (rcv_o (by first | assumption | exact hT.2.1) rfl) (fun x22 M22 h22 => ?_)
                  obtain ⟨e22, f22⟩ := h22
                  have f22' := f22.symm
                  subst f22'
                  subst e22
                  try simp (disch := omega) only [rdI_e, rdI_n, rdC_i, rdC_o, rdW, rdR, rdU_e, rdU_n, rdLW, Int.add_zero, mQ_p, mQ_b, mQ_d, mQ_c, mQ_w, mQ_e, mQ_t, he, htp]
                  refine x_istore_n (L' := [some _, some _, some _, some _, none]) dX8_readMicros_25 rfl (by decide) rfl ?_
                  refine x_iload_n dX8_readMicros_26 rfl rfl ?_
                  refine x_iconst dX8_readMicros_27 rfl ?_
                  refine x_icmp_ne (tgt := 33) dX8_readMicros_28 (by decide) (fun h28 => ?_) (fun h28 => ?_)
                  · refine x_iload_n dX8_readMicros_33 rfl rfl ?_
                    refine g_callI (vs := [_]) (d' := d - 1) rfl (s_X8_hasNumber (by omega)) dX8_readMicros_34 kX8_156 (by omega) (by decide) rfl (Nat.le_of_ble_eq_true rfl) (rcv_n) (fun x34 M34 h34 => ?_)
                    obtain ⟨e34, f34⟩ := h34
                    have f34' := f34.symm
                    subst f34'
                    subst e34
                    try simp (disch := omega) only [rdI_e, rdI_n, rdC_i, rdC_o, rdW, rdR, rdU_e, rdU_n, rdLW, Int.add_zero, mQ_p, mQ_b, mQ_d, mQ_c, mQ_w, mQ_e, mQ_t, he, htp]
                    refine x_if_eq (tgt := 50) dX8_readMicros_37 (by decide) (fun h37 => ?_) (fun h37 => ?_)
                    · try simp only [vP_0, vP_1, vP_n0, vP_n1, Classical.not_not] at h37
                      exact absurd hnm h37
                    · try simp only [vP_0, vP_1, vP_n0, vP_n1, Classical.not_not] at h37
                      refine x_aload_n dX8_readMicros_40 rfl rfl ?_
                      refine x_iconst dX8_readMicros_41 rfl ?_
                      refine x_bipush dX8_readMicros_42 rfl ?_
                      refine g_callI (vs := [_, _, _]) (d' := d - 1) rfl (s_X8_number (by omega) hR (by omega)) dX8_readMicros_44 kX8_128 (by omega) (by decide) rfl (Nat.le_of_ble_eq_true rfl) (rcv_o (by first | assumption | exact hT.2.1) rfl) (fun x44 M44 h44 => ?_)
                      obtain ⟨q, hM3, hn3', -⟩ := h44
                      obtain ⟨eq3, ex3⟩ := hn3' _ _ hnu
                      subst ex3
                      subst eq3
                      subst hM3
                      refine x_goto (tgt := 51) dX8_readMicros_47 (by decide) ?_
                      refine x_istore (L' := [some _, some _, some _, some _, some _]) dX8_readMicros_51 (by decide) rfl ?_
                      refine x_iload dX8_readMicros_53 rfl ?_
                      refine x_if_ge (tgt := 60) dX8_readMicros_55 (by decide) (fun h55 => ?_) (fun h55 => ?_)
                      · refine x_aload_n dX8_readMicros_60 rfl rfl ?_
                        refine g_getR (kI := 1) rfl dX8_readMicros_61 fX8_13_8 (by first | assumption | exact hT.2.1) (by first | assumption | exact hT.2.1) ?_
                        refine x_iload_n dX8_readMicros_64 rfl rfl ?_
                        refine x_iconst dX8_readMicros_65 rfl ?_
                        refine x_iconst dX8_readMicros_66 rfl ?_
                        refine x_iload_n dX8_readMicros_67 rfl rfl ?_
                        first | refine x_imulN dX8_readMicros_68 (by unfold i32; omega) ?_ | refine x_imul dX8_readMicros_68 ?_
                        first | refine x_iaddN dX8_readMicros_69 (by unfold i32; omega) ?_ | refine x_iadd dX8_readMicros_69 ?_
                        refine g_callI (vs := [_, _]) (d' := d - 1) rfl (s_X8_opAt (by omega) (by omega) (by omega)) dX8_readMicros_70 kX8_74 (by omega) (by decide) rfl (Nat.le_of_ble_eq_true rfl) (rcv_n) (fun x70 M70 h70 => ?_)
                        obtain ⟨e70, f70⟩ := h70
                        have f70' := f70.symm
                        subst f70'
                        subst e70
                        try simp (disch := omega) only [rdI_e, rdI_n, rdC_i, rdC_o, rdW, rdR, rdU_e, rdU_n, rdLW, Int.add_zero, mQ_p, mQ_b, mQ_d, mQ_c, mQ_w, mQ_e, mQ_t, he, htp]
                        refine x_iload_n dX8_readMicros_73 rfl rfl ?_
                        refine x_iast (by omega) dX8_readMicros_74 (by first | assumption | exact hT.2.1) (by omega) (by omega) ?_
                        try simp only [mQ_wp, mQ_wb, mQ_wd, mQ_wc, mQ_ww]
                        refine x_aload_n dX8_readMicros_75 rfl rfl ?_
                        refine g_getR (kI := 1) rfl dX8_readMicros_76 fX8_13_8 (by first | assumption | exact hT.2.1) (by first | assumption | exact hT.2.1) ?_
                        refine x_iload_n dX8_readMicros_79 rfl rfl ?_
                        refine x_iconst dX8_readMicros_80 rfl ?_
                        refine x_iconst dX8_readMicros_81 rfl ?_
                        refine x_iload_n dX8_readMicros_82 rfl rfl ?_
                        first | refine x_imulN dX8_readMicros_83 (by unfold i32; omega) ?_ | refine x_imul dX8_readMicros_83 ?_
                        first | refine x_iaddN dX8_readMicros_84 (by unfold i32; omega) ?_ | refine x_iadd dX8_readMicros_84 ?_
                        refine x_iconst dX8_readMicros_85 rfl ?_
                        first | refine x_iaddN dX8_readMicros_86 (by unfold i32; omega) ?_ | refine x_iadd dX8_readMicros_86 ?_
                        refine g_callI (vs := [_, _]) (d' := d - 1) rfl (s_X8_opAt (by omega) (by omega) (by omega)) dX8_readMicros_87 kX8_74 (by omega) (by decide) rfl (Nat.le_of_ble_eq_true rfl) (rcv_n) (fun x87 M87 h87 => ?_)
                        obtain ⟨e87, f87⟩ := h87
                        have f87' := f87.symm
                        subst f87'
                        subst e87
                        try simp (disch := omega) only [rdI_e, rdI_n, rdC_i, rdC_o, rdW, rdR, rdU_e, rdU_n, rdLW, Int.add_zero, mQ_p, mQ_b, mQ_d, mQ_c, mQ_w, mQ_e, mQ_t, he, htp]
                        refine x_iload dX8_readMicros_90 rfl ?_
                        refine x_iast (by omega) dX8_readMicros_92 (by first | assumption | exact hT.2.1) (by omega) (by omega) ?_
                        try simp only [mQ_wp, mQ_wb, mQ_wd, mQ_wc, mQ_ww]
                        refine x_aload_n dX8_readMicros_93 rfl rfl ?_
                        refine g_getR (kI := 1) rfl dX8_readMicros_94 fX8_13_8 (by first | assumption | exact hT.2.1) (by first | assumption | exact hT.2.1) ?_
                        refine x_iload_n dX8_readMicros_97 rfl rfl ?_
                        refine x_iconst dX8_readMicros_98 rfl ?_
                        refine g_callI (vs := [_, _]) (d' := d - 1) rfl (s_X8_opAt (by omega) (by omega) (by omega)) dX8_readMicros_99 kX8_74 (by omega) (by decide) rfl (Nat.le_of_ble_eq_true rfl) (rcv_n) (fun x99 M99 h99 => ?_)
                        obtain ⟨e99, f99⟩ := h99
                        have f99' := f99.symm
                        subst f99'
                        subst e99
                        try simp (disch := omega) only [rdI_e, rdI_n, rdC_i, rdC_o, rdW, rdR, rdU_e, rdU_n, rdLW, Int.add_zero, mQ_p, mQ_b, mQ_d, mQ_c, mQ_w, mQ_e, mQ_t, he, htp]
                        refine x_dup2 dX8_readMicros_102 rfl rfl ?_
                        refine x_iald dX8_readMicros_103 (by first | assumption | exact hT.2.1) (by omega) (by omega) ?_
                        try simp (disch := omega) only [rdI_e, rdI_n, rdC_i, rdC_o, rdW, rdR, rdU_e, rdU_n, rdLW, Int.add_zero, mQ_p, mQ_b, mQ_d, mQ_c, mQ_w, mQ_e, mQ_t, he, htp]
                        refine x_iconst dX8_readMicros_104 rfl ?_
                        rw [en2 _ _ _ _ (by omega) (by omega)]
                        first | refine x_iaddN dX8_readMicros_105 (by unfold i32; omega) ?_ | refine x_iadd dX8_readMicros_105 ?_
                        refine x_iast (by omega) dX8_readMicros_106 (by first | assumption | exact hT.2.1) (by omega) (by omega) ?_
                        try simp only [mQ_wp, mQ_wb, mQ_wd, mQ_wc, mQ_ww]
                        rw [micE (o := o) (by omega) (by omega) (by omega) (by omega)]
                        refine x_aload_n dX8_readMicros_107 rfl rfl ?_
                        refine g_callN (vs := [_]) (d' := d - 1) rfl (s_X8_letters (by omega) hR (by omega)) dX8_readMicros_108 kX8_121 (by omega) (by decide) rfl (Nat.le_of_ble_eq_true rfl) (rcv_o (by first | assumption | exact hT.2.1) rfl) (fun M108 h108 => ?_)
                        have f108 := h108.symm
                        subst f108
                        refine x_aload_n dX8_readMicros_111 rfl rfl ?_
                        refine g_callI (vs := [_]) (d' := d - 1) rfl (s_X8_kindRead (by omega) hR (by omega)) dX8_readMicros_112 kX8_153 (by omega) (by decide) rfl (Nat.le_of_ble_eq_true rfl) (rcv_o (by first | assumption | exact hT.2.1) rfl) (fun x112 M112 h112 => ?_)
                        obtain ⟨e112, f112⟩ := h112
                        have f112' := f112.symm
                        subst f112'
                        subst e112
                        try simp (disch := omega) only [rdI_e, rdI_n, rdC_i, rdC_o, rdW, rdR, rdU_e, rdU_n, rdLW, Int.add_zero, mQ_p, mQ_b, mQ_d, mQ_c, mQ_w, mQ_e, mQ_t, he, htp]
                        refine x_istore_n (L' := [some _, some _, some _, some _, some _]) dX8_readMicros_115 rfl (by decide) rfl ?_
                        refine x_goto (tgt := 15) dX8_readMicros_116 (by decide) ?_
                        exact x_fgt (by repeat (first | exact trivial | refine ⟨rfl, ?_⟩)) (ih _ (by omega) q _ fu rfl (by omega) (by rw [micN]; omega) (hr.trans er) (micH hh ho (by omega)))
                      · omega
                  · omega
            · have er : rMic tp e o (fu + 1) p0 u = rMic tp e o fu (wdB tp e (skB tp e p0)) (micU u o (kndW tp (skB tp e p0) (wdB tp e (skB tp e p0))) 0) := (if_neg hk0).trans ((if_neg hn3).trans (if_neg hnm))
              have hy2 := skB_r (tp := tp) hs2.2
              have hy3 := wdB_r (tp := tp) hy2.2
              refine x_iload_n dX8_readMicros_15 rfl rfl ?_
              refine x_if_lt (tgt := 119) dX8_readMicros_16 (by decide) (fun h16 => ?_) (fun h16 => ?_)
              · omega
              · refine x_aload_n dX8_readMicros_19 rfl rfl ?_
                refine x_iload_n dX8_readMicros_20 rfl rfl ?_
                refine x_iconst dX8_readMicros_21 rfl ?_
                refine g_callI (vs := [_, _, _]) (d' := d - 1) rfl (s_X8_of (by omega) hT mQ_wf (by omega) (by omega)) dX8_readMicros_22 kX8_78 (by omega) (by decide) rfl (Nat.le_of_ble_eq_true rfl) (rcv_o (by first | assumption | exact hT.2.1) rfl) (fun x22 M22 h22 => ?_)
                obtain ⟨e22, f22⟩ := h22
                have f22' := f22.symm
                subst f22'
                subst e22
                try simp (disch := omega) only [rdI_e, rdI_n, rdC_i, rdC_o, rdW, rdR, rdU_e, rdU_n, rdLW, Int.add_zero, mQ_p, mQ_b, mQ_d, mQ_c, mQ_w, mQ_e, mQ_t, he, htp]
                refine x_istore_n (L' := [some _, some _, some _, some _, none]) dX8_readMicros_25 rfl (by decide) rfl ?_
                refine x_iload_n dX8_readMicros_26 rfl rfl ?_
                refine x_iconst dX8_readMicros_27 rfl ?_
                refine x_icmp_ne (tgt := 33) dX8_readMicros_28 (by decide) (fun h28 => ?_) (fun h28 => ?_)
                · refine x_iload_n dX8_readMicros_33 rfl rfl ?_
                  refine g_callI (vs := [_]) (d' := d - 1) rfl (s_X8_hasNumber (by omega)) dX8_readMicros_34 kX8_156 (by omega) (by decide) rfl (Nat.le_of_ble_eq_true rfl) (rcv_n) (fun x34 M34 h34 => ?_)
                  obtain ⟨e34, f34⟩ := h34
                  have f34' := f34.symm
                  subst f34'
                  subst e34
                  try simp (disch := omega) only [rdI_e, rdI_n, rdC_i, rdC_o, rdW, rdR, rdU_e, rdU_n, rdLW, Int.add_zero, mQ_p, mQ_b, mQ_d, mQ_c, mQ_w, mQ_e, mQ_t, he, htp]
                  refine x_if_eq (tgt := 50) dX8_readMicros_37 (by decide) (fun h37 => ?_) (fun h37 => ?_)
                  · try simp only [vP_0, vP_1, vP_n0, vP_n1, Classical.not_not] at h37
                    refine x_iconst dX8_readMicros_50 rfl ?_
                    refine x_istore (L' := [some _, some _, some _, some _, some _]) dX8_readMicros_51 (by decide) rfl ?_
                    refine x_iload dX8_readMicros_53 rfl ?_
                    refine x_if_ge (tgt := 60) dX8_readMicros_55 (by decide) (fun h55 => ?_) (fun h55 => ?_)
                    · refine x_aload_n dX8_readMicros_60 rfl rfl ?_
                      refine g_getR (kI := 1) rfl dX8_readMicros_61 fX8_13_8 (by first | assumption | exact hT.2.1) (by first | assumption | exact hT.2.1) ?_
                      refine x_iload_n dX8_readMicros_64 rfl rfl ?_
                      refine x_iconst dX8_readMicros_65 rfl ?_
                      refine x_iconst dX8_readMicros_66 rfl ?_
                      refine x_iload_n dX8_readMicros_67 rfl rfl ?_
                      first | refine x_imulN dX8_readMicros_68 (by unfold i32; omega) ?_ | refine x_imul dX8_readMicros_68 ?_
                      first | refine x_iaddN dX8_readMicros_69 (by unfold i32; omega) ?_ | refine x_iadd dX8_readMicros_69 ?_
                      refine g_callI (vs := [_, _]) (d' := d - 1) rfl (s_X8_opAt (by omega) (by omega) (by omega)) dX8_readMicros_70 kX8_74 (by omega) (by decide) rfl (Nat.le_of_ble_eq_true rfl) (rcv_n) (fun x70 M70 h70 => ?_)
                      obtain ⟨e70, f70⟩ := h70
                      have f70' := f70.symm
                      subst f70'
                      subst e70
                      try simp (disch := omega) only [rdI_e, rdI_n, rdC_i, rdC_o, rdW, rdR, rdU_e, rdU_n, rdLW, Int.add_zero, mQ_p, mQ_b, mQ_d, mQ_c, mQ_w, mQ_e, mQ_t, he, htp]
                      refine x_iload_n dX8_readMicros_73 rfl rfl ?_
                      refine x_iast (by omega) dX8_readMicros_74 (by first | assumption | exact hT.2.1) (by omega) (by omega) ?_
                      try simp only [mQ_wp, mQ_wb, mQ_wd, mQ_wc, mQ_ww]
                      refine x_aload_n dX8_readMicros_75 rfl rfl ?_
                      refine g_getR (kI := 1) rfl dX8_readMicros_76 fX8_13_8 (by first | assumption | exact hT.2.1) (by first | assumption | exact hT.2.1) ?_
                      refine x_iload_n dX8_readMicros_79 rfl rfl ?_
                      refine x_iconst dX8_readMicros_80 rfl ?_
                      refine x_iconst dX8_readMicros_81 rfl ?_
                      refine x_iload_n dX8_readMicros_82 rfl rfl ?_
                      first | refine x_imulN dX8_readMicros_83 (by unfold i32; omega) ?_ | refine x_imul dX8_readMicros_83 ?_
                      first | refine x_iaddN dX8_readMicros_84 (by unfold i32; omega) ?_ | refine x_iadd dX8_readMicros_84 ?_
                      refine x_iconst dX8_readMicros_85 rfl ?_
                      first | refine x_iaddN dX8_readMicros_86 (by unfold i32; omega) ?_ | refine x_iadd dX8_readMicros_86 ?_
                      refine g_callI (vs := [_, _]) (d' := d - 1) rfl (s_X8_opAt (by omega) (by omega) (by omega)) dX8_readMicros_87 kX8_74 (by omega) (by decide) rfl (Nat.le_of_ble_eq_true rfl) (rcv_n) (fun x87 M87 h87 => ?_)
                      obtain ⟨e87, f87⟩ := h87
                      have f87' := f87.symm
                      subst f87'
                      subst e87
                      try simp (disch := omega) only [rdI_e, rdI_n, rdC_i, rdC_o, rdW, rdR, rdU_e, rdU_n, rdLW, Int.add_zero, mQ_p, mQ_b, mQ_d, mQ_c, mQ_w, mQ_e, mQ_t, he, htp]
                      refine x_iload dX8_readMicros_90 rfl ?_
                      refine x_iast (by omega) dX8_readMicros_92 (by first | assumption | exact hT.2.1) (by omega) (by omega) ?_
                      try simp only [mQ_wp, mQ_wb, mQ_wd, mQ_wc, mQ_ww]
                      refine x_aload_n dX8_readMicros_93 rfl rfl ?_
                      refine g_getR (kI := 1) rfl dX8_readMicros_94 fX8_13_8 (by first | assumption | exact hT.2.1) (by first | assumption | exact hT.2.1) ?_
                      refine x_iload_n dX8_readMicros_97 rfl rfl ?_
                      refine x_iconst dX8_readMicros_98 rfl ?_
                      refine g_callI (vs := [_, _]) (d' := d - 1) rfl (s_X8_opAt (by omega) (by omega) (by omega)) dX8_readMicros_99 kX8_74 (by omega) (by decide) rfl (Nat.le_of_ble_eq_true rfl) (rcv_n) (fun x99 M99 h99 => ?_)
                      obtain ⟨e99, f99⟩ := h99
                      have f99' := f99.symm
                      subst f99'
                      subst e99
                      try simp (disch := omega) only [rdI_e, rdI_n, rdC_i, rdC_o, rdW, rdR, rdU_e, rdU_n, rdLW, Int.add_zero, mQ_p, mQ_b, mQ_d, mQ_c, mQ_w, mQ_e, mQ_t, he, htp]
                      refine x_dup2 dX8_readMicros_102 rfl rfl ?_
                      refine x_iald dX8_readMicros_103 (by first | assumption | exact hT.2.1) (by omega) (by omega) ?_
                      try simp (disch := omega) only [rdI_e, rdI_n, rdC_i, rdC_o, rdW, rdR, rdU_e, rdU_n, rdLW, Int.add_zero, mQ_p, mQ_b, mQ_d, mQ_c, mQ_w, mQ_e, mQ_t, he, htp]
                      refine x_iconst dX8_readMicros_104 rfl ?_
                      rw [en2 _ _ _ _ (by omega) (by omega)]
                      first | refine x_iaddN dX8_readMicros_105 (by unfold i32; omega) ?_ | refine x_iadd dX8_readMicros_105 ?_
                      refine x_iast (by omega) dX8_readMicros_106 (by first | assumption | exact hT.2.1) (by omega) (by omega) ?_
                      try simp only [mQ_wp, mQ_wb, mQ_wd, mQ_wc, mQ_ww]
                      rw [micE (o := o) (by omega) (by omega) (by omega) (by omega)]
                      refine x_aload_n dX8_readMicros_107 rfl rfl ?_
                      refine g_callN (vs := [_]) (d' := d - 1) rfl (s_X8_letters (by omega) hR (by omega)) dX8_readMicros_108 kX8_121 (by omega) (by decide) rfl (Nat.le_of_ble_eq_true rfl) (rcv_o (by first | assumption | exact hT.2.1) rfl) (fun M108 h108 => ?_)
                      have f108 := h108.symm
                      subst f108
                      refine x_aload_n dX8_readMicros_111 rfl rfl ?_
                      refine g_callI (vs := [_]) (d' := d - 1) rfl (s_X8_kindRead (by omega) hR (by omega)) dX8_readMicros_112 kX8_153 (by omega) (by decide) rfl (Nat.le_of_ble_eq_true rfl) (rcv_o (by first | assumption | exact hT.2.1) rfl) (fun x112 M112 h112 => ?_)
                      obtain ⟨e112, f112⟩ := h112
                      have f112' := f112.symm
                      subst f112'
                      subst e112
                      try simp (disch := omega) only [rdI_e, rdI_n, rdC_i, rdC_o, rdW, rdR, rdU_e, rdU_n, rdLW, Int.add_zero, mQ_p, mQ_b, mQ_d, mQ_c, mQ_w, mQ_e, mQ_t, he, htp]
                      refine x_istore_n (L' := [some _, some _, some _, some _, some _]) dX8_readMicros_115 rfl (by decide) rfl ?_
                      refine x_goto (tgt := 15) dX8_readMicros_116 (by decide) ?_
                      exact x_fgt (by repeat (first | exact trivial | refine ⟨rfl, ?_⟩)) (ih _ (by omega) (wdB tp e (skB tp e p0)) _ fu rfl (by omega) (by rw [micN]; omega) (hr.trans er) (micH hh ho (by omega)))
                    · omega
                  · try simp only [vP_0, vP_1, vP_n0, vP_n1, Classical.not_not] at h37
                    exact absurd h37 hnm
                · omega
    refine x_aload_n dX8_readMicros_0 rfl rfl ?_
    refine g_callN (vs := [_]) (d' := d - 1) rfl (s_X8_letters (by omega) hR (by omega)) dX8_readMicros_1 kX8_121 (by omega) (by decide) rfl (Nat.le_of_ble_eq_true rfl) (rcv_o (by first | assumption | exact hT.2.1) rfl) (fun M1 h1 => ?_)
    have f1 := h1.symm
    subst f1
    refine x_aload_n dX8_readMicros_4 rfl rfl ?_
    refine g_callI (vs := [_]) (d' := d - 1) rfl (s_X8_kindRead (by omega) hR (by omega)) dX8_readMicros_5 kX8_153 (by omega) (by decide) rfl (Nat.le_of_ble_eq_true rfl) (rcv_o (by first | assumption | exact hT.2.1) rfl) (fun x5 M5 h5 => ?_)
    obtain ⟨e5, f5⟩ := h5
    have f5' := f5.symm
    subst f5'
    subst e5
    try simp (disch := omega) only [rdI_e, rdI_n, rdC_i, rdC_o, rdW, rdR, rdU_e, rdU_n, rdLW, Int.add_zero, mQ_p, mQ_b, mQ_d, mQ_c, mQ_w, mQ_e, mQ_t, he, htp]
    refine x_istore_n (L' := [some _, some _, some _, none, none]) dX8_readMicros_8 rfl (by decide) rfl ?_
    refine x_iload_n dX8_readMicros_9 rfl rfl ?_
    refine x_if_ge (tgt := 15) dX8_readMicros_10 (by decide) (fun h10 => ?_) (fun h10 => ?_)
    · exact lp _ p w 5 rfl hp (by omega) rfl hiW.rfl
    · omega
end X8

