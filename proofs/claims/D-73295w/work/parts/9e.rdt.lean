/-! GuestViewModel: reading of a law, atoms at all depths -/
theorem rAtm_0 {tp : Int → Int} {e p c : Int} {u : Vw} : rAtm tp e 0 (p, c, u) = (if chP tp e 40 40 (skB tp e p) ∨ isW tp (skB tp e p) (wdB tp e (skB tp e p)) (txB 31) then .inl (skB tp e p) else rCmp tp e (skB tp e p, c, u)) := rfl
theorem rAtm_e {tp : Int → Int} {e p c : Int} {u : Vw} {t : Nat} : rAtm tp e (t + 1) (p, c, u) = (if chP tp e 40 40 (skB tp e p) then
      match rCnd tp e (rAtm tp e t) (skB tp e p + 1, c, u) with
      | .inl x => .inl x
      | .inr y => if chP tp e 41 41 (skB tp e y.1) then .inr (skB tp e y.1 + 1, y.2) else .inl (skB tp e y.1)
    else if isW tp (skB tp e p) (wdB tp e (skB tp e p)) (txB 31) then
      match rAtm tp e t (wdB tp e (skB tp e p), c, u) with
      | .inl x => .inl x
      | .inr y => .inr (em y 14 0)
    else rCmp tp e (skB tp e p, c, u)) := rfl
theorem not_p {tp : Int → Int} {e p : Int} (h : chP tp e 40 40 (skB tp e p)) : ¬ isW tp (skB tp e p) (wdB tp e (skB tp e p)) (txB 31) := fun q => by
  have hn : ¬ chP tp e 97 122 (skB tp e p) := fun z => by have := z.2.1; have := h.2.2; omega
  have ew : wdB tp e (skB tp e p) = skB tp e p := spB_e hn
  have q1 := q.1
  have hl : (0 : Int) < ((txB 31).length : Int) := by decide
  omega
section X8
variable {G : GW} {M : Mem} {m e : Int} {v : Vw} {tp : Int → Int}
theorem s_X8_readAtom (hR : RdH M m tp e) : ∀ (lv : Nat) (d : Nat) (dp p b c : Int) (u : Vw), 24 + 3 * lv ≤ d → 0 ≤ dp ∧ dp + lv = 6 → (0 ≤ p ∧ p ≤ e) ∧ 0 ≤ c ∧ c < p → CS G d mX8_readAtom [dR m] (mQr M m p b dp c (drf v u)) (postI fun x M1 => LOut M m dp v (rAtm tp e lv (p, c, u)) x M1) := by
  obtain ⟨hT, he, htp, he2, hX⟩ := id hR
  intro lv
  induction lv with
  | zero =>
    intro d dp p b c u hd hdp hp
    have hs := skB_r (tp := tp) hp.1.2
    have hi := skB_i (tp := tp) (e := e) (p := p) _ rfl
    have hT_ := hT; obtain ⟨p0, p1, ⟨c1, c2, c3, c4, c5, c6, c7, c8, c9, c10, c11, c12, c13, c14, c15⟩, ⟨t1, t2, t3, t4, t5, t6, t7, t8, t9, t10, t11, t12, t13, t14, t15⟩⟩ := hT_
    refine CS.mkQ (by decide) (Nat.le_of_ble_eq_true rfl) fun Q hQ => ?_
    by_cases h1 : chP tp e 40 40 (skB tp e p)
    · have er : rAtm tp e 0 (p, c, u) = .inl (skB tp e p) := if_pos (Or.inl h1)
      have h1' := h1.1
      refine x_aload_n dX8_readAtom_0 rfl rfl ?_
      refine x_bipush dX8_readAtom_1 rfl ?_
      refine g_callI (vs := [_, _]) (d' := d - 1) rfl (s_X8_sign (by omega) hR (by omega)) dX8_readAtom_3 kX8_227 (by omega) (by decide) rfl (Nat.le_of_ble_eq_true rfl) (rcv_o (by first | assumption | exact hT.2.1) rfl) (fun x3 M3 h3 => ?_)
      obtain ⟨e1, t1', -⟩ := h3
      have hM := t1' h1
      subst hM
      rw [vP_t h1] at e1
      subst e1
      refine x_if_eq (tgt := 56) dX8_readAtom_6 (by decide) (fun h6 => ?_) (fun h6 => ?_)
      · try simp only [vP_0, vP_1, vP_n0, vP_n1, Classical.not_not] at h6
        simp at h6
      · try simp only [vP_0, vP_1, vP_n0, vP_n1, Classical.not_not] at h6
        refine x_aload_n dX8_readAtom_9 rfl rfl ?_
        refine g_getI (kI := 13) rfl dX8_readAtom_10 fX8_234_8 (by first | assumption | exact hT.2.1) ?_
        try simp (disch := omega) only [rdI_e, rdI_n, rdC_i, rdC_o, rdW, rdR, rdU_e, rdU_n, rdLW, Int.add_zero, mQ_p, mQ_b, mQ_d, mQ_c, mQ_w, mQ_e, mQ_t, he, htp]
        refine x_bipush dX8_readAtom_13 rfl ?_
        refine x_icmp_ne (tgt := 20) dX8_readAtom_15 (by decide) (fun h15 => ?_) (fun h15 => ?_)
        · omega
        · refine x_iconst dX8_readAtom_18 rfl ?_
          refine x_zreturn (by first | exact Or.inl rfl | exact Or.inr rfl | exact vB_r _ | exact vP_r _ | assumption | omega) rfl dX8_readAtom_19 ?_
          exact hQ _ _ ⟨_, rfl, LOut.f er⟩
    · by_cases h2 : isW tp (skB tp e p) (wdB tp e (skB tp e p)) (txB 31)
      · have er : rAtm tp e 0 (p, c, u) = .inl (skB tp e p) := if_pos (Or.inr h2)
        have h2' : isW tp (skB tp e (skB tp e p)) (wdB tp e (skB tp e (skB tp e p))) (txB 31) := by rw [hi]; exact h2
        refine x_aload_n dX8_readAtom_0 rfl rfl ?_
        refine x_bipush dX8_readAtom_1 rfl ?_
        refine g_callI (vs := [_, _]) (d' := d - 1) rfl (s_X8_sign (by omega) hR (by omega)) dX8_readAtom_3 kX8_227 (by omega) (by decide) rfl (Nat.le_of_ble_eq_true rfl) (rcv_o (by first | assumption | exact hT.2.1) rfl) (fun x3 M3 h3 => ?_)
        obtain ⟨e1, -, f1'⟩ := h3
        have hM := f1' h1
        subst hM
        rw [vP_f h1] at e1
        subst e1
        refine x_if_eq (tgt := 56) dX8_readAtom_6 (by decide) (fun h6 => ?_) (fun h6 => ?_)
        · try simp only [vP_0, vP_1, vP_n0, vP_n1, Classical.not_not] at h6
          refine x_aload_n dX8_readAtom_56 rfl rfl ?_
          refine x_ldcs dX8_readAtom_57 (List.mem_of_getElem? (i := 57) rfl) ?_
          refine g_callI (vs := [_, _]) (d' := d - 1) rfl (s_X8_passes (i := 31) (by omega) hR (by omega) (by omega) rfl) dX8_readAtom_59 kX8_162 (by omega) (by decide) rfl (Nat.le_of_ble_eq_true rfl) (rcv_o (by first | assumption | exact hT.2.1) rfl) (fun x59 M59 h59 => ?_)
          obtain ⟨e2, t2', -⟩ := h59
          have hM := t2' h2'
          subst hM
          rw [vP_t h2'] at e2
          subst e2
          rw [hi]
          refine x_if_eq (tgt := 114) dX8_readAtom_62 (by decide) (fun h62 => ?_) (fun h62 => ?_)
          · try simp only [vP_0, vP_1, vP_n0, vP_n1, Classical.not_not] at h62
            simp at h62
          · try simp only [vP_0, vP_1, vP_n0, vP_n1, Classical.not_not] at h62
            refine x_aload_n dX8_readAtom_65 rfl rfl ?_
            refine g_getI (kI := 13) rfl dX8_readAtom_66 fX8_234_8 (by first | assumption | exact hT.2.1) ?_
            try simp (disch := omega) only [rdI_e, rdI_n, rdC_i, rdC_o, rdW, rdR, rdU_e, rdU_n, rdLW, Int.add_zero, mQ_p, mQ_b, mQ_d, mQ_c, mQ_w, mQ_e, mQ_t, he, htp]
            refine x_bipush dX8_readAtom_69 rfl ?_
            refine x_icmp_ne (tgt := 76) dX8_readAtom_71 (by decide) (fun h71 => ?_) (fun h71 => ?_)
            · omega
            · refine x_iconst dX8_readAtom_74 rfl ?_
              refine x_zreturn (by first | exact Or.inl rfl | exact Or.inr rfl | exact vB_r _ | exact vP_r _ | assumption | omega) rfl dX8_readAtom_75 ?_
              exact hQ _ _ ⟨_, rfl, LOut.f er⟩
        · try simp only [vP_0, vP_1, vP_n0, vP_n1, Classical.not_not] at h6
          simp at h6
      · have er : rAtm tp e 0 (p, c, u) = rCmp tp e (skB tp e p, c, u) := if_neg (fun q => by rcases q with q | q; exact h1 q; exact h2 q)
        have h2' : ¬ isW tp (skB tp e (skB tp e p)) (wdB tp e (skB tp e (skB tp e p))) (txB 31) := by rw [hi]; exact h2
        refine x_aload_n dX8_readAtom_0 rfl rfl ?_
        refine x_bipush dX8_readAtom_1 rfl ?_
        refine g_callI (vs := [_, _]) (d' := d - 1) rfl (s_X8_sign (by omega) hR (by omega)) dX8_readAtom_3 kX8_227 (by omega) (by decide) rfl (Nat.le_of_ble_eq_true rfl) (rcv_o (by first | assumption | exact hT.2.1) rfl) (fun x3 M3 h3 => ?_)
        obtain ⟨e1, -, f1'⟩ := h3
        have hM := f1' h1
        subst hM
        rw [vP_f h1] at e1
        subst e1
        refine x_if_eq (tgt := 56) dX8_readAtom_6 (by decide) (fun h6 => ?_) (fun h6 => ?_)
        · try simp only [vP_0, vP_1, vP_n0, vP_n1, Classical.not_not] at h6
          refine x_aload_n dX8_readAtom_56 rfl rfl ?_
          refine x_ldcs dX8_readAtom_57 (List.mem_of_getElem? (i := 57) rfl) ?_
          refine g_callI (vs := [_, _]) (d' := d - 1) rfl (s_X8_passes (i := 31) (by omega) hR (by omega) (by omega) rfl) dX8_readAtom_59 kX8_162 (by omega) (by decide) rfl (Nat.le_of_ble_eq_true rfl) (rcv_o (by first | assumption | exact hT.2.1) rfl) (fun x59 M59 h59 => ?_)
          obtain ⟨e2, -, f2'⟩ := h59
          have hM := f2' h2'
          subst hM
          rw [vP_f h2'] at e2
          subst e2
          rw [hi]
          refine x_if_eq (tgt := 114) dX8_readAtom_62 (by decide) (fun h62 => ?_) (fun h62 => ?_)
          · try simp only [vP_0, vP_1, vP_n0, vP_n1, Classical.not_not] at h62
            exact s_cmp (by omega) hR (by omega) fun x M1 q => hQ _ _ ⟨_, rfl, by rw [er]; exact q⟩
          · try simp only [vP_0, vP_1, vP_n0, vP_n1, Classical.not_not] at h62
            simp at h62
        · try simp only [vP_0, vP_1, vP_n0, vP_n1, Classical.not_not] at h6
          simp at h6
  | succ lv ihl =>
    intro d dp p b c u hd hdp hp
    have hs := skB_r (tp := tp) hp.1.2
    have hs2 := wdB_r (tp := tp) hs.2
    have hi := skB_i (tp := tp) (e := e) (p := p) _ rfl
    have hlen : (0 : Int) < ((txB 31).length : Int) := by decide
    have hC : ∀ (p b c : Int) (u : Vw), (0 ≤ p ∧ p ≤ e) ∧ 0 ≤ c ∧ c < p → CS G (d - 1) mX8_readCond [dR m] (mQr M m p b (dp + 1) c (drf v u)) (postI fun x M1 => LOut M m (dp + 1) v (rCnd tp e (rAtm tp e lv) (p, c, u)) x M1) := fun p b c u q =>
      s_X8_readCond (f := rAtm tp e lv) (rAtm_g lv) (by omega) hR (fun p b c u q => s_X8_readAllOf (f := rAtm tp e lv) (rAtm_g lv) (by omega) hR (fun p b c u q => ihl (d - 1 - 1 - 1) (dp + 1) p b c u (by omega) (by omega) q) q) q
    have hT_ := hT; obtain ⟨p0, p1, ⟨c1, c2, c3, c4, c5, c6, c7, c8, c9, c10, c11, c12, c13, c14, c15⟩, ⟨t1, t2, t3, t4, t5, t6, t7, t8, t9, t10, t11, t12, t13, t14, t15⟩⟩ := hT_
    refine CS.mkQ (by decide) (Nat.le_of_ble_eq_true rfl) fun Q hQ => ?_
    by_cases h1 : chP tp e 40 40 (skB tp e p)
    · have h1' := h1.1
      rcases hm : rCnd tp e (rAtm tp e lv) (skB tp e p + 1, c, u) with g | ⟨y1, y2, y3⟩
      · have er : rAtm tp e (lv + 1) (p, c, u) = .inl g := by
          rw [rAtm_e, if_pos h1, hm]
        refine x_aload_n dX8_readAtom_0 rfl rfl ?_
        refine x_bipush dX8_readAtom_1 rfl ?_
        refine g_callI (vs := [_, _]) (d' := d - 1) rfl (s_X8_sign (by omega) hR (by omega)) dX8_readAtom_3 kX8_227 (by omega) (by decide) rfl (Nat.le_of_ble_eq_true rfl) (rcv_o (by first | assumption | exact hT.2.1) rfl) (fun x3 M3 h3 => ?_)
        obtain ⟨e1, t1', -⟩ := h3
        have hM := t1' h1
        subst hM
        rw [vP_t h1] at e1
        subst e1
        refine x_if_eq (tgt := 56) dX8_readAtom_6 (by decide) (fun h6 => ?_) (fun h6 => ?_)
        · try simp only [vP_0, vP_1, vP_n0, vP_n1, Classical.not_not] at h6
          simp at h6
        · try simp only [vP_0, vP_1, vP_n0, vP_n1, Classical.not_not] at h6
          refine x_aload_n dX8_readAtom_9 rfl rfl ?_
          refine g_getI (kI := 13) rfl dX8_readAtom_10 fX8_234_8 (by first | assumption | exact hT.2.1) ?_
          try simp (disch := omega) only [rdI_e, rdI_n, rdC_i, rdC_o, rdW, rdR, rdU_e, rdU_n, rdLW, Int.add_zero, mQ_p, mQ_b, mQ_d, mQ_c, mQ_w, mQ_e, mQ_t, he, htp]
          refine x_bipush dX8_readAtom_13 rfl ?_
          refine x_icmp_ne (tgt := 20) dX8_readAtom_15 (by decide) (fun h15 => ?_) (fun h15 => ?_)
          · refine x_aload_n dX8_readAtom_20 rfl rfl ?_
            refine x_dup dX8_readAtom_21 rfl ?_
            refine g_getI (kI := 13) rfl dX8_readAtom_22 fX8_234_8 (by first | assumption | exact hT.2.1) ?_
            try simp (disch := omega) only [rdI_e, rdI_n, rdC_i, rdC_o, rdW, rdR, rdU_e, rdU_n, rdLW, Int.add_zero, mQ_p, mQ_b, mQ_d, mQ_c, mQ_w, mQ_e, mQ_t, he, htp]
            refine x_iconst dX8_readAtom_25 rfl ?_
            first | refine x_iaddN dX8_readAtom_26 (by unfold i32; omega) ?_ | refine x_iadd dX8_readAtom_26 ?_
            refine g_putI (kI := 13) rfl dX8_readAtom_27 fX8_234_8 (by first | assumption | exact hT.2.1) ?_
            try simp only [mQ_wp, mQ_wb, mQ_wd, mQ_wc, mQ_ww]
            refine x_aload_n dX8_readAtom_30 rfl rfl ?_
            refine g_callI (vs := [_]) (d' := d - 1) rfl (hC _ _ _ _ (by omega)) dX8_readAtom_31 kX8_237 (by omega) (by decide) rfl (Nat.le_of_ble_eq_true rfl) (rcv_o (by first | assumption | exact hT.2.1) rfl) (fun x31 M31 h31 => ?_)
            obtain ⟨eA, p1, d1, c1, u1, hM⟩ := h31.1 g hm
            subst eA
            subst hM
            refine x_if_ne (tgt := 39) dX8_readAtom_34 (by decide) (fun h34 => ?_) (fun h34 => ?_)
            · try simp only [vP_0, vP_1, vP_n0, vP_n1, Classical.not_not] at h34
              simp at h34
            · try simp only [vP_0, vP_1, vP_n0, vP_n1, Classical.not_not] at h34
              refine x_iconst dX8_readAtom_37 rfl ?_
              refine x_zreturn (by first | exact Or.inl rfl | exact Or.inr rfl | exact vB_r _ | exact vP_r _ | assumption | omega) rfl dX8_readAtom_38 ?_
              exact hQ _ _ ⟨_, rfl, LOut.f er⟩
          · omega
      · have gg := rCnd_g (rAtm_g lv) _ _ (by show skB tp e p + 1 ≤ e; omega) hm 0
        have g1 : skB tp e p + 1 ≤ y1 ∧ y1 ≤ e := gg.1
        have g2 : c ≤ y2 := gg.2.1
        have g3 : y2 - c + 0 ≤ y1 - (skB tp e p + 1) := gg.2.2.1
        have er0 : rAtm tp e (lv + 1) (p, c, u) = if chP tp e 41 41 (skB tp e y1) then .inr (skB tp e y1 + 1, y2, y3) else .inl (skB tp e y1) := by
          rw [rAtm_e, if_pos h1, hm]
        by_cases h3 : chP tp e 41 41 (skB tp e y1)
        · have er := er0.trans (if_pos h3)
          refine x_aload_n dX8_readAtom_0 rfl rfl ?_
          refine x_bipush dX8_readAtom_1 rfl ?_
          refine g_callI (vs := [_, _]) (d' := d - 1) rfl (s_X8_sign (by omega) hR (by omega)) dX8_readAtom_3 kX8_227 (by omega) (by decide) rfl (Nat.le_of_ble_eq_true rfl) (rcv_o (by first | assumption | exact hT.2.1) rfl) (fun x3 M3 h3 => ?_)
          obtain ⟨e1, t1', -⟩ := h3
          have hM := t1' h1
          subst hM
          rw [vP_t h1] at e1
          subst e1
          refine x_if_eq (tgt := 56) dX8_readAtom_6 (by decide) (fun h6 => ?_) (fun h6 => ?_)
          · try simp only [vP_0, vP_1, vP_n0, vP_n1, Classical.not_not] at h6
            simp at h6
          · try simp only [vP_0, vP_1, vP_n0, vP_n1, Classical.not_not] at h6
            refine x_aload_n dX8_readAtom_9 rfl rfl ?_
            refine g_getI (kI := 13) rfl dX8_readAtom_10 fX8_234_8 (by first | assumption | exact hT.2.1) ?_
            try simp (disch := omega) only [rdI_e, rdI_n, rdC_i, rdC_o, rdW, rdR, rdU_e, rdU_n, rdLW, Int.add_zero, mQ_p, mQ_b, mQ_d, mQ_c, mQ_w, mQ_e, mQ_t, he, htp]
            refine x_bipush dX8_readAtom_13 rfl ?_
            refine x_icmp_ne (tgt := 20) dX8_readAtom_15 (by decide) (fun h15 => ?_) (fun h15 => ?_)
            · refine x_aload_n dX8_readAtom_20 rfl rfl ?_
              refine x_dup dX8_readAtom_21 rfl ?_
              refine g_getI (kI := 13) rfl dX8_readAtom_22 fX8_234_8 (by first | assumption | exact hT.2.1) ?_
              try simp (disch := omega) only [rdI_e, rdI_n, rdC_i, rdC_o, rdW, rdR, rdU_e, rdU_n, rdLW, Int.add_zero, mQ_p, mQ_b, mQ_d, mQ_c, mQ_w, mQ_e, mQ_t, he, htp]
              refine x_iconst dX8_readAtom_25 rfl ?_
              first | refine x_iaddN dX8_readAtom_26 (by unfold i32; omega) ?_ | refine x_iadd dX8_readAtom_26 ?_
              refine g_putI (kI := 13) rfl dX8_readAtom_27 fX8_234_8 (by first | assumption | exact hT.2.1) ?_
              try simp only [mQ_wp, mQ_wb, mQ_wd, mQ_wc, mQ_ww]
              refine x_aload_n dX8_readAtom_30 rfl rfl ?_
              refine g_callI (vs := [_]) (d' := d - 1) rfl (hC _ _ _ _ (by omega)) dX8_readAtom_31 kX8_237 (by omega) (by decide) rfl (Nat.le_of_ble_eq_true rfl) (rcv_o (by first | assumption | exact hT.2.1) rfl) (fun x31 M31 h31 => ?_)
              obtain ⟨eA, b1, hM⟩ := h31.2 _ hm
              subst eA
              have hM2 : M31 = mQr M m y1 b1 (dp + 1) y2 (drf v y3) := hM
              subst hM2
              refine x_if_ne (tgt := 39) dX8_readAtom_34 (by decide) (fun h34 => ?_) (fun h34 => ?_)
              · try simp only [vP_0, vP_1, vP_n0, vP_n1, Classical.not_not] at h34
                refine x_aload_n dX8_readAtom_39 rfl rfl ?_
                refine x_dup dX8_readAtom_40 rfl ?_
                refine g_getI (kI := 13) rfl dX8_readAtom_41 fX8_234_8 (by first | assumption | exact hT.2.1) ?_
                try simp (disch := omega) only [rdI_e, rdI_n, rdC_i, rdC_o, rdW, rdR, rdU_e, rdU_n, rdLW, Int.add_zero, mQ_p, mQ_b, mQ_d, mQ_c, mQ_w, mQ_e, mQ_t, he, htp]
                refine x_iconst dX8_readAtom_44 rfl ?_
                first | refine x_isubN dX8_readAtom_45 (by unfold i32; omega) ?_ | refine x_isub dX8_readAtom_45 ?_
                refine g_putI (kI := 13) rfl dX8_readAtom_46 fX8_234_8 (by first | assumption | exact hT.2.1) ?_
                try simp only [mQ_wp, mQ_wb, mQ_wd, mQ_wc, mQ_ww]
                rw [show dp + 1 - 1 = dp by omega]
                refine x_aload_n dX8_readAtom_49 rfl rfl ?_
                refine x_bipush dX8_readAtom_50 rfl ?_
                refine g_callI (vs := [_, _]) (d' := d - 1) rfl (s_X8_sign (by omega) hR (by omega)) dX8_readAtom_52 kX8_227 (by omega) (by decide) rfl (Nat.le_of_ble_eq_true rfl) (rcv_o (by first | assumption | exact hT.2.1) rfl) (fun x52 M52 h52 => ?_)
                obtain ⟨e2, t2', -⟩ := h52
                have hM := t2' h3
                subst hM
                rw [vP_t h3] at e2
                subst e2
                refine x_zreturn (by exact Or.inr rfl) rfl dX8_readAtom_55 ?_
                exact hQ _ _ ⟨_, rfl, LOut.s er⟩
              · try simp only [vP_0, vP_1, vP_n0, vP_n1, Classical.not_not] at h34
                simp at h34
            · omega
        · have er := er0.trans (if_neg h3)
          refine x_aload_n dX8_readAtom_0 rfl rfl ?_
          refine x_bipush dX8_readAtom_1 rfl ?_
          refine g_callI (vs := [_, _]) (d' := d - 1) rfl (s_X8_sign (by omega) hR (by omega)) dX8_readAtom_3 kX8_227 (by omega) (by decide) rfl (Nat.le_of_ble_eq_true rfl) (rcv_o (by first | assumption | exact hT.2.1) rfl) (fun x3 M3 h3 => ?_)
          obtain ⟨e1, t1', -⟩ := h3
          have hM := t1' h1
          subst hM
          rw [vP_t h1] at e1
          subst e1
          refine x_if_eq (tgt := 56) dX8_readAtom_6 (by decide) (fun h6 => ?_) (fun h6 => ?_)
          · try simp only [vP_0, vP_1, vP_n0, vP_n1, Classical.not_not] at h6
            simp at h6
          · try simp only [vP_0, vP_1, vP_n0, vP_n1, Classical.not_not] at h6
            refine x_aload_n dX8_readAtom_9 rfl rfl ?_
            refine g_getI (kI := 13) rfl dX8_readAtom_10 fX8_234_8 (by first | assumption | exact hT.2.1) ?_
            try simp (disch := omega) only [rdI_e, rdI_n, rdC_i, rdC_o, rdW, rdR, rdU_e, rdU_n, rdLW, Int.add_zero, mQ_p, mQ_b, mQ_d, mQ_c, mQ_w, mQ_e, mQ_t, he, htp]
            refine x_bipush dX8_readAtom_13 rfl ?_
            refine x_icmp_ne (tgt := 20) dX8_readAtom_15 (by decide) (fun h15 => ?_) (fun h15 => ?_)
            · refine x_aload_n dX8_readAtom_20 rfl rfl ?_
              refine x_dup dX8_readAtom_21 rfl ?_
              refine g_getI (kI := 13) rfl dX8_readAtom_22 fX8_234_8 (by first | assumption | exact hT.2.1) ?_
              try simp (disch := omega) only [rdI_e, rdI_n, rdC_i, rdC_o, rdW, rdR, rdU_e, rdU_n, rdLW, Int.add_zero, mQ_p, mQ_b, mQ_d, mQ_c, mQ_w, mQ_e, mQ_t, he, htp]
              refine x_iconst dX8_readAtom_25 rfl ?_
              first | refine x_iaddN dX8_readAtom_26 (by unfold i32; omega) ?_ | refine x_iadd dX8_readAtom_26 ?_
              refine g_putI (kI := 13) rfl dX8_readAtom_27 fX8_234_8 (by first | assumption | exact hT.2.1) ?_
              try simp only [mQ_wp, mQ_wb, mQ_wd, mQ_wc, mQ_ww]
              refine x_aload_n dX8_readAtom_30 rfl rfl ?_
              refine g_callI (vs := [_]) (d' := d - 1) rfl (hC _ _ _ _ (by omega)) dX8_readAtom_31 kX8_237 (by omega) (by decide) rfl (Nat.le_of_ble_eq_true rfl) (rcv_o (by first | assumption | exact hT.2.1) rfl) (fun x31 M31 h31 => ?_)
              obtain ⟨eA, b1, hM⟩ := h31.2 _ hm
              subst eA
              have hM2 : M31 = mQr M m y1 b1 (dp + 1) y2 (drf v y3) := hM
              subst hM2
              refine x_if_ne (tgt := 39) dX8_readAtom_34 (by decide) (fun h34 => ?_) (fun h34 => ?_)
              · try simp only [vP_0, vP_1, vP_n0, vP_n1, Classical.not_not] at h34
                refine x_aload_n dX8_readAtom_39 rfl rfl ?_
                refine x_dup dX8_readAtom_40 rfl ?_
                refine g_getI (kI := 13) rfl dX8_readAtom_41 fX8_234_8 (by first | assumption | exact hT.2.1) ?_
                try simp (disch := omega) only [rdI_e, rdI_n, rdC_i, rdC_o, rdW, rdR, rdU_e, rdU_n, rdLW, Int.add_zero, mQ_p, mQ_b, mQ_d, mQ_c, mQ_w, mQ_e, mQ_t, he, htp]
                refine x_iconst dX8_readAtom_44 rfl ?_
                first | refine x_isubN dX8_readAtom_45 (by unfold i32; omega) ?_ | refine x_isub dX8_readAtom_45 ?_
                refine g_putI (kI := 13) rfl dX8_readAtom_46 fX8_234_8 (by first | assumption | exact hT.2.1) ?_
                try simp only [mQ_wp, mQ_wb, mQ_wd, mQ_wc, mQ_ww]
                refine x_aload_n dX8_readAtom_49 rfl rfl ?_
                refine x_bipush dX8_readAtom_50 rfl ?_
                refine g_callI (vs := [_, _]) (d' := d - 1) rfl (s_X8_sign (by omega) hR (by omega)) dX8_readAtom_52 kX8_227 (by omega) (by decide) rfl (Nat.le_of_ble_eq_true rfl) (rcv_o (by first | assumption | exact hT.2.1) rfl) (fun x52 M52 h52 => ?_)
                obtain ⟨e2, -, f2'⟩ := h52
                have hM := f2' h3
                subst hM
                rw [vP_f h3] at e2
                subst e2
                refine x_zreturn (by exact Or.inl rfl) rfl dX8_readAtom_55 ?_
                exact hQ _ _ ⟨_, rfl, LOut.f er⟩
              · try simp only [vP_0, vP_1, vP_n0, vP_n1, Classical.not_not] at h34
                simp at h34
            · omega
    · by_cases h2 : isW tp (skB tp e p) (wdB tp e (skB tp e p)) (txB 31)
      · have h2' : isW tp (skB tp e (skB tp e p)) (wdB tp e (skB tp e (skB tp e p))) (txB 31) := by rw [hi]; exact h2
        have h2l := h2.1
        rcases hm : rAtm tp e lv (wdB tp e (skB tp e p), c, u) with g | ⟨y1, y2, y3⟩
        · have er : rAtm tp e (lv + 1) (p, c, u) = .inl g := by
            rw [rAtm_e, if_neg h1, if_pos h2, hm]
          refine x_aload_n dX8_readAtom_0 rfl rfl ?_
          refine x_bipush dX8_readAtom_1 rfl ?_
          refine g_callI (vs := [_, _]) (d' := d - 1) rfl (s_X8_sign (by omega) hR (by omega)) dX8_readAtom_3 kX8_227 (by omega) (by decide) rfl (Nat.le_of_ble_eq_true rfl) (rcv_o (by first | assumption | exact hT.2.1) rfl) (fun x3 M3 h3 => ?_)
          obtain ⟨e1, -, f1'⟩ := h3
          have hM := f1' h1
          subst hM
          rw [vP_f h1] at e1
          subst e1
          refine x_if_eq (tgt := 56) dX8_readAtom_6 (by decide) (fun h6 => ?_) (fun h6 => ?_)
          · try simp only [vP_0, vP_1, vP_n0, vP_n1, Classical.not_not] at h6
            refine x_aload_n dX8_readAtom_56 rfl rfl ?_
            refine x_ldcs dX8_readAtom_57 (List.mem_of_getElem? (i := 57) rfl) ?_
            refine g_callI (vs := [_, _]) (d' := d - 1) rfl (s_X8_passes (i := 31) (by omega) hR (by omega) (by omega) rfl) dX8_readAtom_59 kX8_162 (by omega) (by decide) rfl (Nat.le_of_ble_eq_true rfl) (rcv_o (by first | assumption | exact hT.2.1) rfl) (fun x59 M59 h59 => ?_)
            obtain ⟨e2, t2', -⟩ := h59
            have hM := t2' h2'
            subst hM
            rw [vP_t h2'] at e2
            subst e2
            rw [hi]
            refine x_if_eq (tgt := 114) dX8_readAtom_62 (by decide) (fun h62 => ?_) (fun h62 => ?_)
            · try simp only [vP_0, vP_1, vP_n0, vP_n1, Classical.not_not] at h62
              simp at h62
            · try simp only [vP_0, vP_1, vP_n0, vP_n1, Classical.not_not] at h62
              refine x_aload_n dX8_readAtom_65 rfl rfl ?_
              refine g_getI (kI := 13) rfl dX8_readAtom_66 fX8_234_8 (by first | assumption | exact hT.2.1) ?_
              try simp (disch := omega) only [rdI_e, rdI_n, rdC_i, rdC_o, rdW, rdR, rdU_e, rdU_n, rdLW, Int.add_zero, mQ_p, mQ_b, mQ_d, mQ_c, mQ_w, mQ_e, mQ_t, he, htp]
              refine x_bipush dX8_readAtom_69 rfl ?_
              refine x_icmp_ne (tgt := 76) dX8_readAtom_71 (by decide) (fun h71 => ?_) (fun h71 => ?_)
              · refine x_aload_n dX8_readAtom_76 rfl rfl ?_
                refine x_dup dX8_readAtom_77 rfl ?_
                refine g_getI (kI := 13) rfl dX8_readAtom_78 fX8_234_8 (by first | assumption | exact hT.2.1) ?_
                try simp (disch := omega) only [rdI_e, rdI_n, rdC_i, rdC_o, rdW, rdR, rdU_e, rdU_n, rdLW, Int.add_zero, mQ_p, mQ_b, mQ_d, mQ_c, mQ_w, mQ_e, mQ_t, he, htp]
                refine x_iconst dX8_readAtom_81 rfl ?_
                first | refine x_iaddN dX8_readAtom_82 (by unfold i32; omega) ?_ | refine x_iadd dX8_readAtom_82 ?_
                refine g_putI (kI := 13) rfl dX8_readAtom_83 fX8_234_8 (by first | assumption | exact hT.2.1) ?_
                try simp only [mQ_wp, mQ_wb, mQ_wd, mQ_wc, mQ_ww]
                refine x_aload_n dX8_readAtom_86 rfl rfl ?_
                refine g_callI (vs := [_]) (d' := d - 1) rfl (ihl (d - 1) (dp + 1) _ _ _ _ (by omega) (by omega) (by omega)) dX8_readAtom_87 kX8_242 (by omega) (by decide) rfl (Nat.le_of_ble_eq_true rfl) (rcv_o (by first | assumption | exact hT.2.1) rfl) (fun x87 M87 h87 => ?_)
                obtain ⟨eA, p1, d1, c1, u1, hM⟩ := h87.1 g hm
                subst eA
                subst hM
                refine x_if_ne (tgt := 95) dX8_readAtom_90 (by decide) (fun h90 => ?_) (fun h90 => ?_)
                · try simp only [vP_0, vP_1, vP_n0, vP_n1, Classical.not_not] at h90
                  simp at h90
                · try simp only [vP_0, vP_1, vP_n0, vP_n1, Classical.not_not] at h90
                  refine x_iconst dX8_readAtom_93 rfl ?_
                  refine x_zreturn (by first | exact Or.inl rfl | exact Or.inr rfl | exact vB_r _ | exact vP_r _ | assumption | omega) rfl dX8_readAtom_94 ?_
                  exact hQ _ _ ⟨_, rfl, LOut.f er⟩
              · omega
          · try simp only [vP_0, vP_1, vP_n0, vP_n1, Classical.not_not] at h6
            simp at h6
        · have gg := rAtm_g lv _ _ hs2.2 hm 0
          have g1 : wdB tp e (skB tp e p) ≤ y1 ∧ y1 ≤ e := gg.1
          have g2 : c ≤ y2 := gg.2.1
          have g3 : y2 - c + 0 ≤ y1 - wdB tp e (skB tp e p) := gg.2.2.1
          have er : rAtm tp e (lv + 1) (p, c, u) = .inr (em (y1, y2, y3) 14 0) := by
            rw [rAtm_e, if_neg h1, if_pos h2, hm]
          refine x_aload_n dX8_readAtom_0 rfl rfl ?_
          refine x_bipush dX8_readAtom_1 rfl ?_
          refine g_callI (vs := [_, _]) (d' := d - 1) rfl (s_X8_sign (by omega) hR (by omega)) dX8_readAtom_3 kX8_227 (by omega) (by decide) rfl (Nat.le_of_ble_eq_true rfl) (rcv_o (by first | assumption | exact hT.2.1) rfl) (fun x3 M3 h3 => ?_)
          obtain ⟨e1, -, f1'⟩ := h3
          have hM := f1' h1
          subst hM
          rw [vP_f h1] at e1
          subst e1
          refine x_if_eq (tgt := 56) dX8_readAtom_6 (by decide) (fun h6 => ?_) (fun h6 => ?_)
          · try simp only [vP_0, vP_1, vP_n0, vP_n1, Classical.not_not] at h6
            refine x_aload_n dX8_readAtom_56 rfl rfl ?_
            refine x_ldcs dX8_readAtom_57 (List.mem_of_getElem? (i := 57) rfl) ?_
            refine g_callI (vs := [_, _]) (d' := d - 1) rfl (s_X8_passes (i := 31) (by omega) hR (by omega) (by omega) rfl) dX8_readAtom_59 kX8_162 (by omega) (by decide) rfl (Nat.le_of_ble_eq_true rfl) (rcv_o (by first | assumption | exact hT.2.1) rfl) (fun x59 M59 h59 => ?_)
            obtain ⟨e2, t2', -⟩ := h59
            have hM := t2' h2'
            subst hM
            rw [vP_t h2'] at e2
            subst e2
            rw [hi]
            refine x_if_eq (tgt := 114) dX8_readAtom_62 (by decide) (fun h62 => ?_) (fun h62 => ?_)
            · try simp only [vP_0, vP_1, vP_n0, vP_n1, Classical.not_not] at h62
              simp at h62
            · try simp only [vP_0, vP_1, vP_n0, vP_n1, Classical.not_not] at h62
              refine x_aload_n dX8_readAtom_65 rfl rfl ?_
              refine g_getI (kI := 13) rfl dX8_readAtom_66 fX8_234_8 (by first | assumption | exact hT.2.1) ?_
              try simp (disch := omega) only [rdI_e, rdI_n, rdC_i, rdC_o, rdW, rdR, rdU_e, rdU_n, rdLW, Int.add_zero, mQ_p, mQ_b, mQ_d, mQ_c, mQ_w, mQ_e, mQ_t, he, htp]
              refine x_bipush dX8_readAtom_69 rfl ?_
              refine x_icmp_ne (tgt := 76) dX8_readAtom_71 (by decide) (fun h71 => ?_) (fun h71 => ?_)
              · refine x_aload_n dX8_readAtom_76 rfl rfl ?_
                refine x_dup dX8_readAtom_77 rfl ?_
                refine g_getI (kI := 13) rfl dX8_readAtom_78 fX8_234_8 (by first | assumption | exact hT.2.1) ?_
                try simp (disch := omega) only [rdI_e, rdI_n, rdC_i, rdC_o, rdW, rdR, rdU_e, rdU_n, rdLW, Int.add_zero, mQ_p, mQ_b, mQ_d, mQ_c, mQ_w, mQ_e, mQ_t, he, htp]
                refine x_iconst dX8_readAtom_81 rfl ?_
                first | refine x_iaddN dX8_readAtom_82 (by unfold i32; omega) ?_ | refine x_iadd dX8_readAtom_82 ?_
                refine g_putI (kI := 13) rfl dX8_readAtom_83 fX8_234_8 (by first | assumption | exact hT.2.1) ?_
                try simp only [mQ_wp, mQ_wb, mQ_wd, mQ_wc, mQ_ww]
                refine x_aload_n dX8_readAtom_86 rfl rfl ?_
                refine g_callI (vs := [_]) (d' := d - 1) rfl (ihl (d - 1) (dp + 1) _ _ _ _ (by omega) (by omega) (by omega)) dX8_readAtom_87 kX8_242 (by omega) (by decide) rfl (Nat.le_of_ble_eq_true rfl) (rcv_o (by first | assumption | exact hT.2.1) rfl) (fun x87 M87 h87 => ?_)
                obtain ⟨eA, b1, hM⟩ := h87.2 _ hm
                subst eA
                have hM2 : M87 = mQr M m y1 b1 (dp + 1) y2 (drf v y3) := hM
                subst hM2
                refine x_if_ne (tgt := 95) dX8_readAtom_90 (by decide) (fun h90 => ?_) (fun h90 => ?_)
                · try simp only [vP_0, vP_1, vP_n0, vP_n1, Classical.not_not] at h90
                  refine x_aload_n dX8_readAtom_95 rfl rfl ?_
                  refine x_dup dX8_readAtom_96 rfl ?_
                  refine g_getI (kI := 13) rfl dX8_readAtom_97 fX8_234_8 (by first | assumption | exact hT.2.1) ?_
                  try simp (disch := omega) only [rdI_e, rdI_n, rdC_i, rdC_o, rdW, rdR, rdU_e, rdU_n, rdLW, Int.add_zero, mQ_p, mQ_b, mQ_d, mQ_c, mQ_w, mQ_e, mQ_t, he, htp]
                  refine x_iconst dX8_readAtom_100 rfl ?_
                  first | refine x_isubN dX8_readAtom_101 (by unfold i32; omega) ?_ | refine x_isub dX8_readAtom_101 ?_
                  refine g_putI (kI := 13) rfl dX8_readAtom_102 fX8_234_8 (by first | assumption | exact hT.2.1) ?_
                  try simp only [mQ_wp, mQ_wb, mQ_wd, mQ_wc, mQ_ww]
                  rw [show dp + 1 - 1 = dp by omega]
                  refine x_aload_n dX8_readAtom_105 rfl rfl ?_
                  refine x_bipush dX8_readAtom_106 rfl ?_
                  refine x_iconst dX8_readAtom_108 rfl ?_
                  refine g_callN (vs := [_, _, _]) (d' := d - 1) rfl (s_X8_emits (by omega) hR (by omega)) dX8_readAtom_109 kX8_220 (by omega) (by decide) rfl (Nat.le_of_ble_eq_true rfl) (rcv_o (by first | assumption | exact hT.2.1) rfl) (fun M109 h109 => ?_)
                  have f109 := h109.symm
                  subst f109
                  refine x_iconst dX8_readAtom_112 rfl ?_
                  refine x_zreturn (by first | exact Or.inl rfl | exact Or.inr rfl | exact vB_r _ | exact vP_r _ | assumption | omega) rfl dX8_readAtom_113 ?_
                  exact hQ _ _ ⟨_, rfl, LOut.s er⟩
                · try simp only [vP_0, vP_1, vP_n0, vP_n1, Classical.not_not] at h90
                  simp at h90
              · omega
          · try simp only [vP_0, vP_1, vP_n0, vP_n1, Classical.not_not] at h6
            simp at h6
      · have er : rAtm tp e (lv + 1) (p, c, u) = rCmp tp e (skB tp e p, c, u) := (if_neg h1).trans (if_neg h2)
        have h2' : ¬ isW tp (skB tp e (skB tp e p)) (wdB tp e (skB tp e (skB tp e p))) (txB 31) := by rw [hi]; exact h2
        refine x_aload_n dX8_readAtom_0 rfl rfl ?_
        refine x_bipush dX8_readAtom_1 rfl ?_
        refine g_callI (vs := [_, _]) (d' := d - 1) rfl (s_X8_sign (by omega) hR (by omega)) dX8_readAtom_3 kX8_227 (by omega) (by decide) rfl (Nat.le_of_ble_eq_true rfl) (rcv_o (by first | assumption | exact hT.2.1) rfl) (fun x3 M3 h3 => ?_)
        obtain ⟨e1, -, f1'⟩ := h3
        have hM := f1' h1
        subst hM
        rw [vP_f h1] at e1
        subst e1
        refine x_if_eq (tgt := 56) dX8_readAtom_6 (by decide) (fun h6 => ?_) (fun h6 => ?_)
        · try simp only [vP_0, vP_1, vP_n0, vP_n1, Classical.not_not] at h6
          refine x_aload_n dX8_readAtom_56 rfl rfl ?_
          refine x_ldcs dX8_readAtom_57 (List.mem_of_getElem? (i := 57) rfl) ?_
          refine g_callI (vs := [_, _]) (d' := d - 1) rfl (s_X8_passes (i := 31) (by omega) hR (by omega) (by omega) rfl) dX8_readAtom_59 kX8_162 (by omega) (by decide) rfl (Nat.le_of_ble_eq_true rfl) (rcv_o (by first | assumption | exact hT.2.1) rfl) (fun x59 M59 h59 => ?_)
          obtain ⟨e2, -, f2'⟩ := h59
          have hM := f2' h2'
          subst hM
          rw [vP_f h2'] at e2
          subst e2
          rw [hi]
          refine x_if_eq (tgt := 114) dX8_readAtom_62 (by decide) (fun h62 => ?_) (fun h62 => ?_)
          · try simp only [vP_0, vP_1, vP_n0, vP_n1, Classical.not_not] at h62
            exact s_cmp (by omega) hR (by omega) fun x M1 q => hQ _ _ ⟨_, rfl, by rw [er]; exact q⟩
          · try simp only [vP_0, vP_1, vP_n0, vP_n1, Classical.not_not] at h62
            simp at h62
        · try simp only [vP_0, vP_1, vP_n0, vP_n1, Classical.not_not] at h6
          simp at h6
end X8

