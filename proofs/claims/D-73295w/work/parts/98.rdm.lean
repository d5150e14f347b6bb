/-! GuestViewModel: lines of a bench, the others -/
theorem rPrg_s {tp : Int → Int} {e p n : Int} {t : Nat} {v : Vw} : rPrg tp e (t + 1) p n v = (if chP tp e 48 57 (skB tp e p) then
      match numP tp e p 0 (v 0 - 1) with
      | none => .inl (skB tp e p)
      | some y => if n < 10 then rPrg tp e t y.1 (n + 1) (us v (12 + n) y.2) else .inl (skB tp e p)
    else .inr (skB tp e p, us v 3 n)) := rfl
theorem rCel_s {tp : Int → Int} {e p n : Int} {t : Nat} {v : Vw} : rCel tp e (t + 1) p n v = (match numP tp e p 0 3 with
    | none => .inl (skB tp e p)
    | some y => if n < 8 then (if chP tp e 48 57 (skB tp e y.1) then rCel tp e t (skB tp e y.1) (n + 1) (us v (22 + n) y.2) else .inr (skB tp e y.1, us v (22 + n) y.2)) else .inl (skB tp e p)) := rfl
theorem numI {tp : Int → Int} {e p lo hi : Int} (hp : p ≤ e) : numP tp e (skB tp e p) lo hi = numP tp e p lo hi := by
  unfold numP
  rw [skB_i (p := p) _ rfl]
section X8
variable {G : GW} {d : Nat} {M : Mem} {m p b dp c e lo hi k n o a : Int} {w : Vw} {tp : Int → Int}
theorem s_X8_readProgram (hd : 21 ≤ d) (hR : RdH M m tp e) (hp : 0 ≤ p ∧ p ≤ e) (h0 : 0 ≤ w 0 ∧ w 0 ≤ 8) : CS G d mX8_readProgram [dR m] (mQr M m p b dp c w) (postI fun x M1 => BOut M m dp c e w (rPrg tp e 12 p 0 w) x M1) := by
  obtain ⟨hT, he, htp, he2, hX⟩ := id hR
  have hT_ := hT; obtain ⟨p0, p1, ⟨c1, c2, c3, c4, c5, c6, c7, c8, c9, c10, c11, c12, c13, c14, c15⟩, ⟨t1, t2, t3, t4, t5, t6, t7, t8, t9, t10, t11, t12, t13, t14, t15⟩⟩ := hT_
  refine CS.mkQ (by decide) (Nat.le_of_ble_eq_true rfl) fun Q hQ => ?_
  have fin : ∀ (n' q f : Int) (u : Vw) (o : Option DV), rPrg tp e 12 p 0 w = .inl f → hiW w u → 0 ≤ n' ∧ n' ≤ 11 → WP G d mX8_readProgram 4 [some (dR m), some (dI n'), some (dI 0), o] [] (mQr M m q f dp c u) Q := by
    intro n' q f u o hr hh hn
    refine x_fgt (L' := [some (dR m), some (dI n'), some (dI 0), none]) (by repeat (first | exact trivial | refine ⟨rfl, ?_⟩)) ?_
    refine x_iload_n dX8_readProgram_4 rfl rfl ?_
    refine x_if_eq (tgt := 63) dX8_readProgram_5 (by decide) (fun h5 => ?_) (fun h5 => ?_)
    · refine x_aload_n dX8_readProgram_63 rfl rfl ?_
      refine g_getR (kI := 1) rfl dX8_readProgram_64 fX8_13_8 (by first | assumption | exact hT.2.1) (by first | assumption | exact hT.2.1) ?_
      refine x_iconst dX8_readProgram_67 rfl ?_
      refine x_iload_n dX8_readProgram_68 rfl rfl ?_
      refine x_iast (by omega) dX8_readProgram_69 (by first | assumption | exact hT.2.1) (by omega) (by omega) ?_
      try simp only [mQ_wp, mQ_wb, mQ_wd, mQ_wc, mQ_ww]
      refine x_iload_n dX8_readProgram_70 rfl rfl ?_
      refine x_zreturn (by first | exact Or.inl rfl | exact Or.inr rfl | exact vB_r _ | exact vP_r _ | assumption | omega) rfl dX8_readProgram_71 ?_
      exact hQ _ _ ⟨_, rfl, BOut.f hr (hh.us (by omega))⟩
    · omega
  have lp : ∀ (t : Nat) (n p0 b0 : Int) (u : Vw) (fu : Nat), ((fu : Int)).toNat = t → (0 ≤ p0 ∧ p0 ≤ e) → ((fu : Int) + n = 12 ∧ 0 ≤ n ∧ n ≤ 10) → (rPrg tp e 12 p 0 w = rPrg tp e fu p0 n u) → (hiW w u) → (u 0 = w 0) → WP G d mX8_readProgram 4 [some (dR m), some (dI n), some (dI 1), none] [] (mQr M m p0 b0 dp c u) Q := by
    intro t
    induction t using Nat.strongRecOn with
    | _ t ih =>
      intro n p0 b0 u fu ht q0 hf hr hh hu0
      obtain ⟨fu, rfl⟩ : ∃ f2, fu = f2 + 1 := ⟨fu - 1, by omega⟩
      have hs := skB_r (tp := tp) q0.2
      rw [rPrg_s (t := fu)] at hr
      by_cases hg : chP tp e 48 57 (skB tp e p0)
      · rw [if_pos hg] at hr
        rcases hnu : numP tp e p0 0 (u 0 - 1) with _ | ⟨y, z⟩
        · rw [hnu] at hr
          have hnu' := (numI (tp := tp) q0.2).trans hnu
          refine x_iload_n dX8_readProgram_4 rfl rfl ?_
          refine x_if_eq (tgt := 63) dX8_readProgram_5 (by decide) (fun h5 => ?_) (fun h5 => ?_)
          · omega
          · refine x_aload_n dX8_readProgram_8 rfl rfl ?_
            refine g_callI (vs := [_]) (d' := d - 1) rfl (s_X8_isNumberNext (by omega) hR (by omega)) dX8_readProgram_9 kX8_168 (by omega) (by decide) rfl (Nat.le_of_ble_eq_true rfl) (rcv_o (by first | assumption | exact hT.2.1) rfl) (fun x9 M9 h9 => ?_)
            obtain ⟨e9, f9⟩ := h9
            subst f9
            subst e9
            refine x_if_eq (tgt := 63) dX8_readProgram_12 (by decide) (fun h12 => ?_) (fun h12 => ?_)
            · try simp only [vP_0, vP_1, vP_n0, vP_n1, Classical.not_not] at h12
              exact absurd hg h12
            · try simp only [vP_0, vP_1, vP_n0, vP_n1, Classical.not_not] at h12
              refine x_aload_n dX8_readProgram_15 rfl rfl ?_
              refine x_iconst dX8_readProgram_16 rfl ?_
              refine x_aload_n dX8_readProgram_17 rfl rfl ?_
              refine g_callI (vs := [_]) (d' := d - 1) rfl (s_X8_ops (by omega) hT mQ_wf) dX8_readProgram_18 kX8_84 (by omega) (by decide) rfl (Nat.le_of_ble_eq_true rfl) (rcv_o (by first | assumption | exact hT.2.1) rfl) (fun x18 M18 h18 => ?_)
              obtain ⟨e18, f18⟩ := h18
              have f18' := f18.symm
              subst f18'
              subst e18
              try simp (disch := omega) only [rdI_e, rdI_n, rdC_i, rdC_o, rdW, rdR, rdU_e, rdU_n, rdLW, Int.add_zero, mQ_p, mQ_b, mQ_d, mQ_c, mQ_w, mQ_e, mQ_t, he, htp]
              refine x_iconst dX8_readProgram_21 rfl ?_
              first | refine x_isubN dX8_readProgram_22 (by unfold i32; omega) ?_ | refine x_isub dX8_readProgram_22 ?_
              refine g_callI (vs := [_, _, _]) (d' := d - 1) rfl (s_X8_number (by omega) hR (by omega)) dX8_readProgram_23 kX8_128 (by omega) (by decide) rfl (Nat.le_of_ble_eq_true rfl) (rcv_o (by first | assumption | exact hT.2.1) rfl) (fun x23 M23 h23 => ?_)
              obtain ⟨q, hM3, -, hn3'⟩ := h23
              have ex3 := hn3' hnu'
              subst ex3
              subst hM3
              rw [skB_i _ rfl]
              refine x_istore_n (L' := [some _, some _, some _, some _]) dX8_readProgram_26 rfl (by decide) rfl ?_
              refine x_iload_n dX8_readProgram_27 rfl rfl ?_
              refine x_if_lt (tgt := 41) dX8_readProgram_28 (by decide) (fun h28 => ?_) (fun h28 => ?_)
              · refine x_iconst dX8_readProgram_41 rfl ?_
                refine x_istore_n (L' := [some _, some _, some _, some _]) dX8_readProgram_42 rfl (by decide) rfl ?_
                refine x_iload_n dX8_readProgram_43 rfl rfl ?_
                refine x_if_eq (tgt := 57) dX8_readProgram_44 (by decide) (fun h44 => ?_) (fun h44 => ?_)
                · first | refine x_iincN (L' := [some _, some _, some _, some _]) dX8_readProgram_57 rfl (by decide) (by unfold i32; omega) rfl ?_ | refine x_iinc (L' := [some _, some _, some _, some _]) dX8_readProgram_57 rfl (by decide) rfl ?_
                  refine x_goto (tgt := 4) dX8_readProgram_60 (by decide) ?_
                  exact fin _ _ _ _ _ hr hh (by omega)
                · omega
              · omega
        · rw [hnu] at hr
          have hnu' := (numI (tp := tp) q0.2).trans hnu
          have hnr := numP_r q0.2 hnu
          by_cases hn9 : n < 10
          · have hr2 : rPrg tp e 12 p 0 w = rPrg tp e fu y (n + 1) (us u (12 + n) z) := hr.trans (if_pos hn9)
            refine x_iload_n dX8_readProgram_4 rfl rfl ?_
            refine x_if_eq (tgt := 63) dX8_readProgram_5 (by decide) (fun h5 => ?_) (fun h5 => ?_)
            · omega
            · refine x_aload_n dX8_readProgram_8 rfl rfl ?_
              refine g_callI (vs := [_]) (d' := d - 1) rfl (s_X8_isNumberNext (by omega) hR (by omega)) dX8_readProgram_9 kX8_168 (by omega) (by decide) rfl (Nat.le_of_ble_eq_true rfl) (rcv_o (by first | assumption | exact hT.2.1) rfl) (fun x9 M9 h9 => ?_)
              obtain ⟨e9, f9⟩ := h9
              subst f9
              subst e9
              refine x_if_eq (tgt := 63) dX8_readProgram_12 (by decide) (fun h12 => ?_) (fun h12 => ?_)
              · try simp only [vP_0, vP_1, vP_n0, vP_n1, Classical.not_not] at h12
                exact absurd hg h12
              · try simp only [vP_0, vP_1, vP_n0, vP_n1, Classical.not_not] at h12
                refine x_aload_n dX8_readProgram_15 rfl rfl ?_
                refine x_iconst dX8_readProgram_16 rfl ?_
                refine x_aload_n dX8_readProgram_17 rfl rfl ?_
                refine g_callI (vs := [_]) (d' := d - 1) rfl (s_X8_ops (by omega) hT mQ_wf) dX8_readProgram_18 kX8_84 (by omega) (by decide) rfl (Nat.le_of_ble_eq_true rfl) (rcv_o (by first | assumption | exact hT.2.1) rfl) (fun x18 M18 h18 => ?_)
                obtain ⟨e18, f18⟩ := h18
                have f18' := f18.symm
                subst f18'
                subst e18
                try simp (disch := omega) only [rdI_e, rdI_n, rdC_i, rdC_o, rdW, rdR, rdU_e, rdU_n, rdLW, Int.add_zero, mQ_p, mQ_b, mQ_d, mQ_c, mQ_w, mQ_e, mQ_t, he, htp]
                refine x_iconst dX8_readProgram_21 rfl ?_
                first | refine x_isubN dX8_readProgram_22 (by unfold i32; omega) ?_ | refine x_isub dX8_readProgram_22 ?_
                refine g_callI (vs := [_, _, _]) (d' := d - 1) rfl (s_X8_number (by omega) hR (by omega)) dX8_readProgram_23 kX8_128 (by omega) (by decide) rfl (Nat.le_of_ble_eq_true rfl) (rcv_o (by first | assumption | exact hT.2.1) rfl) (fun x23 M23 h23 => ?_)
                obtain ⟨q, hM3, hn3', -⟩ := h23
                obtain ⟨eq3, ex3⟩ := hn3' _ _ hnu'
                subst ex3
                subst eq3
                subst hM3
                rw [skB_i _ rfl]
                refine x_istore_n (L' := [some _, some _, some _, some _]) dX8_readProgram_26 rfl (by decide) rfl ?_
                refine x_iload_n dX8_readProgram_27 rfl rfl ?_
                refine x_if_lt (tgt := 41) dX8_readProgram_28 (by decide) (fun h28 => ?_) (fun h28 => ?_)
                · omega
                · refine x_iload_n dX8_readProgram_31 rfl rfl ?_
                  refine x_bipush dX8_readProgram_32 rfl ?_
                  refine x_icmp_ge (tgt := 41) dX8_readProgram_34 (by decide) (fun h34 => ?_) (fun h34 => ?_)
                  · omega
                  · refine x_iconst dX8_readProgram_37 rfl ?_
                    refine x_goto (tgt := 42) dX8_readProgram_38 (by decide) ?_
                    refine x_istore_n (L' := [some _, some _, some _, some _]) dX8_readProgram_42 rfl (by decide) rfl ?_
                    refine x_iload_n dX8_readProgram_43 rfl rfl ?_
                    refine x_if_eq (tgt := 57) dX8_readProgram_44 (by decide) (fun h44 => ?_) (fun h44 => ?_)
                    · omega
                    · refine x_aload_n dX8_readProgram_47 rfl rfl ?_
                      refine g_getR (kI := 1) rfl dX8_readProgram_48 fX8_13_8 (by first | assumption | exact hT.2.1) (by first | assumption | exact hT.2.1) ?_
                      refine x_bipush dX8_readProgram_51 rfl ?_
                      refine x_iload_n dX8_readProgram_53 rfl rfl ?_
                      first | refine x_iaddN dX8_readProgram_54 (by unfold i32; omega) ?_ | refine x_iadd dX8_readProgram_54 ?_
                      refine x_iload_n dX8_readProgram_55 rfl rfl ?_
                      refine x_iast (by omega) dX8_readProgram_56 (by first | assumption | exact hT.2.1) (by omega) (by omega) ?_
                      try simp only [mQ_wp, mQ_wb, mQ_wd, mQ_wc, mQ_ww]
                      first | refine x_iincN (L' := [some _, some _, some _, some _]) dX8_readProgram_57 rfl (by decide) (by unfold i32; omega) rfl ?_ | refine x_iinc (L' := [some _, some _, some _, some _]) dX8_readProgram_57 rfl (by decide) rfl ?_
                      refine x_goto (tgt := 4) dX8_readProgram_60 (by decide) ?_
                      exact x_fgt (by repeat (first | exact trivial | refine ⟨rfl, ?_⟩)) (ih _ (by omega) (n + 1) q _ _ fu rfl (by omega) (by omega) hr2 (hh.us (by omega)) ((us_n (by omega)).trans hu0))
          · have hr2 : rPrg tp e 12 p 0 w = .inl (skB tp e p0) := hr.trans (if_neg hn9)
            refine x_iload_n dX8_readProgram_4 rfl rfl ?_
            refine x_if_eq (tgt := 63) dX8_readProgram_5 (by decide) (fun h5 => ?_) (fun h5 => ?_)
            · omega
            · refine x_aload_n dX8_readProgram_8 rfl rfl ?_
              refine g_callI (vs := [_]) (d' := d - 1) rfl (s_X8_isNumberNext (by omega) hR (by omega)) dX8_readProgram_9 kX8_168 (by omega) (by decide) rfl (Nat.le_of_ble_eq_true rfl) (rcv_o (by first | assumption | exact hT.2.1) rfl) (fun x9 M9 h9 => ?_)
              obtain ⟨e9, f9⟩ := h9
              subst f9
              subst e9
              refine x_if_eq (tgt := 63) dX8_readProgram_12 (by decide) (fun h12 => ?_) (fun h12 => ?_)
              · try simp only [vP_0, vP_1, vP_n0, vP_n1, Classical.not_not] at h12
                exact absurd hg h12
              · try simp only [vP_0, vP_1, vP_n0, vP_n1, Classical.not_not] at h12
                refine x_aload_n dX8_readProgram_15 rfl rfl ?_
                refine x_iconst dX8_readProgram_16 rfl ?_
                refine x_aload_n dX8_readProgram_17 rfl rfl ?_
                refine g_callI (vs := [_]) (d' := d - 1) rfl (s_X8_ops (by omega) hT mQ_wf) dX8_readProgram_18 kX8_84 (by omega) (by decide) rfl (Nat.le_of_ble_eq_true rfl) (rcv_o (by first | assumption | exact hT.2.1) rfl) (fun x18 M18 h18 => ?_)
                obtain ⟨e18, f18⟩ := h18
                have f18' := f18.symm
                subst f18'
                subst e18
                try simp (disch := omega) only [rdI_e, rdI_n, rdC_i, rdC_o, rdW, rdR, rdU_e, rdU_n, rdLW, Int.add_zero, mQ_p, mQ_b, mQ_d, mQ_c, mQ_w, mQ_e, mQ_t, he, htp]
                refine x_iconst dX8_readProgram_21 rfl ?_
                first | refine x_isubN dX8_readProgram_22 (by unfold i32; omega) ?_ | refine x_isub dX8_readProgram_22 ?_
                refine g_callI (vs := [_, _, _]) (d' := d - 1) rfl (s_X8_number (by omega) hR (by omega)) dX8_readProgram_23 kX8_128 (by omega) (by decide) rfl (Nat.le_of_ble_eq_true rfl) (rcv_o (by first | assumption | exact hT.2.1) rfl) (fun x23 M23 h23 => ?_)
                obtain ⟨q, hM3, hn3', -⟩ := h23
                obtain ⟨eq3, ex3⟩ := hn3' _ _ hnu'
                subst ex3
                subst eq3
                subst hM3
                rw [skB_i _ rfl]
                refine x_istore_n (L' := [some _, some _, some _, some _]) dX8_readProgram_26 rfl (by decide) rfl ?_
                refine x_iload_n dX8_readProgram_27 rfl rfl ?_
                refine x_if_lt (tgt := 41) dX8_readProgram_28 (by decide) (fun h28 => ?_) (fun h28 => ?_)
                · omega
                · refine x_iload_n dX8_readProgram_31 rfl rfl ?_
                  refine x_bipush dX8_readProgram_32 rfl ?_
                  refine x_icmp_ge (tgt := 41) dX8_readProgram_34 (by decide) (fun h34 => ?_) (fun h34 => ?_)
                  · refine x_iconst dX8_readProgram_41 rfl ?_
                    refine x_istore_n (L' := [some _, some _, some _, some _]) dX8_readProgram_42 rfl (by decide) rfl ?_
                    refine x_iload_n dX8_readProgram_43 rfl rfl ?_
                    refine x_if_eq (tgt := 57) dX8_readProgram_44 (by decide) (fun h44 => ?_) (fun h44 => ?_)
                    · first | refine x_iincN (L' := [some _, some _, some _, some _]) dX8_readProgram_57 rfl (by decide) (by unfold i32; omega) rfl ?_ | refine x_iinc (L' := [some _, some _, some _, some _]) dX8_readProgram_57 rfl (by decide) rfl ?_
                      refine x_goto (tgt := 4) dX8_readProgram_60 (by decide) ?_
                      exact fin _ _ _ _ _ hr2 hh (by omega)
                    · omega
                  · omega
      · rw [if_neg hg] at hr
        refine x_iload_n dX8_readProgram_4 rfl rfl ?_
        refine x_if_eq (tgt := 63) dX8_readProgram_5 (by decide) (fun h5 => ?_) (fun h5 => ?_)
        · omega
        · refine x_aload_n dX8_readProgram_8 rfl rfl ?_
          refine g_callI (vs := [_]) (d' := d - 1) rfl (s_X8_isNumberNext (by omega) hR (by omega)) dX8_readProgram_9 kX8_168 (by omega) (by decide) rfl (Nat.le_of_ble_eq_true rfl) (rcv_o (by first | assumption | exact hT.2.1) rfl) (fun x9 M9 h9 => ?_)
          obtain ⟨e9, f9⟩ := h9
          subst f9
          subst e9
          refine x_if_eq (tgt := 63) dX8_readProgram_12 (by decide) (fun h12 => ?_) (fun h12 => ?_)
          · try simp only [vP_0, vP_1, vP_n0, vP_n1, Classical.not_not] at h12
            refine x_aload_n dX8_readProgram_63 rfl rfl ?_
            refine g_getR (kI := 1) rfl dX8_readProgram_64 fX8_13_8 (by first | assumption | exact hT.2.1) (by first | assumption | exact hT.2.1) ?_
            refine x_iconst dX8_readProgram_67 rfl ?_
            refine x_iload_n dX8_readProgram_68 rfl rfl ?_
            refine x_iast (by omega) dX8_readProgram_69 (by first | assumption | exact hT.2.1) (by omega) (by omega) ?_
            try simp only [mQ_wp, mQ_wb, mQ_wd, mQ_wc, mQ_ww]
            refine x_iload_n dX8_readProgram_70 rfl rfl ?_
            refine x_zreturn (by first | exact Or.inl rfl | exact Or.inr rfl | exact vB_r _ | exact vP_r _ | assumption | omega) rfl dX8_readProgram_71 ?_
            exact hQ _ _ ⟨_, rfl, BOut.s hr (by omega) (hh.us (by omega))⟩
          · try simp only [vP_0, vP_1, vP_n0, vP_n1, Classical.not_not] at h12
            exact absurd h12 hg
  refine x_iconst dX8_readProgram_0 rfl ?_
  refine x_istore_n (L' := [some _, some _, none, none]) dX8_readProgram_1 rfl (by decide) rfl ?_
  refine x_iconst dX8_readProgram_2 rfl ?_
  refine x_istore_n (L' := [some _, some _, some _, none]) dX8_readProgram_3 rfl (by decide) rfl ?_
  exact lp _ 0 p b w 12 rfl hp (by omega) rfl hiW.rfl rfl
theorem s_X8_readCells (hd : 21 ≤ d) (hR : RdH M m tp e) (hp : 0 ≤ p ∧ p ≤ e) : CS G d mX8_readCells [dR m] (mQr M m p b dp c w) (postI fun x M1 => BOut M m dp c e w (rCel tp e 10 p 0 w) x M1) := by
  obtain ⟨hT, he, htp, he2, hX⟩ := id hR
  have hT_ := hT; obtain ⟨p0, p1, ⟨c1, c2, c3, c4, c5, c6, c7, c8, c9, c10, c11, c12, c13, c14, c15⟩, ⟨t1, t2, t3, t4, t5, t6, t7, t8, t9, t10, t11, t12, t13, t14, t15⟩⟩ := hT_
  refine CS.mkQ (by decide) (Nat.le_of_ble_eq_true rfl) fun Q hQ => ?_
  have lp : ∀ (t : Nat) (n p0 b0 : Int) (u : Vw) (fu : Nat), ((fu : Int)).toNat = t → (0 ≤ p0 ∧ p0 ≤ e) → ((fu : Int) + n = 10 ∧ 0 ≤ n ∧ n ≤ 8) → (rCel tp e 10 p 0 w = rCel tp e fu p0 n u) → (hiW w u) → WP G d mX8_readCells 6 [some (dR m), some (dI n), some (dI 1), some (dI 1), none] [] (mQr M m p0 b0 dp c u) Q := by
    intro t
    induction t using Nat.strongRecOn with
    | _ t ih =>
      intro n p0 b0 u fu ht q0 hf hr hh
      obtain ⟨fu, rfl⟩ : ∃ f2, fu = f2 + 1 := ⟨fu - 1, by omega⟩
      have hs := skB_r (tp := tp) q0.2
      rw [rCel_s (t := fu)] at hr
      rcases hnu : numP tp e p0 0 3 with _ | ⟨y, z⟩
      · rw [hnu] at hr
        refine x_iload_n dX8_readCells_6 rfl rfl ?_
        refine x_if_eq (tgt := 73) dX8_readCells_7 (by decide) (fun h7 => ?_) (fun h7 => ?_)
        · omega
        · refine x_aload_n dX8_readCells_10 rfl rfl ?_
          refine x_iconst dX8_readCells_11 rfl ?_
          refine x_iconst dX8_readCells_12 rfl ?_
          refine g_callI (vs := [_, _, _]) (d' := d - 1) rfl (s_X8_number (by omega) hR (by omega)) dX8_readCells_13 kX8_128 (by omega) (by decide) rfl (Nat.le_of_ble_eq_true rfl) (rcv_o (by first | assumption | exact hT.2.1) rfl) (fun x13 M13 h13 => ?_)
          obtain ⟨q, hM3, -, hn3'⟩ := h13
          have ex3 := hn3' hnu
          subst ex3
          subst hM3
          refine x_istore (L' := [some _, some _, some _, some _, some _]) dX8_readCells_16 (by decide) rfl ?_
          refine x_iload dX8_readCells_18 rfl ?_
          refine x_if_lt (tgt := 33) dX8_readCells_20 (by decide) (fun h20 => ?_) (fun h20 => ?_)
          · refine x_iconst dX8_readCells_33 rfl ?_
            refine x_istore_n (L' := [some _, some _, some _, some _, some _]) dX8_readCells_34 rfl (by decide) rfl ?_
            refine x_iload_n dX8_readCells_35 rfl rfl ?_
            refine x_if_eq (tgt := 50) dX8_readCells_36 (by decide) (fun h36 => ?_) (fun h36 => ?_)
            · first | refine x_iincN (L' := [some _, some _, some _, some _, some _]) dX8_readCells_50 rfl (by decide) (by unfold i32; omega) rfl ?_ | refine x_iinc (L' := [some _, some _, some _, some _, some _]) dX8_readCells_50 rfl (by decide) rfl ?_
              refine x_iload_n dX8_readCells_53 rfl rfl ?_
              refine x_if_eq (tgt := 68) dX8_readCells_54 (by decide) (fun h54 => ?_) (fun h54 => ?_)
              · refine x_iconst dX8_readCells_68 rfl ?_
                refine x_istore_n (L' := [some _, some _, some _, some _, some _]) dX8_readCells_69 rfl (by decide) rfl ?_
                refine x_goto (tgt := 6) dX8_readCells_70 (by decide) ?_
                skip
                refine x_fgt (L' := [some (dR m), some (dI (n + 1)), some (dI 0), some (dI 0), none]) (by repeat (first | exact trivial | refine ⟨rfl, ?_⟩)) ?_
                refine x_iload_n dX8_readCells_6 rfl rfl ?_
                refine x_if_eq (tgt := 73) dX8_readCells_7 (by decide) (fun h7 => ?_) (fun h7 => absurd rfl h7)
                refine x_iload_n dX8_readCells_73 rfl rfl ?_
                refine x_zreturn (Or.inl rfl) rfl dX8_readCells_74 ?_
                exact hQ _ _ ⟨_, rfl, BOut.f hr hh⟩
              · omega
            · omega
          · omega
      · rw [hnu] at hr
        have hnr := numP_r q0.2 hnu
        have hy2 := skB_r (tp := tp) (e := e) (p := y) (by omega)
        by_cases hn8 : n < 8
        · by_cases hg : chP tp e 48 57 (skB tp e y)
          · have hr2 : rCel tp e 10 p 0 w = rCel tp e fu (skB tp e y) (n + 1) (us u (22 + n) z) := hr.trans ((if_pos hn8).trans (if_pos hg))
            refine x_iload_n dX8_readCells_6 rfl rfl ?_
            refine x_if_eq (tgt := 73) dX8_readCells_7 (by decide) (fun h7 => ?_) (fun h7 => ?_)
            · omega
            · refine x_aload_n dX8_readCells_10 rfl rfl ?_
              refine x_iconst dX8_readCells_11 rfl ?_
              refine x_iconst dX8_readCells_12 rfl ?_
              refine g_callI (vs := [_, _, _]) (d' := d - 1) rfl (s_X8_number (by omega) hR (by omega)) dX8_readCells_13 kX8_128 (by omega) (by decide) rfl (Nat.le_of_ble_eq_true rfl) (rcv_o (by first | assumption | exact hT.2.1) rfl) (fun x13 M13 h13 => ?_)
              obtain ⟨q, hM3, hn3', -⟩ := h13
              obtain ⟨eq3, ex3⟩ := hn3' _ _ hnu
              subst ex3
              subst eq3
              subst hM3
              refine x_istore (L' := [some _, some _, some _, some _, some _]) dX8_readCells_16 (by decide) rfl ?_
              refine x_iload dX8_readCells_18 rfl ?_
              refine x_if_lt (tgt := 33) dX8_readCells_20 (by decide) (fun h20 => ?_) (fun h20 => ?_)
              · omega
              · refine x_iload_n dX8_readCells_23 rfl rfl ?_
                refine x_bipush dX8_readCells_24 rfl ?_
                refine x_icmp_ge (tgt := 33) dX8_readCells_26 (by decide) (fun h26 => ?_) (fun h26 => ?_)
                · omega
                · refine x_iconst dX8_readCells_29 rfl ?_
                  refine x_goto (tgt := 34) dX8_readCells_30 (by decide) ?_
                  refine x_istore_n (L' := [some _, some _, some _, some _, some _]) dX8_readCells_34 rfl (by decide) rfl ?_
                  refine x_iload_n dX8_readCells_35 rfl rfl ?_
                  refine x_if_eq (tgt := 50) dX8_readCells_36 (by decide) (fun h36 => ?_) (fun h36 => ?_)
                  · omega
                  · refine x_aload_n dX8_readCells_39 rfl rfl ?_
                    refine g_getR (kI := 1) rfl dX8_readCells_40 fX8_13_8 (by first | assumption | exact hT.2.1) (by first | assumption | exact hT.2.1) ?_
                    refine x_bipush dX8_readCells_43 rfl ?_
                    refine x_iload_n dX8_readCells_45 rfl rfl ?_
                    first | refine x_iaddN dX8_readCells_46 (by unfold i32; omega) ?_ | refine x_iadd dX8_readCells_46 ?_
                    refine x_iload dX8_readCells_47 rfl ?_
                    refine x_iast (by omega) dX8_readCells_49 (by first | assumption | exact hT.2.1) (by omega) (by omega) ?_
                    try simp only [mQ_wp, mQ_wb, mQ_wd, mQ_wc, mQ_ww]
                    first | refine x_iincN (L' := [some _, some _, some _, some _, some _]) dX8_readCells_50 rfl (by decide) (by unfold i32; omega) rfl ?_ | refine x_iinc (L' := [some _, some _, some _, some _, some _]) dX8_readCells_50 rfl (by decide) rfl ?_
                    refine x_iload_n dX8_readCells_53 rfl rfl ?_
                    refine x_if_eq (tgt := 68) dX8_readCells_54 (by decide) (fun h54 => ?_) (fun h54 => ?_)
                    · omega
                    · refine x_aload_n dX8_readCells_57 rfl rfl ?_
                      refine g_callI (vs := [_]) (d' := d - 1) rfl (s_X8_isNumberNext (by omega) hR (by omega)) dX8_readCells_58 kX8_168 (by omega) (by decide) rfl (Nat.le_of_ble_eq_true rfl) (rcv_o (by first | assumption | exact hT.2.1) rfl) (fun x58 M58 h58 => ?_)
                      obtain ⟨e58, f58⟩ := h58
                      subst f58
                      subst e58
                      refine x_if_eq (tgt := 68) dX8_readCells_61 (by decide) (fun h61 => ?_) (fun h61 => ?_)
                      · try simp only [vP_0, vP_1, vP_n0, vP_n1, Classical.not_not] at h61
                        exact absurd hg h61
                      · try simp only [vP_0, vP_1, vP_n0, vP_n1, Classical.not_not] at h61
                        refine x_iconst dX8_readCells_64 rfl ?_
                        refine x_goto (tgt := 69) dX8_readCells_65 (by decide) ?_
                        refine x_istore_n (L' := [some _, some _, some _, some _, some _]) dX8_readCells_69 rfl (by decide) rfl ?_
                        refine x_goto (tgt := 6) dX8_readCells_70 (by decide) ?_
                        exact x_fgt (by repeat (first | exact trivial | refine ⟨rfl, ?_⟩)) (ih _ (by omega) (n + 1) (skB tp e q) _ _ fu rfl (by omega) (by omega) hr2 (hh.us (by omega)))
          · have hr2 : rCel tp e 10 p 0 w = .inr (skB tp e y, us u (22 + n) z) := hr.trans ((if_pos hn8).trans (if_neg hg))
            refine x_iload_n dX8_readCells_6 rfl rfl ?_
            refine x_if_eq (tgt := 73) dX8_readCells_7 (by decide) (fun h7 => ?_) (fun h7 => ?_)
            · omega
            · refine x_aload_n dX8_readCells_10 rfl rfl ?_
              refine x_iconst dX8_readCells_11 rfl ?_
              refine x_iconst dX8_readCells_12 rfl ?_
              refine g_callI (vs := [_, _, _]) (d' := d - 1) rfl (s_X8_number (by omega) hR (by omega)) dX8_readCells_13 kX8_128 (by omega) (by decide) rfl (Nat.le_of_ble_eq_true rfl) (rcv_o (by first | assumption | exact hT.2.1) rfl) (fun x13 M13 h13 => ?_)
              obtain ⟨q, hM3, hn3', -⟩ := h13
              obtain ⟨eq3, ex3⟩ := hn3' _ _ hnu
              subst ex3
              subst eq3
              subst hM3
              refine x_istore (L' := [some _, some _, some _, some _, some _]) dX8_readCells_16 (by decide) rfl ?_
              refine x_iload dX8_readCells_18 rfl ?_
              refine x_if_lt (tgt := 33) dX8_readCells_20 (by decide) (fun h20 => ?_) (fun h20 => ?_)
              · omega
              · refine x_iload_n dX8_readCells_23 rfl rfl ?_
                refine x_bipush dX8_readCells_24 rfl ?_
                refine x_icmp_ge (tgt := 33) dX8_readCells_26 (by decide) (fun h26 => ?_) (fun h26 => ?_)
                · omega
                · refine x_iconst dX8_readCells_29 rfl ?_
                  refine x_goto (tgt := 34) dX8_readCells_30 (by decide) ?_
                  refine x_istore_n (L' := [some _, some _, some _, some _, some _]) dX8_readCells_34 rfl (by decide) rfl ?_
                  refine x_iload_n dX8_readCells_35 rfl rfl ?_
                  refine x_if_eq (tgt := 50) dX8_readCells_36 (by decide) (fun h36 => ?_) (fun h36 => ?_)
                  · omega
                  · refine x_aload_n dX8_readCells_39 rfl rfl ?_
                    refine g_getR (kI := 1) rfl dX8_readCells_40 fX8_13_8 (by first | assumption | exact hT.2.1) (by first | assumption | exact hT.2.1) ?_
                    refine x_bipush dX8_readCells_43 rfl ?_
                    refine x_iload_n dX8_readCells_45 rfl rfl ?_
                    first | refine x_iaddN dX8_readCells_46 (by unfold i32; omega) ?_ | refine x_iadd dX8_readCells_46 ?_
                    refine x_iload dX8_readCells_47 rfl ?_
                    refine x_iast (by omega) dX8_readCells_49 (by first | assumption | exact hT.2.1) (by omega) (by omega) ?_
                    try simp only [mQ_wp, mQ_wb, mQ_wd, mQ_wc, mQ_ww]
                    first | refine x_iincN (L' := [some _, some _, some _, some _, some _]) dX8_readCells_50 rfl (by decide) (by unfold i32; omega) rfl ?_ | refine x_iinc (L' := [some _, some _, some _, some _, some _]) dX8_readCells_50 rfl (by decide) rfl ?_
                    refine x_iload_n dX8_readCells_53 rfl rfl ?_
                    refine x_if_eq (tgt := 68) dX8_readCells_54 (by decide) (fun h54 => ?_) (fun h54 => ?_)
                    · omega
                    · refine x_aload_n dX8_readCells_57 rfl rfl ?_
                      refine g_callI (vs := [_]) (d' := d - 1) rfl (s_X8_isNumberNext (by omega) hR (by omega)) dX8_readCells_58 kX8_168 (by omega) (by decide) rfl (Nat.le_of_ble_eq_true rfl) (rcv_o (by first | assumption | exact hT.2.1) rfl) (fun x58 M58 h58 => ?_)
                      obtain ⟨e58, f58⟩ := h58
                      subst f58
                      subst e58
                      refine x_if_eq (tgt := 68) dX8_readCells_61 (by decide) (fun h61 => ?_) (fun h61 => ?_)
                      · try simp only [vP_0, vP_1, vP_n0, vP_n1, Classical.not_not] at h61
                        refine x_iconst dX8_readCells_68 rfl ?_
                        refine x_istore_n (L' := [some _, some _, some _, some _, some _]) dX8_readCells_69 rfl (by decide) rfl ?_
                        refine x_goto (tgt := 6) dX8_readCells_70 (by decide) ?_
                        skip
                        refine x_fgt (L' := [some (dR m), some (dI (n + 1)), some (dI 1), some (dI 0), none]) (by repeat (first | exact trivial | refine ⟨rfl, ?_⟩)) ?_
                        refine x_iload_n dX8_readCells_6 rfl rfl ?_
                        refine x_if_eq (tgt := 73) dX8_readCells_7 (by decide) (fun h7 => ?_) (fun h7 => absurd rfl h7)
                        refine x_iload_n dX8_readCells_73 rfl rfl ?_
                        refine x_zreturn (Or.inr rfl) rfl dX8_readCells_74 ?_
                        exact hQ _ _ ⟨_, rfl, BOut.s hr2 (by omega) (hh.us (by omega))⟩
                      · try simp only [vP_0, vP_1, vP_n0, vP_n1, Classical.not_not] at h61
                        exact absurd h61 hg
        · have hr2 : rCel tp e 10 p 0 w = .inl (skB tp e p0) := hr.trans (if_neg hn8)
          refine x_iload_n dX8_readCells_6 rfl rfl ?_
          refine x_if_eq (tgt := 73) dX8_readCells_7 (by decide) (fun h7 => ?_) (fun h7 => ?_)
          · omega
          · refine x_aload_n dX8_readCells_10 rfl rfl ?_
            refine x_iconst dX8_readCells_11 rfl ?_
            refine x_iconst dX8_readCells_12 rfl ?_
            refine g_callI (vs := [_, _, _]) (d' := d - 1) rfl (s_X8_number (by omega) hR (by omega)) dX8_readCells_13 kX8_128 (by omega) (by decide) rfl (Nat.le_of_ble_eq_true rfl) (rcv_o (by first | assumption | exact hT.2.1) rfl) (fun x13 M13 h13 => ?_)
            obtain ⟨q, hM3, hn3', -⟩ := h13
            obtain ⟨eq3, ex3⟩ := hn3' _ _ hnu
            subst ex3
            subst eq3
            subst hM3
            refine x_istore (L' := [some _, some _, some _, some _, some _]) dX8_readCells_16 (by decide) rfl ?_
            refine x_iload dX8_readCells_18 rfl ?_
            refine x_if_lt (tgt := 33) dX8_readCells_20 (by decide) (fun h20 => ?_) (fun h20 => ?_)
            · omega
            · refine x_iload_n dX8_readCells_23 rfl rfl ?_
              refine x_bipush dX8_readCells_24 rfl ?_
              refine x_icmp_ge (tgt := 33) dX8_readCells_26 (by decide) (fun h26 => ?_) (fun h26 => ?_)
              · refine x_iconst dX8_readCells_33 rfl ?_
                refine x_istore_n (L' := [some _, some _, some _, some _, some _]) dX8_readCells_34 rfl (by decide) rfl ?_
                refine x_iload_n dX8_readCells_35 rfl rfl ?_
                refine x_if_eq (tgt := 50) dX8_readCells_36 (by decide) (fun h36 => ?_) (fun h36 => ?_)
                · first | refine x_iincN (L' := [some _, some _, some _, some _, some _]) dX8_readCells_50 rfl (by decide) (by unfold i32; omega) rfl ?_ | refine x_iinc (L' := [some _, some _, some _, some _, some _]) dX8_readCells_50 rfl (by decide) rfl ?_
                  refine x_iload_n dX8_readCells_53 rfl rfl ?_
                  refine x_if_eq (tgt := 68) dX8_readCells_54 (by decide) (fun h54 => ?_) (fun h54 => ?_)
                  · refine x_iconst dX8_readCells_68 rfl ?_
                    refine x_istore_n (L' := [some _, some _, some _, some _, some _]) dX8_readCells_69 rfl (by decide) rfl ?_
                    refine x_goto (tgt := 6) dX8_readCells_70 (by decide) ?_
                    skip
                    refine x_fgt (L' := [some (dR m), some (dI (n + 1)), some (dI 0), some (dI 0), none]) (by repeat (first | exact trivial | refine ⟨rfl, ?_⟩)) ?_
                    refine x_iload_n dX8_readCells_6 rfl rfl ?_
                    refine x_if_eq (tgt := 73) dX8_readCells_7 (by decide) (fun h7 => ?_) (fun h7 => absurd rfl h7)
                    refine x_iload_n dX8_readCells_73 rfl rfl ?_
                    refine x_zreturn (Or.inl rfl) rfl dX8_readCells_74 ?_
                    exact hQ _ _ ⟨_, rfl, BOut.f hr2 hh⟩
                  · omega
                · omega
              · omega
  refine x_iconst dX8_readCells_0 rfl ?_
  refine x_istore_n (L' := [some _, some _, none, none, none]) dX8_readCells_1 rfl (by decide) rfl ?_
  refine x_iconst dX8_readCells_2 rfl ?_
  refine x_istore_n (L' := [some _, some _, some _, none, none]) dX8_readCells_3 rfl (by decide) rfl ?_
  refine x_iconst dX8_readCells_4 rfl ?_
  refine x_istore_n (L' := [some _, some _, some _, some _, none]) dX8_readCells_5 rfl (by decide) rfl ?_
  exact lp _ 0 p b w 10 rfl hp (by omega) rfl hiW.rfl
end X8

