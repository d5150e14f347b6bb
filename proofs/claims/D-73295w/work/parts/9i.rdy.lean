/-! GuestViewModel: all lines of a text -/
theorem drf_id {v : Vw} : drf v (fun k => v (k + 849)) = v := funext fun k => by
  unfold drf
  split
  · exact congrArg v (show k - 849 + 849 = k by omega)
  · rfl
theorem rBch_sk {tp : Int → Int} {e p n : Int} {t : Nat} {v : Vw} : rBch tp e (t + 1) (skB tp e p) n v = rBch tp e (t + 1) p n v := by
  rw [rBch_s, rBch_s, skB_i _ rfl]
theorem rLwl_sk {tp : Int → Int} {e n p c : Int} {t : Nat} {u : Vw} : rLwl tp e (t + 1) n (skB tp e p, c, u) = rLwl tp e (t + 1) n (p, c, u) := by
  rw [rLwl_s, rLwl_s, skB_i _ rfl]
section X8
variable {G : GW} {d : Nat} {M : Mem} {m p b dp c e lo hi k n o a x sz : Int} {w v u : Vw} {tp : Int → Int}
theorem TxS.use (h : TxS M) (h0 : 0 ≤ m) : TxS (mUse M m sz) := h.of (fun _ _ => rfl) (fun a k q => mUse_o (by omega)) fun _ _ _ => rfl
theorem mUse_Q (hw : mci M (m + 1) = v) : mUse M m sz = mQr (mUse M m sz) m 0 (mci M m 12) (mci M m 13) (mci M m 16) v := by
  have h := mQ_z (M := mUse M m sz) (m := m)
  rw [mUse_10, mUse_f (k := 12) (by omega), mUse_f (k := 13) (by omega), mUse_f (k := 16) (by omega), mUse_fun (a := m + 1) (by omega), hw] at h
  exact h.symm
theorem s_readAllB (hd : 27 ≤ d) (hT : TwS (msh M) (mcr M) m) (h9 : mci M m 9 = sz) (hsz : 0 ≤ sz ∧ sz ≤ 400) (ht6 : mci M (m + 6) = tp) (hX : TxS M) (hw : mci M (m + 1) = v) (hv : okB v) : CS G d mX8_readAll [dR m, dI 1] M (postI fun x M1 => (∀ f, rBench tp sz v = .inl f → x = -1 ∧ ∃ p' dp' c' w', M1 = mQr (mUse M m sz) m p' f dp' c' w' ∧ hiW v w') ∧ ∀ y, rBench tp sz v = .inr y → x = y.1 ∧ (0 ≤ x ∧ x ≤ 14) ∧ ∃ p' b' dp' c', M1 = mQr (mUse M m sz) m p' b' dp' c' y.2 ∧ hiW v y.2) := by
  have hm0 : 0 ≤ m := hT.1
  have hR : RdH (mUse M m sz) m tp sz := ⟨hT, mUse_11, (mUse_fun (by omega)).trans ht6, hsz, hX.use hm0⟩
  obtain ⟨-, he, htp, he2, -⟩ := id hR
  have hT_ := hT; obtain ⟨p0, p1, ⟨c1, c2, c3, c4, c5, c6, c7, c8, c9, c10, c11, c12, c13, c14, c15⟩, ⟨t1, t2, t3, t4, t5, t6, t7, t8, t9, t10, t11, t12, t13, t14, t15⟩⟩ := hT_
  refine CS.mkQ (by decide) (Nat.le_of_ble_eq_true rfl) fun Q hQ => ?_
  have lp : ∀ (t : Nat) (n p b dp : Int) (w : Vw), (14 - n).toNat = t → (0 ≤ n ∧ n ≤ 14) → (0 ≤ p ∧ p ≤ sz) → (okB w) → (hiW v w) → (rBch tp sz (16 - n).toNat p n w = rBench tp sz v) → WP G d mX8_readAll 28 [some (dR m), some (dI 1), some (dI n)] [] (mQr (mUse M m sz) m p b dp 0 w) Q := by
    intro t
    induction t using Nat.strongRecOn with
    | _ t ih =>
      intro n p b dp w ht n0 hp hB hh hr
      have e1 : (16 - n).toNat = (16 - (n + 1)).toNat + 1 := by omega
      rw [e1, rBch_s] at hr
      have hs := skB_r (tp := tp) hp.2
      have hs2 := wdB_r (tp := tp) hs.2
      by_cases hn : n < 14
      · rw [if_pos hn] at hr
        rcases hl : rLin tp sz (skB tp sz p) (wdB tp sz (skB tp sz p)) w with f | y
        · rw [hl] at hr
          dsimp only at hr
          refine x_aload_n dX8_readAll_28 rfl rfl ?_
          refine x_iload_n dX8_readAll_29 rfl rfl ?_
          refine x_iload_n dX8_readAll_30 rfl rfl ?_
          refine g_callI (vs := [_, _, _]) (d' := d - 1) rfl (s_readLineB (by omega) hR (by omega) (by have := hB.1; omega)) dX8_readAll_31 kX8_272 (by omega) (by decide) rfl (Nat.le_of_ble_eq_true rfl) (rcv_o (by first | assumption | exact hT.2.1) rfl) (fun x31 M31 h31 => ?_)
          obtain ⟨e31, p31, w31, hM31, q31⟩ := (h31.1 hn).1 f hl
          subst e31
          subst hM31
          refine x_if_ne (tgt := 39) dX8_readAll_34 (by decide) (fun h34 => ?_) (fun h34 => ?_)
          · try simp only [vP_0, vP_1, vP_n0, vP_n1, Classical.not_not] at h34
            simp at h34
          · try simp only [vP_0, vP_1, vP_n0, vP_n1, Classical.not_not] at h34
            refine x_iconst dX8_readAll_37 rfl ?_
            refine x_ireturn rfl dX8_readAll_38 ?_
            exact hQ _ _ ⟨_, rfl, fun g q => (by rw [← hr] at q; cases q; exact ⟨rfl, _, _, _, _, rfl, hh.trans q31⟩), fun y q => (by rw [← hr] at q; cases q)⟩
        · rw [hl] at hr
          dsimp only at hr
          have hok := rLin_ok hs2.2 hl hB
          have hye := rLin_e hs2.2 hl
          have hs3 := skB_r (tp := tp) hye.2
          refine x_aload_n dX8_readAll_28 rfl rfl ?_
          refine x_iload_n dX8_readAll_29 rfl rfl ?_
          refine x_iload_n dX8_readAll_30 rfl rfl ?_
          refine g_callI (vs := [_, _, _]) (d' := d - 1) rfl (s_readLineB (by omega) hR (by omega) (by have := hB.1; omega)) dX8_readAll_31 kX8_272 (by omega) (by decide) rfl (Nat.le_of_ble_eq_true rfl) (rcv_o (by first | assumption | exact hT.2.1) rfl) (fun x31 M31 h31 => ?_)
          obtain ⟨e31, ⟨b31, hM31⟩, q31, r31⟩ := (h31.1 hn).2 y hl
          subst e31
          subst hM31
          refine x_if_ne (tgt := 39) dX8_readAll_34 (by decide) (fun h34 => ?_) (fun h34 => ?_)
          · try simp only [vP_0, vP_1, vP_n0, vP_n1, Classical.not_not] at h34
            refine x_aload_n dX8_readAll_39 rfl rfl ?_
            refine g_callN (vs := [_]) (d' := d - 1) rfl (s_X8_blanks (by omega) hR (by omega)) dX8_readAll_40 kX8_109 (by omega) (by decide) rfl (Nat.le_of_ble_eq_true rfl) (rcv_o (by first | assumption | exact hT.2.1) rfl) (fun M40 h40 => ?_)
            have f40 := h40.symm
            subst f40
            refine x_aload_n dX8_readAll_43 rfl rfl ?_
            refine g_getI (kI := 10) rfl dX8_readAll_44 fX8_96_8 (by first | assumption | exact hT.2.1) ?_
            try simp (disch := omega) only [rdI_e, rdI_n, rdC_i, rdC_o, rdW, rdR, rdU_e, rdU_n, rdLW, Int.add_zero, mQ_p, mQ_b, mQ_d, mQ_c, mQ_w, mQ_e, mQ_t, he, htp]
            refine x_aload_n dX8_readAll_47 rfl rfl ?_
            refine g_getI (kI := 11) rfl dX8_readAll_48 fX8_99_8 (by first | assumption | exact hT.2.1) ?_
            try simp (disch := omega) only [rdI_e, rdI_n, rdC_i, rdC_o, rdW, rdR, rdU_e, rdU_n, rdLW, Int.add_zero, mQ_p, mQ_b, mQ_d, mQ_c, mQ_w, mQ_e, mQ_t, he, htp]
            refine x_icmp_ne (tgt := 58) dX8_readAll_51 (by decide) (fun h51 => ?_) (fun h51 => ?_)
            · refine x_aload_n dX8_readAll_58 rfl rfl ?_
              refine x_bipush dX8_readAll_59 rfl ?_
              refine x_bipush dX8_readAll_61 rfl ?_
              refine g_callI (vs := [_, _, _]) (d' := d - 1) rfl (s_X8_isAt (by omega) hR (by omega)) dX8_readAll_63 kX8_102 (by omega) (by decide) rfl (Nat.le_of_ble_eq_true rfl) (rcv_o (by first | assumption | exact hT.2.1) rfl) (fun x63 M63 h63 => ?_)
              obtain ⟨e63, f63⟩ := h63
              have f63' := f63.symm
              subst f63'
              subst e63
              try simp (disch := omega) only [rdI_e, rdI_n, rdC_i, rdC_o, rdW, rdR, rdU_e, rdU_n, rdLW, Int.add_zero, mQ_p, mQ_b, mQ_d, mQ_c, mQ_w, mQ_e, mQ_t, he, htp]
              refine x_if_ne (tgt := 71) dX8_readAll_66 (by decide) (fun h66 => ?_) (fun h66 => ?_)
              · try simp only [vP_0, vP_1, vP_n0, vP_n1, Classical.not_not] at h66
                refine x_aload_n dX8_readAll_71 rfl rfl ?_
                refine x_dup dX8_readAll_72 rfl ?_
                refine g_getI (kI := 10) rfl dX8_readAll_73 fX8_96_8 (by first | assumption | exact hT.2.1) ?_
                try simp (disch := omega) only [rdI_e, rdI_n, rdC_i, rdC_o, rdW, rdR, rdU_e, rdU_n, rdLW, Int.add_zero, mQ_p, mQ_b, mQ_d, mQ_c, mQ_w, mQ_e, mQ_t, he, htp]
                refine x_iconst dX8_readAll_76 rfl ?_
                first | refine x_iaddN dX8_readAll_77 (by unfold i32; omega) ?_ | refine x_iadd dX8_readAll_77 ?_
                refine g_putI (kI := 10) rfl dX8_readAll_78 fX8_96_8 (by first | assumption | exact hT.2.1) ?_
                try simp only [mQ_wp, mQ_wb, mQ_wd, mQ_wc, mQ_ww]
                first | refine x_iincN (L' := [some _, some _, some _]) dX8_readAll_81 rfl (by decide) (by unfold i32; omega) rfl ?_ | refine x_iinc (L' := [some _, some _, some _]) dX8_readAll_81 rfl (by decide) rfl ?_
                refine x_goto (tgt := 28) dX8_readAll_84 (by decide) ?_
                rw [if_neg h51, if_pos (by omega)] at hr
                exact ih _ (by omega) (n + 1) _ _ _ _ rfl (by omega) (by omega) hok.1 (hh.trans r31) hr
              · try simp only [vP_0, vP_1, vP_n0, vP_n1, Classical.not_not] at h66
                refine x_iconst dX8_readAll_69 rfl ?_
                refine x_ireturn rfl dX8_readAll_70 ?_
                rw [if_neg h51, if_neg (by omega)] at hr
                exact hQ _ _ ⟨_, rfl, fun g q => (by rw [← hr] at q; cases q; exact ⟨rfl, _, _, _, _, rfl, hh.trans r31⟩), fun y' q => (by rw [← hr] at q; cases q)⟩
            · refine x_iload_n dX8_readAll_54 rfl rfl ?_
              refine x_iconst dX8_readAll_55 rfl ?_
              first | refine x_iaddN dX8_readAll_56 (by unfold i32; omega) ?_ | refine x_iadd dX8_readAll_56 ?_
              refine x_ireturn rfl dX8_readAll_57 ?_
              rw [if_pos h51] at hr
              exact hQ _ _ ⟨_, rfl, fun g q => (by rw [← hr] at q; cases q), fun y' q => (by rw [← hr] at q; cases q; exact ⟨rfl, by omega, _, _, _, _, rfl, hh.trans r31⟩)⟩
          · try simp only [vP_0, vP_1, vP_n0, vP_n1, Classical.not_not] at h34
            simp at h34
      · rw [if_neg hn] at hr
        refine x_aload_n dX8_readAll_28 rfl rfl ?_
        refine x_iload_n dX8_readAll_29 rfl rfl ?_
        refine x_iload_n dX8_readAll_30 rfl rfl ?_
        refine g_callI (vs := [_, _, _]) (d' := d - 1) rfl (s_readLineB (by omega) hR (by omega) (by have := hB.1; omega)) dX8_readAll_31 kX8_272 (by omega) (by decide) rfl (Nat.le_of_ble_eq_true rfl) (rcv_o (by first | assumption | exact hT.2.1) rfl) (fun x31 M31 h31 => ?_)
        obtain ⟨e31, hM31⟩ := h31.2 hn
        subst e31
        subst hM31
        refine x_if_ne (tgt := 39) dX8_readAll_34 (by decide) (fun h34 => ?_) (fun h34 => ?_)
        · try simp only [vP_0, vP_1, vP_n0, vP_n1, Classical.not_not] at h34
          simp at h34
        · try simp only [vP_0, vP_1, vP_n0, vP_n1, Classical.not_not] at h34
          refine x_iconst dX8_readAll_37 rfl ?_
          refine x_ireturn rfl dX8_readAll_38 ?_
          exact hQ _ _ ⟨_, rfl, fun g q => (by rw [← hr] at q; cases q; exact ⟨rfl, _, _, _, _, rfl, hh⟩), fun y q => (by rw [← hr] at q; cases q)⟩
  have hs0 := skB_r (tp := tp) (p := 0) hsz.1
  refine x_aload_n dX8_readAll_0 rfl rfl ?_
  refine g_callN (vs := [_]) (d' := d - 1) rfl (s_X8_uses (by omega) hT h9) dX8_readAll_1 kX8_270 (by omega) (by decide) rfl (Nat.le_of_ble_eq_true rfl) (rcv_o (by first | assumption | exact hT.2.1) rfl) (fun M1 h1 => ?_)
  subst h1
  refine WP.mem (mUse_Q hw) ?_
  refine x_aload_n dX8_readAll_4 rfl rfl ?_
  refine x_iconst dX8_readAll_5 rfl ?_
  refine g_putI (kI := 16) rfl dX8_readAll_6 fX8_202_8 (by first | assumption | exact hT.2.1) ?_
  try simp only [mQ_wp, mQ_wb, mQ_wd, mQ_wc, mQ_ww]
  refine x_aload_n dX8_readAll_9 rfl rfl ?_
  refine g_callN (vs := [_]) (d' := d - 1) rfl (s_X8_blanks (by omega) hR (by omega)) dX8_readAll_10 kX8_109 (by omega) (by decide) rfl (Nat.le_of_ble_eq_true rfl) (rcv_o (by first | assumption | exact hT.2.1) rfl) (fun M10 h10 => ?_)
  have f10 := h10.symm
  subst f10
  refine x_aload_n dX8_readAll_13 rfl rfl ?_
  refine g_getI (kI := 10) rfl dX8_readAll_14 fX8_96_8 (by first | assumption | exact hT.2.1) ?_
  try simp (disch := omega) only [rdI_e, rdI_n, rdC_i, rdC_o, rdW, rdR, rdU_e, rdU_n, rdLW, Int.add_zero, mQ_p, mQ_b, mQ_d, mQ_c, mQ_w, mQ_e, mQ_t, he, htp]
  refine x_aload_n dX8_readAll_17 rfl rfl ?_
  refine g_getI (kI := 11) rfl dX8_readAll_18 fX8_99_8 (by first | assumption | exact hT.2.1) ?_
  try simp (disch := omega) only [rdI_e, rdI_n, rdC_i, rdC_o, rdW, rdR, rdU_e, rdU_n, rdLW, Int.add_zero, mQ_p, mQ_b, mQ_d, mQ_c, mQ_w, mQ_e, mQ_t, he, htp]
  refine x_icmp_ne (tgt := 26) dX8_readAll_21 (by decide) (fun h21 => ?_) (fun h21 => ?_)
  · refine x_iconst dX8_readAll_26 rfl ?_
    refine x_istore_n (L' := [some _, some _, some _]) dX8_readAll_27 rfl (by decide) rfl ?_
    refine lp _ 0 _ _ _ _ rfl (by omega) hs0 hv hiW.rfl ?_
    unfold rBench
    rw [if_neg h21]
    exact rBch_sk (t := 15)
  · refine x_iconst dX8_readAll_24 rfl ?_
    refine x_ireturn rfl dX8_readAll_25 ?_
    refine hQ _ _ ⟨_, rfl, fun g q => ?_, fun y q => ?_⟩
    · unfold rBench at q; rw [if_pos h21] at q; cases q
    · unfold rBench at q; rw [if_pos h21] at q; cases q; exact ⟨rfl, by decide, _, _, _, _, rfl, hiW.rfl⟩
theorem s_readAllL (hd : 50 ≤ d) (hT : TwS (msh M) (mcr M) m) (h9 : mci M m 9 = sz) (hsz : 0 ≤ sz ∧ sz ≤ 400) (ht6 : mci M (m + 6) = tp) (hX : TxS M) (hw : mci M (m + 1) = v) : CS G d mX8_readAll [dR m, dI 0] M (postI fun x M1 => (∀ f, rLaws tp sz (fun k => v (k + 849)) = .inl f → x = -1 ∧ ∃ p' dp' c' u', M1 = mQr (mUse M m sz) m p' f dp' c' (drf v u')) ∧ ∀ y, rLaws tp sz (fun k => v (k + 849)) = .inr y → x = y.1 ∧ ∃ p' b' dp' c', M1 = mQr (mUse M m sz) m p' b' dp' c' (drf v y.2.2)) := by
  have hm0 : 0 ≤ m := hT.1
  have hR : RdH (mUse M m sz) m tp sz := ⟨hT, mUse_11, (mUse_fun (by omega)).trans ht6, hsz, hX.use hm0⟩
  obtain ⟨-, he, htp, he2, -⟩ := id hR
  have hT_ := hT; obtain ⟨p0, p1, ⟨c1, c2, c3, c4, c5, c6, c7, c8, c9, c10, c11, c12, c13, c14, c15⟩, ⟨t1, t2, t3, t4, t5, t6, t7, t8, t9, t10, t11, t12, t13, t14, t15⟩⟩ := hT_
  refine CS.mkQ (by decide) (Nat.le_of_ble_eq_true rfl) fun Q hQ => ?_
  have lp : ∀ (t : Nat) (n p b dp c : Int) (u : Vw), (14 - n).toNat = t → (0 ≤ n ∧ n ≤ 12) → (0 ≤ p ∧ p ≤ sz) → (0 ≤ c ∧ c ≤ p) → (rLwl tp sz (14 - n).toNat n (p, c, u) = rLaws tp sz (fun k => v (k + 849))) → WP G d mX8_readAll 28 [some (dR m), some (dI 0), some (dI n)] [] (mQr (mUse M m sz) m p b dp c (drf v u)) Q := by
    intro t
    induction t using Nat.strongRecOn with
    | _ t ih =>
      intro n p b dp c u ht n0 hp hc hr
      have e1 : (14 - n).toNat = (14 - (n + 1)).toNat + 1 := by omega
      rw [e1, rLwl_s] at hr
      have hs := skB_r (tp := tp) hp.2
      have hs2 := wdB_r (tp := tp) hs.2
      by_cases hn : n < 12
      · rw [if_pos hn] at hr
        rcases hl : rLaw tp sz n (skB tp sz p) (wdB tp sz (skB tp sz p)) c u with f | y
        · rw [hl] at hr
          dsimp only at hr
          refine x_aload_n dX8_readAll_28 rfl rfl ?_
          refine x_iload_n dX8_readAll_29 rfl rfl ?_
          refine x_iload_n dX8_readAll_30 rfl rfl ?_
          refine g_callI (vs := [_, _, _]) (d' := d - 1) rfl (s_readLineL (by omega) hR (by omega) (by omega) (by omega)) dX8_readAll_31 kX8_272 (by omega) (by decide) rfl (Nat.le_of_ble_eq_true rfl) (rcv_o (by first | assumption | exact hT.2.1) rfl) (fun x31 M31 h31 => ?_)
          obtain ⟨e31, p31, dp31, c31, u31, hM31⟩ := (h31.1 hn).1 f hl
          subst e31
          subst hM31
          refine x_if_ne (tgt := 39) dX8_readAll_34 (by decide) (fun h34 => ?_) (fun h34 => ?_)
          · try simp only [vP_0, vP_1, vP_n0, vP_n1, Classical.not_not] at h34
            simp at h34
          · try simp only [vP_0, vP_1, vP_n0, vP_n1, Classical.not_not] at h34
            refine x_iconst dX8_readAll_37 rfl ?_
            refine x_ireturn rfl dX8_readAll_38 ?_
            exact hQ _ _ ⟨_, rfl, fun g q => (by rw [← hr] at q; cases q; exact ⟨rfl, _, _, _, _, rfl⟩), fun y q => (by rw [← hr] at q; cases q)⟩
        · rw [hl] at hr
          dsimp only at hr
          have hok := rLaw_ok hs2.2 ⟨hc.1, by omega⟩ hsz.2 ⟨n0.1, hn⟩ hl
          obtain ⟨hy1, hy2, -⟩ := hok
          have hs3 := skB_r (tp := tp) hy1.2
          refine x_aload_n dX8_readAll_28 rfl rfl ?_
          refine x_iload_n dX8_readAll_29 rfl rfl ?_
          refine x_iload_n dX8_readAll_30 rfl rfl ?_
          refine g_callI (vs := [_, _, _]) (d' := d - 1) rfl (s_readLineL (by omega) hR (by omega) (by omega) (by omega)) dX8_readAll_31 kX8_272 (by omega) (by decide) rfl (Nat.le_of_ble_eq_true rfl) (rcv_o (by first | assumption | exact hT.2.1) rfl) (fun x31 M31 h31 => ?_)
          obtain ⟨e31, b31, hM31⟩ := (h31.1 hn).2 y hl
          subst e31
          subst hM31
          refine x_if_ne (tgt := 39) dX8_readAll_34 (by decide) (fun h34 => ?_) (fun h34 => ?_)
          · try simp only [vP_0, vP_1, vP_n0, vP_n1, Classical.not_not] at h34
            refine x_aload_n dX8_readAll_39 rfl rfl ?_
            refine g_callN (vs := [_]) (d' := d - 1) rfl (s_X8_blanks (by omega) hR (by omega)) dX8_readAll_40 kX8_109 (by omega) (by decide) rfl (Nat.le_of_ble_eq_true rfl) (rcv_o (by first | assumption | exact hT.2.1) rfl) (fun M40 h40 => ?_)
            have f40 := h40.symm
            subst f40
            refine x_aload_n dX8_readAll_43 rfl rfl ?_
            refine g_getI (kI := 10) rfl dX8_readAll_44 fX8_96_8 (by first | assumption | exact hT.2.1) ?_
            try simp (disch := omega) only [rdI_e, rdI_n, rdC_i, rdC_o, rdW, rdR, rdU_e, rdU_n, rdLW, Int.add_zero, mQ_p, mQ_b, mQ_d, mQ_c, mQ_w, mQ_e, mQ_t, he, htp]
            refine x_aload_n dX8_readAll_47 rfl rfl ?_
            refine g_getI (kI := 11) rfl dX8_readAll_48 fX8_99_8 (by first | assumption | exact hT.2.1) ?_
            try simp (disch := omega) only [rdI_e, rdI_n, rdC_i, rdC_o, rdW, rdR, rdU_e, rdU_n, rdLW, Int.add_zero, mQ_p, mQ_b, mQ_d, mQ_c, mQ_w, mQ_e, mQ_t, he, htp]
            refine x_icmp_ne (tgt := 58) dX8_readAll_51 (by decide) (fun h51 => ?_) (fun h51 => ?_)
            · refine x_aload_n dX8_readAll_58 rfl rfl ?_
              refine x_bipush dX8_readAll_59 rfl ?_
              refine x_bipush dX8_readAll_61 rfl ?_
              refine g_callI (vs := [_, _, _]) (d' := d - 1) rfl (s_X8_isAt (by omega) hR (by omega)) dX8_readAll_63 kX8_102 (by omega) (by decide) rfl (Nat.le_of_ble_eq_true rfl) (rcv_o (by first | assumption | exact hT.2.1) rfl) (fun x63 M63 h63 => ?_)
              obtain ⟨e63, f63⟩ := h63
              have f63' := f63.symm
              subst f63'
              subst e63
              try simp (disch := omega) only [rdI_e, rdI_n, rdC_i, rdC_o, rdW, rdR, rdU_e, rdU_n, rdLW, Int.add_zero, mQ_p, mQ_b, mQ_d, mQ_c, mQ_w, mQ_e, mQ_t, he, htp]
              refine x_if_ne (tgt := 71) dX8_readAll_66 (by decide) (fun h66 => ?_) (fun h66 => ?_)
              · try simp only [vP_0, vP_1, vP_n0, vP_n1, Classical.not_not] at h66
                refine x_aload_n dX8_readAll_71 rfl rfl ?_
                refine x_dup dX8_readAll_72 rfl ?_
                refine g_getI (kI := 10) rfl dX8_readAll_73 fX8_96_8 (by first | assumption | exact hT.2.1) ?_
                try simp (disch := omega) only [rdI_e, rdI_n, rdC_i, rdC_o, rdW, rdR, rdU_e, rdU_n, rdLW, Int.add_zero, mQ_p, mQ_b, mQ_d, mQ_c, mQ_w, mQ_e, mQ_t, he, htp]
                refine x_iconst dX8_readAll_76 rfl ?_
                first | refine x_iaddN dX8_readAll_77 (by unfold i32; omega) ?_ | refine x_iadd dX8_readAll_77 ?_
                refine g_putI (kI := 10) rfl dX8_readAll_78 fX8_96_8 (by first | assumption | exact hT.2.1) ?_
                try simp only [mQ_wp, mQ_wb, mQ_wd, mQ_wc, mQ_ww]
                first | refine x_iincN (L' := [some _, some _, some _]) dX8_readAll_81 rfl (by decide) (by unfold i32; omega) rfl ?_ | refine x_iinc (L' := [some _, some _, some _]) dX8_readAll_81 rfl (by decide) rfl ?_
                refine x_goto (tgt := 28) dX8_readAll_84 (by decide) ?_
                rw [if_neg h51, if_pos (by omega)] at hr
                exact ih _ (by omega) (n + 1) _ _ _ _ _ rfl (by omega) (by omega) (by omega) hr
              · try simp only [vP_0, vP_1, vP_n0, vP_n1, Classical.not_not] at h66
                refine x_iconst dX8_readAll_69 rfl ?_
                refine x_ireturn rfl dX8_readAll_70 ?_
                rw [if_neg h51, if_neg (by omega)] at hr
                exact hQ _ _ ⟨_, rfl, fun g q => (by rw [← hr] at q; cases q; exact ⟨rfl, _, _, _, _, rfl⟩), fun y' q => (by rw [← hr] at q; cases q)⟩
            · refine x_iload_n dX8_readAll_54 rfl rfl ?_
              refine x_iconst dX8_readAll_55 rfl ?_
              first | refine x_iaddN dX8_readAll_56 (by unfold i32; omega) ?_ | refine x_iadd dX8_readAll_56 ?_
              refine x_ireturn rfl dX8_readAll_57 ?_
              rw [if_pos h51] at hr
              exact hQ _ _ ⟨_, rfl, fun g q => (by rw [← hr] at q; cases q), fun y' q => (by rw [← hr] at q; cases q; exact ⟨rfl, _, _, _, _, rfl⟩)⟩
          · try simp only [vP_0, vP_1, vP_n0, vP_n1, Classical.not_not] at h34
            simp at h34
      · rw [if_neg hn] at hr
        refine x_aload_n dX8_readAll_28 rfl rfl ?_
        refine x_iload_n dX8_readAll_29 rfl rfl ?_
        refine x_iload_n dX8_readAll_30 rfl rfl ?_
        refine g_callI (vs := [_, _, _]) (d' := d - 1) rfl (s_readLineL (by omega) hR (by omega) (by omega) (by omega)) dX8_readAll_31 kX8_272 (by omega) (by decide) rfl (Nat.le_of_ble_eq_true rfl) (rcv_o (by first | assumption | exact hT.2.1) rfl) (fun x31 M31 h31 => ?_)
        obtain ⟨e31, hM31⟩ := h31.2 hn
        subst e31
        subst hM31
        refine x_if_ne (tgt := 39) dX8_readAll_34 (by decide) (fun h34 => ?_) (fun h34 => ?_)
        · try simp only [vP_0, vP_1, vP_n0, vP_n1, Classical.not_not] at h34
          simp at h34
        · try simp only [vP_0, vP_1, vP_n0, vP_n1, Classical.not_not] at h34
          refine x_iconst dX8_readAll_37 rfl ?_
          refine x_ireturn rfl dX8_readAll_38 ?_
          exact hQ _ _ ⟨_, rfl, fun g q => (by rw [← hr] at q; cases q; exact ⟨rfl, _, _, _, _, rfl⟩), fun y q => (by rw [← hr] at q; cases q)⟩
  have hs0 := skB_r (tp := tp) (p := 0) hsz.1
  refine x_aload_n dX8_readAll_0 rfl rfl ?_
  refine g_callN (vs := [_]) (d' := d - 1) rfl (s_X8_uses (by omega) hT h9) dX8_readAll_1 kX8_270 (by omega) (by decide) rfl (Nat.le_of_ble_eq_true rfl) (rcv_o (by first | assumption | exact hT.2.1) rfl) (fun M1 h1 => ?_)
  subst h1
  refine WP.mem (mUse_Q (hw.trans drf_id.symm)) ?_
  refine x_aload_n dX8_readAll_4 rfl rfl ?_
  refine x_iconst dX8_readAll_5 rfl ?_
  refine g_putI (kI := 16) rfl dX8_readAll_6 fX8_202_8 (by first | assumption | exact hT.2.1) ?_
  try simp only [mQ_wp, mQ_wb, mQ_wd, mQ_wc, mQ_ww]
  refine x_aload_n dX8_readAll_9 rfl rfl ?_
  refine g_callN (vs := [_]) (d' := d - 1) rfl (s_X8_blanks (by omega) hR (by omega)) dX8_readAll_10 kX8_109 (by omega) (by decide) rfl (Nat.le_of_ble_eq_true rfl) (rcv_o (by first | assumption | exact hT.2.1) rfl) (fun M10 h10 => ?_)
  have f10 := h10.symm
  subst f10
  refine x_aload_n dX8_readAll_13 rfl rfl ?_
  refine g_getI (kI := 10) rfl dX8_readAll_14 fX8_96_8 (by first | assumption | exact hT.2.1) ?_
  try simp (disch := omega) only [rdI_e, rdI_n, rdC_i, rdC_o, rdW, rdR, rdU_e, rdU_n, rdLW, Int.add_zero, mQ_p, mQ_b, mQ_d, mQ_c, mQ_w, mQ_e, mQ_t, he, htp]
  refine x_aload_n dX8_readAll_17 rfl rfl ?_
  refine g_getI (kI := 11) rfl dX8_readAll_18 fX8_99_8 (by first | assumption | exact hT.2.1) ?_
  try simp (disch := omega) only [rdI_e, rdI_n, rdC_i, rdC_o, rdW, rdR, rdU_e, rdU_n, rdLW, Int.add_zero, mQ_p, mQ_b, mQ_d, mQ_c, mQ_w, mQ_e, mQ_t, he, htp]
  refine x_icmp_ne (tgt := 26) dX8_readAll_21 (by decide) (fun h21 => ?_) (fun h21 => ?_)
  · refine x_iconst dX8_readAll_26 rfl ?_
    refine x_istore_n (L' := [some _, some _, some _]) dX8_readAll_27 rfl (by decide) rfl ?_
    refine lp _ 0 _ _ _ _ _ rfl (by omega) hs0 (by omega) ?_
    unfold rLaws
    rw [if_neg h21]
    exact rLwl_sk (t := 13)
  · refine x_iconst dX8_readAll_24 rfl ?_
    refine x_ireturn rfl dX8_readAll_25 ?_
    refine hQ _ _ ⟨_, rfl, fun g q => ?_, fun y q => ?_⟩
    · unfold rLaws at q; rw [if_pos h21] at q; cases q
    · unfold rLaws at q; rw [if_pos h21] at q; cases q; exact ⟨rfl, _, _, _, _, rfl⟩
end X8

