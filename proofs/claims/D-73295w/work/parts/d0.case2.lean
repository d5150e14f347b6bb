/-! GuestViewLaw: the law's cases 26 to 38 -/
section LW
variable {G : GW} {d : Nat} {M : Mem} {Q : Res → Mem → Prop} {s : Sg} {N len i : Int} {sc : Int → Int}
theorem cs_26 (hd : 100 ≤ d) (hJ : IV M s N len sc) (hN : N ≤ 900000000) (hi0 : 0 ≤ i ∧ i + 6 ≤ len) (hln : len ≤ 384) (hk : ∀ (M1 : Mem) (s1 : Sg) (N1 : Int) (o5 o6 : Option DV), IV M1 s1 N1 len sc → N1 ≤ N + 120 → mnx M1 ≤ mnx M + 1400 → mns M1 ≤ mns M + 6000 → WP G d mL_law 2737 [some (dR (-5)), some (dR 0), some (dR 744), some (dR 760), some (dI i), o5, o6] [] M1 Q) : WP G d mL_law 1644 [some (dR (-5)), some (dR 0), some (dR 744), some (dR 760), some (dI i), none, none] [] M Q := by
  obtain ⟨v, n, A, hi, vi, tp, sz, fa⟩ := s
  obtain ⟨hC0, hT0, hF, h7, s5, hsc⟩ := id hJ
  have hC : CI M v n A hi vi tp sz fa N := hC0
  have s0 : msh M 0 = some (1, 0) := hC.1.1.1.1
  have hA : okA v := hC.2.1.1
  have hL : lawOK v := hC.2.1.2.1
  have hn : 0 ≤ n ∧ n ≤ 12 := hC.2.2.1.2.1
  refine x_aload_n dL_law_1644 rfl rfl ?_
  refine x_aload_n dL_law_1645 rfl rfl ?_
  refine x_iload dL_law_1646 rfl ?_
  refine x_iconst dL_law_1648 rfl ?_
  first | refine x_iaddN dL_law_1649 (by unfold i32; omega) ?_ | refine x_iadd dL_law_1649 ?_
  refine x_iald dL_law_1650 (by first | assumption | first | assumption | (simp (disch := omega) only [shI, shR, shL, shC, shD, shW, sh_V, shN_e, shN_n, crI, crL, crC, crW, crV, crR_e, crR_n, crN_e, crN_n, ciR, ciL, ciD, ciN_e, ciN_n, rdI_e, rdI_n, rdC_i, rdC_o, rdW, rdU_e, rdU_n, rdLW, clI, clR, clC, clD, clW, clV, clN_e, clN_n, clL_e, clL_n]; done) | (simp (disch := omega) only [shI, shR, shL, shC, shD, shW, sh_V, shN_e, shN_n, crI, crL, crC, crW, crV, crR_e, crR_n, crN_e, crN_n, ciR, ciL, ciD, ciN_e, ciN_n, rdI_e, rdI_n, rdC_i, rdC_o, rdW, rdU_e, rdU_n, rdLW, clI, clR, clC, clD, clW, clV, clN_e, clN_n, clL_e, clL_n] <;> first | assumption | rfl | omega)) (by omega) (by omega) ?_
  rw [hsc]
  refine x_aload_n dL_law_1651 rfl rfl ?_
  refine x_iload dL_law_1652 rfl ?_
  refine x_iconst dL_law_1654 rfl ?_
  first | refine x_iaddN dL_law_1655 (by unfold i32; omega) ?_ | refine x_iadd dL_law_1655 ?_
  refine x_iald dL_law_1656 (by first | assumption | first | assumption | (simp (disch := omega) only [shI, shR, shL, shC, shD, shW, sh_V, shN_e, shN_n, crI, crL, crC, crW, crV, crR_e, crR_n, crN_e, crN_n, ciR, ciL, ciD, ciN_e, ciN_n, rdI_e, rdI_n, rdC_i, rdC_o, rdW, rdU_e, rdU_n, rdLW, clI, clR, clC, clD, clW, clV, clN_e, clN_n, clL_e, clL_n]; done) | (simp (disch := omega) only [shI, shR, shL, shC, shD, shW, sh_V, shN_e, shN_n, crI, crL, crC, crW, crV, crR_e, crR_n, crN_e, crN_n, ciR, ciL, ciD, ciN_e, ciN_n, rdI_e, rdI_n, rdC_i, rdC_o, rdW, rdU_e, rdU_n, rdLW, clI, clR, clC, clD, clW, clV, clN_e, clN_n, clL_e, clL_n] <;> first | assumption | rfl | omega)) (by omega) (by omega) ?_
  rw [hsc]
  refine x_aload_n dL_law_1657 rfl rfl ?_
  refine g_callI (vs := [_, _, _, _]) (d' := d - 1) rfl (uc_depth (by omega) h7 hC) dL_law_1658 kX0_227 (by omega) (by decide) rfl (Nat.le_of_ble_eq_true rfl) (rcv_n) (fun x1658 M1658 h1658 => ?_)
  obtain ⟨y1658, s1658, N1658, hR1658, hy1658, hN1658, hch1658⟩ := h1658
  obtain ⟨hT1658, ⟨me1658, mw1658⟩, sf1658, hs1658, hok1658, hX1658⟩ := hJ.mid hch1658
  have hI1658 : TI M1658 744 v n A hi vi tp sz fa := hT1658
  refine x_istore (L' := [some _, some _, some _, some _, some _, some _, none]) dL_law_1661 (by decide) rfl ?_
  refine x_aload_n dL_law_1663 rfl rfl ?_
  refine x_aload_n dL_law_1664 rfl rfl ?_
  refine x_iload dL_law_1665 rfl ?_
  refine x_iconst dL_law_1667 rfl ?_
  first | refine x_iaddN dL_law_1668 (by unfold i32; omega) ?_ | refine x_iadd dL_law_1668 ?_
  refine x_iald dL_law_1669 (by first | assumption | first | assumption | (simp (disch := omega) only [shI, shR, shL, shC, shD, shW, sh_V, shN_e, shN_n, crI, crL, crC, crW, crV, crR_e, crR_n, crN_e, crN_n, ciR, ciL, ciD, ciN_e, ciN_n, rdI_e, rdI_n, rdC_i, rdC_o, rdW, rdU_e, rdU_n, rdLW, clI, clR, clC, clD, clW, clV, clN_e, clN_n, clL_e, clL_n]; done) | (simp (disch := omega) only [shI, shR, shL, shC, shD, shW, sh_V, shN_e, shN_n, crI, crL, crC, crW, crV, crR_e, crR_n, crN_e, crN_n, ciR, ciL, ciD, ciN_e, ciN_n, rdI_e, rdI_n, rdC_i, rdC_o, rdW, rdU_e, rdU_n, rdLW, clI, clR, clC, clD, clW, clV, clN_e, clN_n, clL_e, clL_n] <;> first | assumption | rfl | omega)) (by omega) (by omega) ?_
  rw [hs1658]
  refine x_aload_n dL_law_1670 rfl rfl ?_
  refine x_iload dL_law_1671 rfl ?_
  refine x_iconst dL_law_1673 rfl ?_
  first | refine x_iaddN dL_law_1674 (by unfold i32; omega) ?_ | refine x_iadd dL_law_1674 ?_
  refine x_iald dL_law_1675 (by first | assumption | first | assumption | (simp (disch := omega) only [shI, shR, shL, shC, shD, shW, sh_V, shN_e, shN_n, crI, crL, crC, crW, crV, crR_e, crR_n, crN_e, crN_n, ciR, ciL, ciD, ciN_e, ciN_n, rdI_e, rdI_n, rdC_i, rdC_o, rdW, rdU_e, rdU_n, rdLW, clI, clR, clC, clD, clW, clV, clN_e, clN_n, clL_e, clL_n]; done) | (simp (disch := omega) only [shI, shR, shL, shC, shD, shW, sh_V, shN_e, shN_n, crI, crL, crC, crW, crV, crR_e, crR_n, crN_e, crN_n, ciR, ciL, ciD, ciN_e, ciN_n, rdI_e, rdI_n, rdC_i, rdC_o, rdW, rdU_e, rdU_n, rdLW, clI, clR, clC, clD, clW, clV, clN_e, clN_n, clL_e, clL_n] <;> first | assumption | rfl | omega)) (by omega) (by omega) ?_
  rw [hs1658]
  refine g_callI (vs := [_, _, _]) (d' := d - 1) rfl (rc_depth (by omega) hI1658 hR1658) dL_law_1676 kX0_229 (by omega) (by decide) rfl (Nat.le_of_ble_eq_true rfl) (rcv_o (by first | assumption | first | assumption | (simp (disch := omega) only [shI, shR, shL, shC, shD, shW, sh_V, shN_e, shN_n, crI, crL, crC, crW, crV, crR_e, crR_n, crN_e, crN_n, ciR, ciL, ciD, ciN_e, ciN_n, rdI_e, rdI_n, rdC_i, rdC_o, rdW, rdU_e, rdU_n, rdLW, clI, clR, clC, clD, clW, clV, clN_e, clN_n, clL_e, clL_n]; done) | (simp (disch := omega) only [shI, shR, shL, shC, shD, shW, sh_V, shN_e, shN_n, crI, crL, crC, crW, crV, crR_e, crR_n, crN_e, crN_n, ciR, ciL, ciD, ciN_e, ciN_n, rdI_e, rdI_n, rdC_i, rdC_o, rdW, rdU_e, rdU_n, rdLW, clI, clR, clC, clD, clW, clV, clN_e, clN_n, clL_e, clL_n] <;> first | assumption | rfl | omega)) rfl) (fun x1676 M1676 h1676 => ?_)
  obtain ⟨e1676, hb1676, ⟨w1676, hv1676, ht1676⟩, hr1676⟩ := h1676
  obtain ⟨hJ1676, la1676, lb1676, tv1676, tm1676, tw1676, te1676⟩ := hJ.st (v' := w1676) hch1658 hr1676 hv1676 ht1676 (xc_depth hF hA hL hn hR1658)
  refine x_istore (L' := [some _, some _, some _, some _, some _, some _, some _]) dL_law_1679 (by decide) rfl ?_
  refine x_aload_n dL_law_1681 rfl rfl ?_
  refine g_callI (vs := [_]) (d' := d - 1) rfl (s_X8_thrown (by omega) tw1676) dL_law_1682 kX0_142 (by omega) (by decide) rfl (Nat.le_of_ble_eq_true rfl) (rcv_o (by first | assumption | first | assumption | (simp (disch := omega) only [shI, shR, shL, shC, shD, shW, sh_V, shN_e, shN_n, crI, crL, crC, crW, crV, crR_e, crR_n, crN_e, crN_n, ciR, ciL, ciD, ciN_e, ciN_n, rdI_e, rdI_n, rdC_i, rdC_o, rdW, rdU_e, rdU_n, rdLW, clI, clR, clC, clD, clW, clV, clN_e, clN_n, clL_e, clL_n]; done) | (simp (disch := omega) only [shI, shR, shL, shC, shD, shW, sh_V, shN_e, shN_n, crI, crL, crC, crW, crV, crR_e, crR_n, crN_e, crN_n, ciR, ciL, ciD, ciN_e, ciN_n, rdI_e, rdI_n, rdC_i, rdC_o, rdW, rdU_e, rdU_n, rdLW, clI, clR, clC, clD, clW, clV, clN_e, clN_n, clL_e, clL_n] <;> first | assumption | rfl | omega)) rfl) (fun x1682 M1682 h1682 => ?_)
  obtain ⟨e1682, f1682⟩ := h1682
  subst f1682
  refine x_iload dL_law_1685 rfl ?_
  refine x_icmp_eq (tgt := 1692) dL_law_1687 (by decide) (fun b1687 => ?_) (fun b1687 => ?_)
  · refine x_iload dL_law_1692 rfl ?_
    refine x_if_ne (tgt := 1709) dL_law_1694 (by decide) (fun b1694 => ?_) (fun b1694 => ?_)
    · refine x_goto (tgt := 2737) dL_law_1709 (by decide) ?_
      exact hk _ _ _ _ _ hJ1676 hN1658 la1676 lb1676
    · refine x_aload_n dL_law_1697 rfl rfl ?_
      refine x_iconst dL_law_1698 rfl ?_
      refine x_lald dL_law_1699 (by first | assumption | first | assumption | (simp (disch := omega) only [shI, shR, shL, shC, shD, shW, sh_V, shN_e, shN_n, crI, crL, crC, crW, crV, crR_e, crR_n, crN_e, crN_n, ciR, ciL, ciD, ciN_e, ciN_n, rdI_e, rdI_n, rdC_i, rdC_o, rdW, rdU_e, rdU_n, rdLW, clI, clR, clC, clD, clW, clV, clN_e, clN_n, clL_e, clL_n]; done) | (simp (disch := omega) only [shI, shR, shL, shC, shD, shW, sh_V, shN_e, shN_n, crI, crL, crC, crW, crV, crR_e, crR_n, crN_e, crN_n, ciR, ciL, ciD, ciN_e, ciN_n, rdI_e, rdI_n, rdC_i, rdC_o, rdW, rdU_e, rdU_n, rdLW, clI, clR, clC, clD, clW, clV, clN_e, clN_n, clL_e, clL_n] <;> first | assumption | rfl | omega)) (by omega) (by omega) ?_
      refine x_iload dL_law_1700 rfl ?_
      refine x_i2l dL_law_1702 ?_
      refine x_lcmp dL_law_1703 ?_
      refine x_if_eq (tgt := 1709) dL_law_1704 (by decide) (fun b1704 => ?_) (fun b1704 => ?_)
      · refine x_goto (tgt := 2737) dL_law_1709 (by decide) ?_
        exact hk _ _ _ _ _ hJ1676 hN1658 la1676 lb1676
      · exact absurd (jlcmp_0.mpr (by have h0 : x1658 = 0 := (by omega); have a1 := tm1676; have a2 := hy1658 h0; have a3 := hb1676 h0; omega)) b1704
  · exact absurd (e1682.trans e1676) b1687
theorem cs_27 (hd : 100 ≤ d) (hJ : IV M s N len sc) (hN : N ≤ 900000000) (hi0 : 0 ≤ i ∧ i + 6 ≤ len) (hln : len ≤ 384) (hk : ∀ (M1 : Mem) (s1 : Sg) (N1 : Int) (o5 o6 : Option DV), IV M1 s1 N1 len sc → N1 ≤ N + 120 → mnx M1 ≤ mnx M + 1400 → mns M1 ≤ mns M + 6000 → WP G d mL_law 2737 [some (dR (-5)), some (dR 0), some (dR 744), some (dR 760), some (dI i), o5, o6] [] M1 Q) : WP G d mL_law 1712 [some (dR (-5)), some (dR 0), some (dR 744), some (dR 760), some (dI i), none, none] [] M Q := by
  obtain ⟨v, n, A, hi, vi, tp, sz, fa⟩ := s
  obtain ⟨hC0, hT0, hF, h7, s5, hsc⟩ := id hJ
  have hC : CI M v n A hi vi tp sz fa N := hC0
  have s0 : msh M 0 = some (1, 0) := hC.1.1.1.1
  have hA : okA v := hC.2.1.1
  have hL : lawOK v := hC.2.1.2.1
  have hn : 0 ≤ n ∧ n ≤ 12 := hC.2.2.1.2.1
  refine x_aload_n dL_law_1712 rfl rfl ?_
  refine g_callI (vs := [_]) (d' := d - 1) rfl (uc_least (by omega) h7 hC) dL_law_1713 kX0_230 (by omega) (by decide) rfl (Nat.le_of_ble_eq_true rfl) (rcv_o (by first | assumption | first | assumption | (simp (disch := omega) only [shI, shR, shL, shC, shD, shW, sh_V, shN_e, shN_n, crI, crL, crC, crW, crV, crR_e, crR_n, crN_e, crN_n, ciR, ciL, ciD, ciN_e, ciN_n, rdI_e, rdI_n, rdC_i, rdC_o, rdW, rdU_e, rdU_n, rdLW, clI, clR, clC, clD, clW, clV, clN_e, clN_n, clL_e, clL_n]; done) | (simp (disch := omega) only [shI, shR, shL, shC, shD, shW, sh_V, shN_e, shN_n, crI, crL, crC, crW, crV, crR_e, crR_n, crN_e, crN_n, ciR, ciL, ciD, ciN_e, ciN_n, rdI_e, rdI_n, rdC_i, rdC_o, rdW, rdU_e, rdU_n, rdLW, clI, clR, clC, clD, clW, clV, clN_e, clN_n, clL_e, clL_n] <;> first | assumption | rfl | omega)) rfl) (fun x1713 M1713 h1713 => ?_)
  obtain ⟨s1713, N1713, hR1713, hN1713, hch1713⟩ := h1713
  obtain ⟨hT1713, ⟨me1713, mw1713⟩, sf1713, hs1713, hok1713, hX1713⟩ := hJ.mid hch1713
  have hI1713 : TI M1713 744 v n A hi vi tp sz fa := hT1713
  refine x_aload_n dL_law_1716 rfl rfl ?_
  refine g_callI (vs := [_]) (d' := d - 1) rfl (rc_least (by omega) hI1713 hR1713) dL_law_1717 kX0_233 (by omega) (by decide) rfl (Nat.le_of_ble_eq_true rfl) (rcv_o (by first | assumption | first | assumption | (simp (disch := omega) only [shI, shR, shL, shC, shD, shW, sh_V, shN_e, shN_n, crI, crL, crC, crW, crV, crR_e, crR_n, crN_e, crN_n, ciR, ciL, ciD, ciN_e, ciN_n, rdI_e, rdI_n, rdC_i, rdC_o, rdW, rdU_e, rdU_n, rdLW, clI, clR, clC, clD, clW, clV, clN_e, clN_n, clL_e, clL_n]; done) | (simp (disch := omega) only [shI, shR, shL, shC, shD, shW, sh_V, shN_e, shN_n, crI, crL, crC, crW, crV, crR_e, crR_n, crN_e, crN_n, ciR, ciL, ciD, ciN_e, ciN_n, rdI_e, rdI_n, rdC_i, rdC_o, rdW, rdU_e, rdU_n, rdLW, clI, clR, clC, clD, clW, clV, clN_e, clN_n, clL_e, clL_n] <;> first | assumption | rfl | omega)) rfl) (fun x1717 M1717 h1717 => ?_)
  obtain ⟨e1717, ht1717, hr1717⟩ := h1717
  obtain ⟨hJ1717, la1717, lb1717, tv1717, tm1717, tw1717, te1717⟩ := hJ.st (v' := s1713.1) hch1713 hr1717 (fun _ _ _ => rfl) ht1717 (xc_least hF hA hL hn hR1713)
  refine x_icmp_eq (tgt := 2737) dL_law_1720 (by decide) (fun b1720 => ?_) (fun b1720 => ?_)
  · exact hk _ _ _ _ _ hJ1717 hN1713 la1717 lb1717
  · exact absurd e1717.symm b1720
theorem cs_28 (hd : 100 ≤ d) (hJ : IV M s N len sc) (hN : N ≤ 900000000) (hi0 : 0 ≤ i ∧ i + 6 ≤ len) (hln : len ≤ 384) (hk : ∀ (M1 : Mem) (s1 : Sg) (N1 : Int) (o5 o6 : Option DV), IV M1 s1 N1 len sc → N1 ≤ N + 120 → mnx M1 ≤ mnx M + 1400 → mns M1 ≤ mns M + 6000 → WP G d mL_law 2737 [some (dR (-5)), some (dR 0), some (dR 744), some (dR 760), some (dI i), o5, o6] [] M1 Q) : WP G d mL_law 1725 [some (dR (-5)), some (dR 0), some (dR 744), some (dR 760), some (dI i), none, none] [] M Q := by
  obtain ⟨v, n, A, hi, vi, tp, sz, fa⟩ := s
  obtain ⟨hC0, hT0, hF, h7, s5, hsc⟩ := id hJ
  have hC : CI M v n A hi vi tp sz fa N := hC0
  have s0 : msh M 0 = some (1, 0) := hC.1.1.1.1
  have hA : okA v := hC.2.1.1
  have hL : lawOK v := hC.2.1.2.1
  have hn : 0 ≤ n ∧ n ≤ 12 := hC.2.2.1.2.1
  refine x_aload_n dL_law_1725 rfl rfl ?_
  refine g_callI (vs := [_]) (d' := d - 1) rfl (uc_proof (by omega) h7 hC) dL_law_1726 kX0_234 (by omega) (by decide) rfl (Nat.le_of_ble_eq_true rfl) (rcv_o (by first | assumption | first | assumption | (simp (disch := omega) only [shI, shR, shL, shC, shD, shW, sh_V, shN_e, shN_n, crI, crL, crC, crW, crV, crR_e, crR_n, crN_e, crN_n, ciR, ciL, ciD, ciN_e, ciN_n, rdI_e, rdI_n, rdC_i, rdC_o, rdW, rdU_e, rdU_n, rdLW, clI, clR, clC, clD, clW, clV, clN_e, clN_n, clL_e, clL_n]; done) | (simp (disch := omega) only [shI, shR, shL, shC, shD, shW, sh_V, shN_e, shN_n, crI, crL, crC, crW, crV, crR_e, crR_n, crN_e, crN_n, ciR, ciL, ciD, ciN_e, ciN_n, rdI_e, rdI_n, rdC_i, rdC_o, rdW, rdU_e, rdU_n, rdLW, clI, clR, clC, clD, clW, clV, clN_e, clN_n, clL_e, clL_n] <;> first | assumption | rfl | omega)) rfl) (fun x1726 M1726 h1726 => ?_)
  obtain ⟨s1726, N1726, hR1726, hN1726, hch1726⟩ := h1726
  obtain ⟨hT1726, ⟨me1726, mw1726⟩, sf1726, hs1726, hok1726, hX1726⟩ := hJ.mid hch1726
  have hI1726 : TI M1726 744 v n A hi vi tp sz fa := hT1726
  refine x_aload_n dL_law_1729 rfl rfl ?_
  refine g_callI (vs := [_]) (d' := d - 1) rfl (rc_proof (by omega) hI1726 hR1726) dL_law_1730 kX0_237 (by omega) (by decide) rfl (Nat.le_of_ble_eq_true rfl) (rcv_o (by first | assumption | first | assumption | (simp (disch := omega) only [shI, shR, shL, shC, shD, shW, sh_V, shN_e, shN_n, crI, crL, crC, crW, crV, crR_e, crR_n, crN_e, crN_n, ciR, ciL, ciD, ciN_e, ciN_n, rdI_e, rdI_n, rdC_i, rdC_o, rdW, rdU_e, rdU_n, rdLW, clI, clR, clC, clD, clW, clV, clN_e, clN_n, clL_e, clL_n]; done) | (simp (disch := omega) only [shI, shR, shL, shC, shD, shW, sh_V, shN_e, shN_n, crI, crL, crC, crW, crV, crR_e, crR_n, crN_e, crN_n, ciR, ciL, ciD, ciN_e, ciN_n, rdI_e, rdI_n, rdC_i, rdC_o, rdW, rdU_e, rdU_n, rdLW, clI, clR, clC, clD, clW, clV, clN_e, clN_n, clL_e, clL_n] <;> first | assumption | rfl | omega)) rfl) (fun x1730 M1730 h1730 => ?_)
  obtain ⟨e1730, ht1730, hr1730⟩ := h1730
  obtain ⟨hJ1730, la1730, lb1730, tv1730, tm1730, tw1730, te1730⟩ := hJ.st (v' := s1726.1) hch1726 hr1730 (fun _ _ _ => rfl) ht1730 (xc_proof hF hA hL hn hR1726)
  refine x_icmp_eq (tgt := 2737) dL_law_1733 (by decide) (fun b1733 => ?_) (fun b1733 => ?_)
  · exact hk _ _ _ _ _ hJ1730 hN1726 la1730 lb1730
  · exact absurd e1730.symm b1733
theorem cs_29 (hd : 100 ≤ d) (hJ : IV M s N len sc) (hN : N ≤ 900000000) (hi0 : 0 ≤ i ∧ i + 6 ≤ len) (hln : len ≤ 384) (hk : ∀ (M1 : Mem) (s1 : Sg) (N1 : Int) (o5 o6 : Option DV), IV M1 s1 N1 len sc → N1 ≤ N + 120 → mnx M1 ≤ mnx M + 1400 → mns M1 ≤ mns M + 6000 → WP G d mL_law 2737 [some (dR (-5)), some (dR 0), some (dR 744), some (dR 760), some (dI i), o5, o6] [] M1 Q) : WP G d mL_law 1738 [some (dR (-5)), some (dR 0), some (dR 744), some (dR 760), some (dI i), none, none] [] M Q := by
  obtain ⟨v, n, A, hi, vi, tp, sz, fa⟩ := s
  obtain ⟨hC0, hT0, hF, h7, s5, hsc⟩ := id hJ
  have hC : CI M v n A hi vi tp sz fa N := hC0
  have s0 : msh M 0 = some (1, 0) := hC.1.1.1.1
  have hA : okA v := hC.2.1.1
  have hL : lawOK v := hC.2.1.2.1
  have hn : 0 ≤ n ∧ n ≤ 12 := hC.2.2.1.2.1
  refine x_aload_n dL_law_1738 rfl rfl ?_
  refine x_aload_n dL_law_1739 rfl rfl ?_
  refine x_iload dL_law_1740 rfl ?_
  refine x_iconst dL_law_1742 rfl ?_
  first | refine x_iaddN dL_law_1743 (by unfold i32; omega) ?_ | refine x_iadd dL_law_1743 ?_
  refine x_iald dL_law_1744 (by first | assumption | first | assumption | (simp (disch := omega) only [shI, shR, shL, shC, shD, shW, sh_V, shN_e, shN_n, crI, crL, crC, crW, crV, crR_e, crR_n, crN_e, crN_n, ciR, ciL, ciD, ciN_e, ciN_n, rdI_e, rdI_n, rdC_i, rdC_o, rdW, rdU_e, rdU_n, rdLW, clI, clR, clC, clD, clW, clV, clN_e, clN_n, clL_e, clL_n]; done) | (simp (disch := omega) only [shI, shR, shL, shC, shD, shW, sh_V, shN_e, shN_n, crI, crL, crC, crW, crV, crR_e, crR_n, crN_e, crN_n, ciR, ciL, ciD, ciN_e, ciN_n, rdI_e, rdI_n, rdC_i, rdC_o, rdW, rdU_e, rdU_n, rdLW, clI, clR, clC, clD, clW, clV, clN_e, clN_n, clL_e, clL_n] <;> first | assumption | rfl | omega)) (by omega) (by omega) ?_
  rw [hsc]
  refine x_aload_n dL_law_1745 rfl rfl ?_
  refine x_iload dL_law_1746 rfl ?_
  refine x_iconst dL_law_1748 rfl ?_
  first | refine x_iaddN dL_law_1749 (by unfold i32; omega) ?_ | refine x_iadd dL_law_1749 ?_
  refine x_iald dL_law_1750 (by first | assumption | first | assumption | (simp (disch := omega) only [shI, shR, shL, shC, shD, shW, sh_V, shN_e, shN_n, crI, crL, crC, crW, crV, crR_e, crR_n, crN_e, crN_n, ciR, ciL, ciD, ciN_e, ciN_n, rdI_e, rdI_n, rdC_i, rdC_o, rdW, rdU_e, rdU_n, rdLW, clI, clR, clC, clD, clW, clV, clN_e, clN_n, clL_e, clL_n]; done) | (simp (disch := omega) only [shI, shR, shL, shC, shD, shW, sh_V, shN_e, shN_n, crI, crL, crC, crW, crV, crR_e, crR_n, crN_e, crN_n, ciR, ciL, ciD, ciN_e, ciN_n, rdI_e, rdI_n, rdC_i, rdC_o, rdW, rdU_e, rdU_n, rdLW, clI, clR, clC, clD, clW, clV, clN_e, clN_n, clL_e, clL_n] <;> first | assumption | rfl | omega)) (by omega) (by omega) ?_
  rw [hsc]
  refine x_aload_n dL_law_1751 rfl rfl ?_
  refine g_callI (vs := [_, _, _, _]) (d' := d - 1) rfl (uc_clash (by omega) h7 hC) dL_law_1752 kX0_238 (by omega) (by decide) rfl (Nat.le_of_ble_eq_true rfl) (rcv_n) (fun x1752 M1752 h1752 => ?_)
  obtain ⟨y1752, s1752, N1752, hR1752, hy1752, hN1752, hch1752⟩ := h1752
  obtain ⟨hT1752, ⟨me1752, mw1752⟩, sf1752, hs1752, hok1752, hX1752⟩ := hJ.mid hch1752
  have hI1752 : TI M1752 744 v n A hi vi tp sz fa := hT1752
  refine x_istore (L' := [some _, some _, some _, some _, some _, some _, none]) dL_law_1755 (by decide) rfl ?_
  refine x_aload_n dL_law_1757 rfl rfl ?_
  refine x_aload_n dL_law_1758 rfl rfl ?_
  refine x_iload dL_law_1759 rfl ?_
  refine x_iconst dL_law_1761 rfl ?_
  first | refine x_iaddN dL_law_1762 (by unfold i32; omega) ?_ | refine x_iadd dL_law_1762 ?_
  refine x_iald dL_law_1763 (by first | assumption | first | assumption | (simp (disch := omega) only [shI, shR, shL, shC, shD, shW, sh_V, shN_e, shN_n, crI, crL, crC, crW, crV, crR_e, crR_n, crN_e, crN_n, ciR, ciL, ciD, ciN_e, ciN_n, rdI_e, rdI_n, rdC_i, rdC_o, rdW, rdU_e, rdU_n, rdLW, clI, clR, clC, clD, clW, clV, clN_e, clN_n, clL_e, clL_n]; done) | (simp (disch := omega) only [shI, shR, shL, shC, shD, shW, sh_V, shN_e, shN_n, crI, crL, crC, crW, crV, crR_e, crR_n, crN_e, crN_n, ciR, ciL, ciD, ciN_e, ciN_n, rdI_e, rdI_n, rdC_i, rdC_o, rdW, rdU_e, rdU_n, rdLW, clI, clR, clC, clD, clW, clV, clN_e, clN_n, clL_e, clL_n] <;> first | assumption | rfl | omega)) (by omega) (by omega) ?_
  rw [hs1752]
  refine x_aload_n dL_law_1764 rfl rfl ?_
  refine x_iload dL_law_1765 rfl ?_
  refine x_iconst dL_law_1767 rfl ?_
  first | refine x_iaddN dL_law_1768 (by unfold i32; omega) ?_ | refine x_iadd dL_law_1768 ?_
  refine x_iald dL_law_1769 (by first | assumption | first | assumption | (simp (disch := omega) only [shI, shR, shL, shC, shD, shW, sh_V, shN_e, shN_n, crI, crL, crC, crW, crV, crR_e, crR_n, crN_e, crN_n, ciR, ciL, ciD, ciN_e, ciN_n, rdI_e, rdI_n, rdC_i, rdC_o, rdW, rdU_e, rdU_n, rdLW, clI, clR, clC, clD, clW, clV, clN_e, clN_n, clL_e, clL_n]; done) | (simp (disch := omega) only [shI, shR, shL, shC, shD, shW, sh_V, shN_e, shN_n, crI, crL, crC, crW, crV, crR_e, crR_n, crN_e, crN_n, ciR, ciL, ciD, ciN_e, ciN_n, rdI_e, rdI_n, rdC_i, rdC_o, rdW, rdU_e, rdU_n, rdLW, clI, clR, clC, clD, clW, clV, clN_e, clN_n, clL_e, clL_n] <;> first | assumption | rfl | omega)) (by omega) (by omega) ?_
  rw [hs1752]
  refine g_callI (vs := [_, _, _]) (d' := d - 1) rfl (rc_clash (by omega) hI1752 hR1752) dL_law_1770 kX0_240 (by omega) (by decide) rfl (Nat.le_of_ble_eq_true rfl) (rcv_o (by first | assumption | first | assumption | (simp (disch := omega) only [shI, shR, shL, shC, shD, shW, sh_V, shN_e, shN_n, crI, crL, crC, crW, crV, crR_e, crR_n, crN_e, crN_n, ciR, ciL, ciD, ciN_e, ciN_n, rdI_e, rdI_n, rdC_i, rdC_o, rdW, rdU_e, rdU_n, rdLW, clI, clR, clC, clD, clW, clV, clN_e, clN_n, clL_e, clL_n]; done) | (simp (disch := omega) only [shI, shR, shL, shC, shD, shW, sh_V, shN_e, shN_n, crI, crL, crC, crW, crV, crR_e, crR_n, crN_e, crN_n, ciR, ciL, ciD, ciN_e, ciN_n, rdI_e, rdI_n, rdC_i, rdC_o, rdW, rdU_e, rdU_n, rdLW, clI, clR, clC, clD, clW, clV, clN_e, clN_n, clL_e, clL_n] <;> first | assumption | rfl | omega)) rfl) (fun x1770 M1770 h1770 => ?_)
  obtain ⟨e1770, hb1770, ⟨w1770, hv1770, ht1770⟩, hr1770⟩ := h1770
  obtain ⟨hJ1770, la1770, lb1770, tv1770, tm1770, tw1770, te1770⟩ := hJ.st (v' := w1770) hch1752 hr1770 hv1770 ht1770 (xc_clash hF hA hL hn hR1752)
  refine x_istore (L' := [some _, some _, some _, some _, some _, some _, some _]) dL_law_1773 (by decide) rfl ?_
  refine x_aload_n dL_law_1775 rfl rfl ?_
  refine g_callI (vs := [_]) (d' := d - 1) rfl (s_X8_thrown (by omega) tw1770) dL_law_1776 kX0_142 (by omega) (by decide) rfl (Nat.le_of_ble_eq_true rfl) (rcv_o (by first | assumption | first | assumption | (simp (disch := omega) only [shI, shR, shL, shC, shD, shW, sh_V, shN_e, shN_n, crI, crL, crC, crW, crV, crR_e, crR_n, crN_e, crN_n, ciR, ciL, ciD, ciN_e, ciN_n, rdI_e, rdI_n, rdC_i, rdC_o, rdW, rdU_e, rdU_n, rdLW, clI, clR, clC, clD, clW, clV, clN_e, clN_n, clL_e, clL_n]; done) | (simp (disch := omega) only [shI, shR, shL, shC, shD, shW, sh_V, shN_e, shN_n, crI, crL, crC, crW, crV, crR_e, crR_n, crN_e, crN_n, ciR, ciL, ciD, ciN_e, ciN_n, rdI_e, rdI_n, rdC_i, rdC_o, rdW, rdU_e, rdU_n, rdLW, clI, clR, clC, clD, clW, clV, clN_e, clN_n, clL_e, clL_n] <;> first | assumption | rfl | omega)) rfl) (fun x1776 M1776 h1776 => ?_)
  obtain ⟨e1776, f1776⟩ := h1776
  subst f1776
  refine x_iload dL_law_1779 rfl ?_
  refine x_icmp_eq (tgt := 1786) dL_law_1781 (by decide) (fun b1781 => ?_) (fun b1781 => ?_)
  · refine x_iload dL_law_1786 rfl ?_
    refine x_if_ne (tgt := 1810) dL_law_1788 (by decide) (fun b1788 => ?_) (fun b1788 => ?_)
    · refine x_goto (tgt := 2737) dL_law_1810 (by decide) ?_
      exact hk _ _ _ _ _ hJ1770 hN1752 la1770 lb1770
    · refine x_aload_n dL_law_1791 rfl rfl ?_
      refine x_iconst dL_law_1792 rfl ?_
      refine x_lald dL_law_1793 (by first | assumption | first | assumption | (simp (disch := omega) only [shI, shR, shL, shC, shD, shW, sh_V, shN_e, shN_n, crI, crL, crC, crW, crV, crR_e, crR_n, crN_e, crN_n, ciR, ciL, ciD, ciN_e, ciN_n, rdI_e, rdI_n, rdC_i, rdC_o, rdW, rdU_e, rdU_n, rdLW, clI, clR, clC, clD, clW, clV, clN_e, clN_n, clL_e, clL_n]; done) | (simp (disch := omega) only [shI, shR, shL, shC, shD, shW, sh_V, shN_e, shN_n, crI, crL, crC, crW, crV, crR_e, crR_n, crN_e, crN_n, ciR, ciL, ciD, ciN_e, ciN_n, rdI_e, rdI_n, rdC_i, rdC_o, rdW, rdU_e, rdU_n, rdLW, clI, clR, clC, clD, clW, clV, clN_e, clN_n, clL_e, clL_n] <;> first | assumption | rfl | omega)) (by omega) (by omega) ?_
      refine x_iload dL_law_1794 rfl ?_
      refine x_if_eq (tgt := 1803) dL_law_1796 (by decide) (fun b1796 => ?_) (fun b1796 => ?_)
      · refine x_lconst (z := 0) dL_law_1803 rfl ?_
        refine x_lcmp dL_law_1804 ?_
        refine x_if_eq (tgt := 1810) dL_law_1805 (by decide) (fun b1805 => ?_) (fun b1805 => ?_)
        · refine x_goto (tgt := 2737) dL_law_1810 (by decide) ?_
          exact hk _ _ _ _ _ hJ1770 hN1752 la1770 lb1770
        · exact absurd (jlcmp_0.mpr (by have h0 : x1752 = 0 := (by omega); have a1 := tm1770; have a2 := hy1752 h0; have a3 := hb1770 h0; have a4 := b_clash hR1752 h0; omega)) b1805
      · refine x_lconst (z := 1) dL_law_1799 rfl ?_
        refine x_goto (tgt := 1804) dL_law_1800 (by decide) ?_
        refine x_lcmp dL_law_1804 ?_
        refine x_if_eq (tgt := 1810) dL_law_1805 (by decide) (fun b1805 => ?_) (fun b1805 => ?_)
        · refine x_goto (tgt := 2737) dL_law_1810 (by decide) ?_
          exact hk _ _ _ _ _ hJ1770 hN1752 la1770 lb1770
        · exact absurd (jlcmp_0.mpr (by have h0 : x1752 = 0 := (by omega); have a1 := tm1770; have a2 := hy1752 h0; have a3 := hb1770 h0; have a4 := b_clash hR1752 h0; omega)) b1805
  · exact absurd (e1776.trans e1770) b1781
theorem cs_30 (hd : 100 ≤ d) (hJ : IV M s N len sc) (hN : N ≤ 900000000) (hi0 : 0 ≤ i ∧ i + 6 ≤ len) (hln : len ≤ 384) (hk : ∀ (M1 : Mem) (s1 : Sg) (N1 : Int) (o5 o6 : Option DV), IV M1 s1 N1 len sc → N1 ≤ N + 120 → mnx M1 ≤ mnx M + 1400 → mns M1 ≤ mns M + 6000 → WP G d mL_law 2737 [some (dR (-5)), some (dR 0), some (dR 744), some (dR 760), some (dI i), o5, o6] [] M1 Q) : WP G d mL_law 1813 [some (dR (-5)), some (dR 0), some (dR 744), some (dR 760), some (dI i), none, none] [] M Q := by
  obtain ⟨v, n, A, hi, vi, tp, sz, fa⟩ := s
  obtain ⟨hC0, hT0, hF, h7, s5, hsc⟩ := id hJ
  have hC : CI M v n A hi vi tp sz fa N := hC0
  have s0 : msh M 0 = some (1, 0) := hC.1.1.1.1
  have hA : okA v := hC.2.1.1
  have hL : lawOK v := hC.2.1.2.1
  have hn : 0 ≤ n ∧ n ≤ 12 := hC.2.2.1.2.1
  refine x_aload_n dL_law_1813 rfl rfl ?_
  refine g_callI (vs := [_]) (d' := d - 1) rfl (uc_beside (by omega) h7 hC) dL_law_1814 kX0_241 (by omega) (by decide) rfl (Nat.le_of_ble_eq_true rfl) (rcv_o (by first | assumption | first | assumption | (simp (disch := omega) only [shI, shR, shL, shC, shD, shW, sh_V, shN_e, shN_n, crI, crL, crC, crW, crV, crR_e, crR_n, crN_e, crN_n, ciR, ciL, ciD, ciN_e, ciN_n, rdI_e, rdI_n, rdC_i, rdC_o, rdW, rdU_e, rdU_n, rdLW, clI, clR, clC, clD, clW, clV, clN_e, clN_n, clL_e, clL_n]; done) | (simp (disch := omega) only [shI, shR, shL, shC, shD, shW, sh_V, shN_e, shN_n, crI, crL, crC, crW, crV, crR_e, crR_n, crN_e, crN_n, ciR, ciL, ciD, ciN_e, ciN_n, rdI_e, rdI_n, rdC_i, rdC_o, rdW, rdU_e, rdU_n, rdLW, clI, clR, clC, clD, clW, clV, clN_e, clN_n, clL_e, clL_n] <;> first | assumption | rfl | omega)) rfl) (fun x1814 M1814 h1814 => ?_)
  obtain ⟨s1814, N1814, hR1814, hN1814, hch1814⟩ := h1814
  obtain ⟨hT1814, ⟨me1814, mw1814⟩, sf1814, hs1814, hok1814, hX1814⟩ := hJ.mid hch1814
  have hI1814 : TI M1814 744 v n A hi vi tp sz fa := hT1814
  refine x_aload_n dL_law_1817 rfl rfl ?_
  refine g_callI (vs := [_]) (d' := d - 1) rfl (rc_beside (by omega) hI1814 hR1814) dL_law_1818 kX0_244 (by omega) (by decide) rfl (Nat.le_of_ble_eq_true rfl) (rcv_o (by first | assumption | first | assumption | (simp (disch := omega) only [shI, shR, shL, shC, shD, shW, sh_V, shN_e, shN_n, crI, crL, crC, crW, crV, crR_e, crR_n, crN_e, crN_n, ciR, ciL, ciD, ciN_e, ciN_n, rdI_e, rdI_n, rdC_i, rdC_o, rdW, rdU_e, rdU_n, rdLW, clI, clR, clC, clD, clW, clV, clN_e, clN_n, clL_e, clL_n]; done) | (simp (disch := omega) only [shI, shR, shL, shC, shD, shW, sh_V, shN_e, shN_n, crI, crL, crC, crW, crV, crR_e, crR_n, crN_e, crN_n, ciR, ciL, ciD, ciN_e, ciN_n, rdI_e, rdI_n, rdC_i, rdC_o, rdW, rdU_e, rdU_n, rdLW, clI, clR, clC, clD, clW, clV, clN_e, clN_n, clL_e, clL_n] <;> first | assumption | rfl | omega)) rfl) (fun x1818 M1818 h1818 => ?_)
  obtain ⟨e1818, ht1818, hr1818⟩ := h1818
  obtain ⟨hJ1818, la1818, lb1818, tv1818, tm1818, tw1818, te1818⟩ := hJ.st (v' := s1814.1) hch1814 hr1818 (fun _ _ _ => rfl) ht1818 (xc_beside hF hA hL hn hR1814)
  refine x_icmp_eq (tgt := 2737) dL_law_1821 (by decide) (fun b1821 => ?_) (fun b1821 => ?_)
  · exact hk _ _ _ _ _ hJ1818 hN1814 la1818 lb1818
  · exact absurd e1818.symm b1821
theorem cs_31 (hd : 100 ≤ d) (hJ : IV M s N len sc) (hN : N ≤ 900000000) (hi0 : 0 ≤ i ∧ i + 6 ≤ len) (hln : len ≤ 384) (hk : ∀ (M1 : Mem) (s1 : Sg) (N1 : Int) (o5 o6 : Option DV), IV M1 s1 N1 len sc → N1 ≤ N + 120 → mnx M1 ≤ mnx M + 1400 → mns M1 ≤ mns M + 6000 → WP G d mL_law 2737 [some (dR (-5)), some (dR 0), some (dR 744), some (dR 760), some (dI i), o5, o6] [] M1 Q) : WP G d mL_law 1826 [some (dR (-5)), some (dR 0), some (dR 744), some (dR 760), some (dI i), none, none] [] M Q := by
  obtain ⟨v, n, A, hi, vi, tp, sz, fa⟩ := s
  obtain ⟨hC0, hT0, hF, h7, s5, hsc⟩ := id hJ
  have hC : CI M v n A hi vi tp sz fa N := hC0
  have s0 : msh M 0 = some (1, 0) := hC.1.1.1.1
  have hA : okA v := hC.2.1.1
  have hL : lawOK v := hC.2.1.2.1
  have hn : 0 ≤ n ∧ n ≤ 12 := hC.2.2.1.2.1
  refine x_aload_n dL_law_1826 rfl rfl ?_
  refine g_callI (vs := [_]) (d' := d - 1) rfl (uc_open (by omega) h7 hC) dL_law_1827 kX0_245 (by omega) (by decide) rfl (Nat.le_of_ble_eq_true rfl) (rcv_o (by first | assumption | first | assumption | (simp (disch := omega) only [shI, shR, shL, shC, shD, shW, sh_V, shN_e, shN_n, crI, crL, crC, crW, crV, crR_e, crR_n, crN_e, crN_n, ciR, ciL, ciD, ciN_e, ciN_n, rdI_e, rdI_n, rdC_i, rdC_o, rdW, rdU_e, rdU_n, rdLW, clI, clR, clC, clD, clW, clV, clN_e, clN_n, clL_e, clL_n]; done) | (simp (disch := omega) only [shI, shR, shL, shC, shD, shW, sh_V, shN_e, shN_n, crI, crL, crC, crW, crV, crR_e, crR_n, crN_e, crN_n, ciR, ciL, ciD, ciN_e, ciN_n, rdI_e, rdI_n, rdC_i, rdC_o, rdW, rdU_e, rdU_n, rdLW, clI, clR, clC, clD, clW, clV, clN_e, clN_n, clL_e, clL_n] <;> first | assumption | rfl | omega)) rfl) (fun x1827 M1827 h1827 => ?_)
  obtain ⟨s1827, N1827, hR1827, hN1827, hch1827⟩ := h1827
  obtain ⟨hT1827, ⟨me1827, mw1827⟩, sf1827, hs1827, hok1827, hX1827⟩ := hJ.mid hch1827
  have hI1827 : TI M1827 744 v n A hi vi tp sz fa := hT1827
  refine x_aload_n dL_law_1830 rfl rfl ?_
  refine g_callI (vs := [_]) (d' := d - 1) rfl (rc_open (by omega) hI1827 hR1827) dL_law_1831 kX0_248 (by omega) (by decide) rfl (Nat.le_of_ble_eq_true rfl) (rcv_o (by first | assumption | first | assumption | (simp (disch := omega) only [shI, shR, shL, shC, shD, shW, sh_V, shN_e, shN_n, crI, crL, crC, crW, crV, crR_e, crR_n, crN_e, crN_n, ciR, ciL, ciD, ciN_e, ciN_n, rdI_e, rdI_n, rdC_i, rdC_o, rdW, rdU_e, rdU_n, rdLW, clI, clR, clC, clD, clW, clV, clN_e, clN_n, clL_e, clL_n]; done) | (simp (disch := omega) only [shI, shR, shL, shC, shD, shW, sh_V, shN_e, shN_n, crI, crL, crC, crW, crV, crR_e, crR_n, crN_e, crN_n, ciR, ciL, ciD, ciN_e, ciN_n, rdI_e, rdI_n, rdC_i, rdC_o, rdW, rdU_e, rdU_n, rdLW, clI, clR, clC, clD, clW, clV, clN_e, clN_n, clL_e, clL_n] <;> first | assumption | rfl | omega)) rfl) (fun x1831 M1831 h1831 => ?_)
  obtain ⟨e1831, ht1831, hr1831⟩ := h1831
  obtain ⟨hJ1831, la1831, lb1831, tv1831, tm1831, tw1831, te1831⟩ := hJ.st (v' := s1827.1) hch1827 hr1831 (fun _ _ _ => rfl) ht1831 (xc_open hF hA hL hn hR1827)
  refine x_icmp_eq (tgt := 2737) dL_law_1834 (by decide) (fun b1834 => ?_) (fun b1834 => ?_)
  · exact hk _ _ _ _ _ hJ1831 hN1827 la1831 lb1831
  · exact absurd e1831.symm b1834
theorem cs_32 (hd : 100 ≤ d) (hJ : IV M s N len sc) (hN : N ≤ 900000000) (hi0 : 0 ≤ i ∧ i + 6 ≤ len) (hln : len ≤ 384) (hk : ∀ (M1 : Mem) (s1 : Sg) (N1 : Int) (o5 o6 : Option DV), IV M1 s1 N1 len sc → N1 ≤ N + 120 → mnx M1 ≤ mnx M + 1400 → mns M1 ≤ mns M + 6000 → WP G d mL_law 2737 [some (dR (-5)), some (dR 0), some (dR 744), some (dR 760), some (dI i), o5, o6] [] M1 Q) : WP G d mL_law 1839 [some (dR (-5)), some (dR 0), some (dR 744), some (dR 760), some (dI i), none, none] [] M Q := by
  obtain ⟨v, n, A, hi, vi, tp, sz, fa⟩ := s
  obtain ⟨hC0, hT0, hF, h7, s5, hsc⟩ := id hJ
  have hC : CI M v n A hi vi tp sz fa N := hC0
  have s0 : msh M 0 = some (1, 0) := hC.1.1.1.1
  have hA : okA v := hC.2.1.1
  have hL : lawOK v := hC.2.1.2.1
  have hn : 0 ≤ n ∧ n ≤ 12 := hC.2.2.1.2.1
  refine x_aload_n dL_law_1839 rfl rfl ?_
  refine x_aload_n dL_law_1840 rfl rfl ?_
  refine g_callI (vs := [_, _]) (d' := d - 1) rfl (uc_which (by omega) h7 hC hF) dL_law_1841 kX0_249 (by omega) (by decide) rfl (Nat.le_of_ble_eq_true rfl) (rcv_n) (fun x1841 M1841 h1841 => ?_)
  obtain ⟨y1841, s1841, N1841, hR1841, hy1841, hN1841, hch1841⟩ := h1841
  obtain ⟨hT1841, ⟨me1841, mw1841⟩, sf1841, hs1841, hok1841, hX1841⟩ := hJ.mid hch1841
  have hI1841 : TI M1841 744 v n A hi vi tp sz fa := hT1841
  refine x_istore (L' := [some _, some _, some _, some _, some _, some _, none]) dL_law_1844 (by decide) rfl ?_
  refine x_aload_n dL_law_1846 rfl rfl ?_
  refine g_callI (vs := [_]) (d' := d - 1) rfl (rc_which (by omega) hI1841 hR1841) dL_law_1847 kX0_251 (by omega) (by decide) rfl (Nat.le_of_ble_eq_true rfl) (rcv_o (by first | assumption | first | assumption | (simp (disch := omega) only [shI, shR, shL, shC, shD, shW, sh_V, shN_e, shN_n, crI, crL, crC, crW, crV, crR_e, crR_n, crN_e, crN_n, ciR, ciL, ciD, ciN_e, ciN_n, rdI_e, rdI_n, rdC_i, rdC_o, rdW, rdU_e, rdU_n, rdLW, clI, clR, clC, clD, clW, clV, clN_e, clN_n, clL_e, clL_n]; done) | (simp (disch := omega) only [shI, shR, shL, shC, shD, shW, sh_V, shN_e, shN_n, crI, crL, crC, crW, crV, crR_e, crR_n, crN_e, crN_n, ciR, ciL, ciD, ciN_e, ciN_n, rdI_e, rdI_n, rdC_i, rdC_o, rdW, rdU_e, rdU_n, rdLW, clI, clR, clC, clD, clW, clV, clN_e, clN_n, clL_e, clL_n] <;> first | assumption | rfl | omega)) rfl) (fun x1847 M1847 h1847 => ?_)
  obtain ⟨e1847, hb1847, ⟨w1847, hv1847, ht1847⟩, hr1847⟩ := h1847
  obtain ⟨hJ1847, la1847, lb1847, tv1847, tm1847, tw1847, te1847⟩ := hJ.st (v' := w1847) hch1841 hr1847 hv1847 ht1847 (xc_which hF hA hL hn hR1841)
  refine x_istore (L' := [some _, some _, some _, some _, some _, some _, some _]) dL_law_1850 (by decide) rfl ?_
  refine x_aload_n dL_law_1852 rfl rfl ?_
  refine g_callI (vs := [_]) (d' := d - 1) rfl (s_X8_thrown (by omega) tw1847) dL_law_1853 kX0_142 (by omega) (by decide) rfl (Nat.le_of_ble_eq_true rfl) (rcv_o (by first | assumption | first | assumption | (simp (disch := omega) only [shI, shR, shL, shC, shD, shW, sh_V, shN_e, shN_n, crI, crL, crC, crW, crV, crR_e, crR_n, crN_e, crN_n, ciR, ciL, ciD, ciN_e, ciN_n, rdI_e, rdI_n, rdC_i, rdC_o, rdW, rdU_e, rdU_n, rdLW, clI, clR, clC, clD, clW, clV, clN_e, clN_n, clL_e, clL_n]; done) | (simp (disch := omega) only [shI, shR, shL, shC, shD, shW, sh_V, shN_e, shN_n, crI, crL, crC, crW, crV, crR_e, crR_n, crN_e, crN_n, ciR, ciL, ciD, ciN_e, ciN_n, rdI_e, rdI_n, rdC_i, rdC_o, rdW, rdU_e, rdU_n, rdLW, clI, clR, clC, clD, clW, clV, clN_e, clN_n, clL_e, clL_n] <;> first | assumption | rfl | omega)) rfl) (fun x1853 M1853 h1853 => ?_)
  obtain ⟨e1853, f1853⟩ := h1853
  subst f1853
  refine x_iload dL_law_1856 rfl ?_
  refine x_icmp_eq (tgt := 1863) dL_law_1858 (by decide) (fun b1858 => ?_) (fun b1858 => ?_)
  · refine x_iload dL_law_1863 rfl ?_
    refine x_if_ne (tgt := 1880) dL_law_1865 (by decide) (fun b1865 => ?_) (fun b1865 => ?_)
    · refine x_goto (tgt := 2737) dL_law_1880 (by decide) ?_
      exact hk _ _ _ _ _ hJ1847 hN1841 la1847 lb1847
    · refine x_aload_n dL_law_1868 rfl rfl ?_
      refine x_iconst dL_law_1869 rfl ?_
      refine x_lald dL_law_1870 (by first | assumption | first | assumption | (simp (disch := omega) only [shI, shR, shL, shC, shD, shW, sh_V, shN_e, shN_n, crI, crL, crC, crW, crV, crR_e, crR_n, crN_e, crN_n, ciR, ciL, ciD, ciN_e, ciN_n, rdI_e, rdI_n, rdC_i, rdC_o, rdW, rdU_e, rdU_n, rdLW, clI, clR, clC, clD, clW, clV, clN_e, clN_n, clL_e, clL_n]; done) | (simp (disch := omega) only [shI, shR, shL, shC, shD, shW, sh_V, shN_e, shN_n, crI, crL, crC, crW, crV, crR_e, crR_n, crN_e, crN_n, ciR, ciL, ciD, ciN_e, ciN_n, rdI_e, rdI_n, rdC_i, rdC_o, rdW, rdU_e, rdU_n, rdLW, clI, clR, clC, clD, clW, clV, clN_e, clN_n, clL_e, clL_n] <;> first | assumption | rfl | omega)) (by omega) (by omega) ?_
      refine x_iload dL_law_1871 rfl ?_
      refine x_i2l dL_law_1873 ?_
      refine x_lcmp dL_law_1874 ?_
      refine x_if_eq (tgt := 1880) dL_law_1875 (by decide) (fun b1875 => ?_) (fun b1875 => ?_)
      · refine x_goto (tgt := 2737) dL_law_1880 (by decide) ?_
        exact hk _ _ _ _ _ hJ1847 hN1841 la1847 lb1847
      · exact absurd (jlcmp_0.mpr (by have h0 : x1841 = 0 := (by omega); have a1 := tm1847; have a2 := hy1841 h0; have a3 := hb1847 h0; omega)) b1875
  · exact absurd (e1853.trans e1847) b1858
theorem cs_33 (hd : 100 ≤ d) (hJ : IV M s N len sc) (hN : N ≤ 900000000) (hi0 : 0 ≤ i ∧ i + 6 ≤ len) (hln : len ≤ 384) (hk : ∀ (M1 : Mem) (s1 : Sg) (N1 : Int) (o5 o6 : Option DV), IV M1 s1 N1 len sc → N1 ≤ N + 120 → mnx M1 ≤ mnx M + 1400 → mns M1 ≤ mns M + 6000 → WP G d mL_law 2737 [some (dR (-5)), some (dR 0), some (dR 744), some (dR 760), some (dI i), o5, o6] [] M1 Q) : WP G d mL_law 1883 [some (dR (-5)), some (dR 0), some (dR 744), some (dR 760), some (dI i), none, none] [] M Q := by
  obtain ⟨v, n, A, hi, vi, tp, sz, fa⟩ := s
  obtain ⟨hC0, hT0, hF, h7, s5, hsc⟩ := id hJ
  have hC : CI M v n A hi vi tp sz fa N := hC0
  have s0 : msh M 0 = some (1, 0) := hC.1.1.1.1
  have hA : okA v := hC.2.1.1
  have hL : lawOK v := hC.2.1.2.1
  have hn : 0 ≤ n ∧ n ≤ 12 := hC.2.2.1.2.1
  refine x_aload_n dL_law_1883 rfl rfl ?_
  refine x_aload_n dL_law_1884 rfl rfl ?_
  refine g_callI (vs := [_, _]) (d' := d - 1) rfl (uc_likely (by omega) h7 hC hF) dL_law_1885 kX0_252 (by omega) (by decide) rfl (Nat.le_of_ble_eq_true rfl) (rcv_n) (fun x1885 M1885 h1885 => ?_)
  obtain ⟨y1885, s1885, N1885, hR1885, hy1885, hN1885, hch1885⟩ := h1885
  obtain ⟨hT1885, ⟨me1885, mw1885⟩, sf1885, hs1885, hok1885, hX1885⟩ := hJ.mid hch1885
  have hI1885 : TI M1885 744 v n A hi vi tp sz fa := hT1885
  refine x_istore (L' := [some _, some _, some _, some _, some _, some _, none]) dL_law_1888 (by decide) rfl ?_
  refine x_aload_n dL_law_1890 rfl rfl ?_
  refine g_callI (vs := [_]) (d' := d - 1) rfl (rc_likely (by omega) hI1885 hR1885) dL_law_1891 kX0_254 (by omega) (by decide) rfl (Nat.le_of_ble_eq_true rfl) (rcv_o (by first | assumption | first | assumption | (simp (disch := omega) only [shI, shR, shL, shC, shD, shW, sh_V, shN_e, shN_n, crI, crL, crC, crW, crV, crR_e, crR_n, crN_e, crN_n, ciR, ciL, ciD, ciN_e, ciN_n, rdI_e, rdI_n, rdC_i, rdC_o, rdW, rdU_e, rdU_n, rdLW, clI, clR, clC, clD, clW, clV, clN_e, clN_n, clL_e, clL_n]; done) | (simp (disch := omega) only [shI, shR, shL, shC, shD, shW, sh_V, shN_e, shN_n, crI, crL, crC, crW, crV, crR_e, crR_n, crN_e, crN_n, ciR, ciL, ciD, ciN_e, ciN_n, rdI_e, rdI_n, rdC_i, rdC_o, rdW, rdU_e, rdU_n, rdLW, clI, clR, clC, clD, clW, clV, clN_e, clN_n, clL_e, clL_n] <;> first | assumption | rfl | omega)) rfl) (fun x1891 M1891 h1891 => ?_)
  obtain ⟨e1891, hb1891, ⟨w1891, hv1891, ht1891⟩, hr1891⟩ := h1891
  obtain ⟨hJ1891, la1891, lb1891, tv1891, tm1891, tw1891, te1891⟩ := hJ.st (v' := w1891) hch1885 hr1891 hv1891 ht1891 (xc_likely hF hA hL hn hR1885)
  refine x_istore (L' := [some _, some _, some _, some _, some _, some _, some _]) dL_law_1894 (by decide) rfl ?_
  refine x_aload_n dL_law_1896 rfl rfl ?_
  refine g_callI (vs := [_]) (d' := d - 1) rfl (s_X8_thrown (by omega) tw1891) dL_law_1897 kX0_142 (by omega) (by decide) rfl (Nat.le_of_ble_eq_true rfl) (rcv_o (by first | assumption | first | assumption | (simp (disch := omega) only [shI, shR, shL, shC, shD, shW, sh_V, shN_e, shN_n, crI, crL, crC, crW, crV, crR_e, crR_n, crN_e, crN_n, ciR, ciL, ciD, ciN_e, ciN_n, rdI_e, rdI_n, rdC_i, rdC_o, rdW, rdU_e, rdU_n, rdLW, clI, clR, clC, clD, clW, clV, clN_e, clN_n, clL_e, clL_n]; done) | (simp (disch := omega) only [shI, shR, shL, shC, shD, shW, sh_V, shN_e, shN_n, crI, crL, crC, crW, crV, crR_e, crR_n, crN_e, crN_n, ciR, ciL, ciD, ciN_e, ciN_n, rdI_e, rdI_n, rdC_i, rdC_o, rdW, rdU_e, rdU_n, rdLW, clI, clR, clC, clD, clW, clV, clN_e, clN_n, clL_e, clL_n] <;> first | assumption | rfl | omega)) rfl) (fun x1897 M1897 h1897 => ?_)
  obtain ⟨e1897, f1897⟩ := h1897
  subst f1897
  refine x_iload dL_law_1900 rfl ?_
  refine x_icmp_eq (tgt := 1907) dL_law_1902 (by decide) (fun b1902 => ?_) (fun b1902 => ?_)
  · refine x_iload dL_law_1907 rfl ?_
    refine x_if_ne (tgt := 1924) dL_law_1909 (by decide) (fun b1909 => ?_) (fun b1909 => ?_)
    · refine x_goto (tgt := 2737) dL_law_1924 (by decide) ?_
      exact hk _ _ _ _ _ hJ1891 hN1885 la1891 lb1891
    · refine x_aload_n dL_law_1912 rfl rfl ?_
      refine x_iconst dL_law_1913 rfl ?_
      refine x_lald dL_law_1914 (by first | assumption | first | assumption | (simp (disch := omega) only [shI, shR, shL, shC, shD, shW, sh_V, shN_e, shN_n, crI, crL, crC, crW, crV, crR_e, crR_n, crN_e, crN_n, ciR, ciL, ciD, ciN_e, ciN_n, rdI_e, rdI_n, rdC_i, rdC_o, rdW, rdU_e, rdU_n, rdLW, clI, clR, clC, clD, clW, clV, clN_e, clN_n, clL_e, clL_n]; done) | (simp (disch := omega) only [shI, shR, shL, shC, shD, shW, sh_V, shN_e, shN_n, crI, crL, crC, crW, crV, crR_e, crR_n, crN_e, crN_n, ciR, ciL, ciD, ciN_e, ciN_n, rdI_e, rdI_n, rdC_i, rdC_o, rdW, rdU_e, rdU_n, rdLW, clI, clR, clC, clD, clW, clV, clN_e, clN_n, clL_e, clL_n] <;> first | assumption | rfl | omega)) (by omega) (by omega) ?_
      refine x_iload dL_law_1915 rfl ?_
      refine x_i2l dL_law_1917 ?_
      refine x_lcmp dL_law_1918 ?_
      refine x_if_eq (tgt := 1924) dL_law_1919 (by decide) (fun b1919 => ?_) (fun b1919 => ?_)
      · refine x_goto (tgt := 2737) dL_law_1924 (by decide) ?_
        exact hk _ _ _ _ _ hJ1891 hN1885 la1891 lb1891
      · exact absurd (jlcmp_0.mpr (by have h0 : x1885 = 0 := (by omega); have a1 := tm1891; have a2 := hy1885 h0; have a3 := hb1891 h0; omega)) b1919
  · exact absurd (e1897.trans e1891) b1902
theorem cs_34 (hd : 100 ≤ d) (hJ : IV M s N len sc) (hN : N ≤ 900000000) (hi0 : 0 ≤ i ∧ i + 6 ≤ len) (hln : len ≤ 384) (hk : ∀ (M1 : Mem) (s1 : Sg) (N1 : Int) (o5 o6 : Option DV), IV M1 s1 N1 len sc → N1 ≤ N + 120 → mnx M1 ≤ mnx M + 1400 → mns M1 ≤ mns M + 6000 → WP G d mL_law 2737 [some (dR (-5)), some (dR 0), some (dR 744), some (dR 760), some (dI i), o5, o6] [] M1 Q) : WP G d mL_law 1927 [some (dR (-5)), some (dR 0), some (dR 744), some (dR 760), some (dI i), none, none] [] M Q := by
  obtain ⟨v, n, A, hi, vi, tp, sz, fa⟩ := s
  obtain ⟨hC0, hT0, hF, h7, s5, hsc⟩ := id hJ
  have hC : CI M v n A hi vi tp sz fa N := hC0
  have s0 : msh M 0 = some (1, 0) := hC.1.1.1.1
  have hA : okA v := hC.2.1.1
  have hL : lawOK v := hC.2.1.2.1
  have hn : 0 ≤ n ∧ n ≤ 12 := hC.2.2.1.2.1
  refine x_aload_n dL_law_1927 rfl rfl ?_
  refine x_aload_n dL_law_1928 rfl rfl ?_
  refine g_callI (vs := [_, _]) (d' := d - 1) rfl (uc_ask (by omega) h7 hC hF) dL_law_1929 kX0_255 (by omega) (by decide) rfl (Nat.le_of_ble_eq_true rfl) (rcv_n) (fun x1929 M1929 h1929 => ?_)
  obtain ⟨y1929, s1929, N1929, hR1929, hy1929, hN1929, hch1929⟩ := h1929
  obtain ⟨hT1929, ⟨me1929, mw1929⟩, sf1929, hs1929, hok1929, hX1929⟩ := hJ.mid hch1929
  have hI1929 : TI M1929 744 v n A hi vi tp sz fa := hT1929
  refine x_istore (L' := [some _, some _, some _, some _, some _, some _, none]) dL_law_1932 (by decide) rfl ?_
  refine x_aload_n dL_law_1934 rfl rfl ?_
  refine g_callI (vs := [_]) (d' := d - 1) rfl (rc_ask (by omega) hI1929 hR1929) dL_law_1935 kX0_257 (by omega) (by decide) rfl (Nat.le_of_ble_eq_true rfl) (rcv_o (by first | assumption | first | assumption | (simp (disch := omega) only [shI, shR, shL, shC, shD, shW, sh_V, shN_e, shN_n, crI, crL, crC, crW, crV, crR_e, crR_n, crN_e, crN_n, ciR, ciL, ciD, ciN_e, ciN_n, rdI_e, rdI_n, rdC_i, rdC_o, rdW, rdU_e, rdU_n, rdLW, clI, clR, clC, clD, clW, clV, clN_e, clN_n, clL_e, clL_n]; done) | (simp (disch := omega) only [shI, shR, shL, shC, shD, shW, sh_V, shN_e, shN_n, crI, crL, crC, crW, crV, crR_e, crR_n, crN_e, crN_n, ciR, ciL, ciD, ciN_e, ciN_n, rdI_e, rdI_n, rdC_i, rdC_o, rdW, rdU_e, rdU_n, rdLW, clI, clR, clC, clD, clW, clV, clN_e, clN_n, clL_e, clL_n] <;> first | assumption | rfl | omega)) rfl) (fun x1935 M1935 h1935 => ?_)
  obtain ⟨e1935, hb1935, ⟨w1935, hv1935, ht1935⟩, hr1935⟩ := h1935
  obtain ⟨hJ1935, la1935, lb1935, tv1935, tm1935, tw1935, te1935⟩ := hJ.st (v' := w1935) hch1929 hr1935 hv1935 ht1935 (xc_ask hF hA hL hn hR1929)
  refine x_istore (L' := [some _, some _, some _, some _, some _, some _, some _]) dL_law_1938 (by decide) rfl ?_
  refine x_aload_n dL_law_1940 rfl rfl ?_
  refine g_callI (vs := [_]) (d' := d - 1) rfl (s_X8_thrown (by omega) tw1935) dL_law_1941 kX0_142 (by omega) (by decide) rfl (Nat.le_of_ble_eq_true rfl) (rcv_o (by first | assumption | first | assumption | (simp (disch := omega) only [shI, shR, shL, shC, shD, shW, sh_V, shN_e, shN_n, crI, crL, crC, crW, crV, crR_e, crR_n, crN_e, crN_n, ciR, ciL, ciD, ciN_e, ciN_n, rdI_e, rdI_n, rdC_i, rdC_o, rdW, rdU_e, rdU_n, rdLW, clI, clR, clC, clD, clW, clV, clN_e, clN_n, clL_e, clL_n]; done) | (simp (disch := omega) only [shI, shR, shL, shC, shD, shW, sh_V, shN_e, shN_n, crI, crL, crC, crW, crV, crR_e, crR_n, crN_e, crN_n, ciR, ciL, ciD, ciN_e, ciN_n, rdI_e, rdI_n, rdC_i, rdC_o, rdW, rdU_e, rdU_n, rdLW, clI, clR, clC, clD, clW, clV, clN_e, clN_n, clL_e, clL_n] <;> first | assumption | rfl | omega)) rfl) (fun x1941 M1941 h1941 => ?_)
  obtain ⟨e1941, f1941⟩ := h1941
  subst f1941
  refine x_iload dL_law_1944 rfl ?_
  refine x_icmp_eq (tgt := 1951) dL_law_1946 (by decide) (fun b1946 => ?_) (fun b1946 => ?_)
  · refine x_iload dL_law_1951 rfl ?_
    refine x_if_ne (tgt := 1968) dL_law_1953 (by decide) (fun b1953 => ?_) (fun b1953 => ?_)
    · refine x_goto (tgt := 2737) dL_law_1968 (by decide) ?_
      exact hk _ _ _ _ _ hJ1935 hN1929 la1935 lb1935
    · refine x_aload_n dL_law_1956 rfl rfl ?_
      refine x_iconst dL_law_1957 rfl ?_
      refine x_lald dL_law_1958 (by first | assumption | first | assumption | (simp (disch := omega) only [shI, shR, shL, shC, shD, shW, sh_V, shN_e, shN_n, crI, crL, crC, crW, crV, crR_e, crR_n, crN_e, crN_n, ciR, ciL, ciD, ciN_e, ciN_n, rdI_e, rdI_n, rdC_i, rdC_o, rdW, rdU_e, rdU_n, rdLW, clI, clR, clC, clD, clW, clV, clN_e, clN_n, clL_e, clL_n]; done) | (simp (disch := omega) only [shI, shR, shL, shC, shD, shW, sh_V, shN_e, shN_n, crI, crL, crC, crW, crV, crR_e, crR_n, crN_e, crN_n, ciR, ciL, ciD, ciN_e, ciN_n, rdI_e, rdI_n, rdC_i, rdC_o, rdW, rdU_e, rdU_n, rdLW, clI, clR, clC, clD, clW, clV, clN_e, clN_n, clL_e, clL_n] <;> first | assumption | rfl | omega)) (by omega) (by omega) ?_
      refine x_iload dL_law_1959 rfl ?_
      refine x_i2l dL_law_1961 ?_
      refine x_lcmp dL_law_1962 ?_
      refine x_if_eq (tgt := 1968) dL_law_1963 (by decide) (fun b1963 => ?_) (fun b1963 => ?_)
      · refine x_goto (tgt := 2737) dL_law_1968 (by decide) ?_
        exact hk _ _ _ _ _ hJ1935 hN1929 la1935 lb1935
      · exact absurd (jlcmp_0.mpr (by have h0 : x1929 = 0 := (by omega); have a1 := tm1935; have a2 := hy1929 h0; have a3 := hb1935 h0; omega)) b1963
  · exact absurd (e1941.trans e1935) b1946
theorem cs_35 (hd : 100 ≤ d) (hJ : IV M s N len sc) (hN : N ≤ 900000000) (hi0 : 0 ≤ i ∧ i + 6 ≤ len) (hln : len ≤ 384) (hk : ∀ (M1 : Mem) (s1 : Sg) (N1 : Int) (o5 o6 : Option DV), IV M1 s1 N1 len sc → N1 ≤ N + 120 → mnx M1 ≤ mnx M + 1400 → mns M1 ≤ mns M + 6000 → WP G d mL_law 2737 [some (dR (-5)), some (dR 0), some (dR 744), some (dR 760), some (dI i), o5, o6] [] M1 Q) : WP G d mL_law 1971 [some (dR (-5)), some (dR 0), some (dR 744), some (dR 760), some (dI i), none, none] [] M Q := by
  obtain ⟨v, n, A, hi, vi, tp, sz, fa⟩ := s
  obtain ⟨hC0, hT0, hF, h7, s5, hsc⟩ := id hJ
  have hC : CI M v n A hi vi tp sz fa N := hC0
  have s0 : msh M 0 = some (1, 0) := hC.1.1.1.1
  have hA : okA v := hC.2.1.1
  have hL : lawOK v := hC.2.1.2.1
  have hn : 0 ≤ n ∧ n ≤ 12 := hC.2.2.1.2.1
  refine x_aload_n dL_law_1971 rfl rfl ?_
  refine g_callI (vs := [_]) (d' := d - 1) rfl (uc_lead (by omega) h7 hC) dL_law_1972 kX0_258 (by omega) (by decide) rfl (Nat.le_of_ble_eq_true rfl) (rcv_o (by first | assumption | first | assumption | (simp (disch := omega) only [shI, shR, shL, shC, shD, shW, sh_V, shN_e, shN_n, crI, crL, crC, crW, crV, crR_e, crR_n, crN_e, crN_n, ciR, ciL, ciD, ciN_e, ciN_n, rdI_e, rdI_n, rdC_i, rdC_o, rdW, rdU_e, rdU_n, rdLW, clI, clR, clC, clD, clW, clV, clN_e, clN_n, clL_e, clL_n]; done) | (simp (disch := omega) only [shI, shR, shL, shC, shD, shW, sh_V, shN_e, shN_n, crI, crL, crC, crW, crV, crR_e, crR_n, crN_e, crN_n, ciR, ciL, ciD, ciN_e, ciN_n, rdI_e, rdI_n, rdC_i, rdC_o, rdW, rdU_e, rdU_n, rdLW, clI, clR, clC, clD, clW, clV, clN_e, clN_n, clL_e, clL_n] <;> first | assumption | rfl | omega)) rfl) (fun x1972 M1972 h1972 => ?_)
  obtain ⟨s1972, N1972, hR1972, hN1972, hch1972⟩ := h1972
  obtain ⟨hT1972, ⟨me1972, mw1972⟩, sf1972, hs1972, hok1972, hX1972⟩ := hJ.mid hch1972
  have hI1972 : TI M1972 744 v n A hi vi tp sz fa := hT1972
  refine x_aload_n dL_law_1975 rfl rfl ?_
  refine g_callI (vs := [_]) (d' := d - 1) rfl (rc_lead (by omega) hI1972 hR1972) dL_law_1976 kX0_261 (by omega) (by decide) rfl (Nat.le_of_ble_eq_true rfl) (rcv_o (by first | assumption | first | assumption | (simp (disch := omega) only [shI, shR, shL, shC, shD, shW, sh_V, shN_e, shN_n, crI, crL, crC, crW, crV, crR_e, crR_n, crN_e, crN_n, ciR, ciL, ciD, ciN_e, ciN_n, rdI_e, rdI_n, rdC_i, rdC_o, rdW, rdU_e, rdU_n, rdLW, clI, clR, clC, clD, clW, clV, clN_e, clN_n, clL_e, clL_n]; done) | (simp (disch := omega) only [shI, shR, shL, shC, shD, shW, sh_V, shN_e, shN_n, crI, crL, crC, crW, crV, crR_e, crR_n, crN_e, crN_n, ciR, ciL, ciD, ciN_e, ciN_n, rdI_e, rdI_n, rdC_i, rdC_o, rdW, rdU_e, rdU_n, rdLW, clI, clR, clC, clD, clW, clV, clN_e, clN_n, clL_e, clL_n] <;> first | assumption | rfl | omega)) rfl) (fun x1976 M1976 h1976 => ?_)
  obtain ⟨e1976, ht1976, hr1976⟩ := h1976
  obtain ⟨hJ1976, la1976, lb1976, tv1976, tm1976, tw1976, te1976⟩ := hJ.st (v' := s1972.1) hch1972 hr1976 (fun _ _ _ => rfl) ht1976 (xc_lead hF hA hL hn hR1972)
  refine x_icmp_eq (tgt := 2737) dL_law_1979 (by decide) (fun b1979 => ?_) (fun b1979 => ?_)
  · exact hk _ _ _ _ _ hJ1976 hN1972 la1976 lb1976
  · exact absurd e1976.symm b1979
theorem cs_36 (hd : 100 ≤ d) (hJ : IV M s N len sc) (hN : N ≤ 900000000) (hi0 : 0 ≤ i ∧ i + 6 ≤ len) (hln : len ≤ 384) (hk : ∀ (M1 : Mem) (s1 : Sg) (N1 : Int) (o5 o6 : Option DV), IV M1 s1 N1 len sc → N1 ≤ N + 120 → mnx M1 ≤ mnx M + 1400 → mns M1 ≤ mns M + 6000 → WP G d mL_law 2737 [some (dR (-5)), some (dR 0), some (dR 744), some (dR 760), some (dI i), o5, o6] [] M1 Q) : WP G d mL_law 1984 [some (dR (-5)), some (dR 0), some (dR 744), some (dR 760), some (dI i), none, none] [] M Q := by
  obtain ⟨v, n, A, hi, vi, tp, sz, fa⟩ := s
  obtain ⟨hC0, hT0, hF, h7, s5, hsc⟩ := id hJ
  have hC : CI M v n A hi vi tp sz fa N := hC0
  have s0 : msh M 0 = some (1, 0) := hC.1.1.1.1
  have hA : okA v := hC.2.1.1
  have hL : lawOK v := hC.2.1.2.1
  have hn : 0 ≤ n ∧ n ≤ 12 := hC.2.2.1.2.1
  refine x_aload_n dL_law_1984 rfl rfl ?_
  refine g_callI (vs := [_]) (d' := d - 1) rfl (uc_side (by omega) h7 hC) dL_law_1985 kX0_262 (by omega) (by decide) rfl (Nat.le_of_ble_eq_true rfl) (rcv_o (by first | assumption | first | assumption | (simp (disch := omega) only [shI, shR, shL, shC, shD, shW, sh_V, shN_e, shN_n, crI, crL, crC, crW, crV, crR_e, crR_n, crN_e, crN_n, ciR, ciL, ciD, ciN_e, ciN_n, rdI_e, rdI_n, rdC_i, rdC_o, rdW, rdU_e, rdU_n, rdLW, clI, clR, clC, clD, clW, clV, clN_e, clN_n, clL_e, clL_n]; done) | (simp (disch := omega) only [shI, shR, shL, shC, shD, shW, sh_V, shN_e, shN_n, crI, crL, crC, crW, crV, crR_e, crR_n, crN_e, crN_n, ciR, ciL, ciD, ciN_e, ciN_n, rdI_e, rdI_n, rdC_i, rdC_o, rdW, rdU_e, rdU_n, rdLW, clI, clR, clC, clD, clW, clV, clN_e, clN_n, clL_e, clL_n] <;> first | assumption | rfl | omega)) rfl) (fun x1985 M1985 h1985 => ?_)
  obtain ⟨s1985, N1985, hR1985, hN1985, hch1985⟩ := h1985
  obtain ⟨hT1985, ⟨me1985, mw1985⟩, sf1985, hs1985, hok1985, hX1985⟩ := hJ.mid hch1985
  have hI1985 : TI M1985 744 v n A hi vi tp sz fa := hT1985
  refine x_aload_n dL_law_1988 rfl rfl ?_
  refine g_callI (vs := [_]) (d' := d - 1) rfl (rc_side (by omega) hI1985 hR1985) dL_law_1989 kX0_265 (by omega) (by decide) rfl (Nat.le_of_ble_eq_true rfl) (rcv_o (by first | assumption | first | assumption | (simp (disch := omega) only [shI, shR, shL, shC, shD, shW, sh_V, shN_e, shN_n, crI, crL, crC, crW, crV, crR_e, crR_n, crN_e, crN_n, ciR, ciL, ciD, ciN_e, ciN_n, rdI_e, rdI_n, rdC_i, rdC_o, rdW, rdU_e, rdU_n, rdLW, clI, clR, clC, clD, clW, clV, clN_e, clN_n, clL_e, clL_n]; done) | (simp (disch := omega) only [shI, shR, shL, shC, shD, shW, sh_V, shN_e, shN_n, crI, crL, crC, crW, crV, crR_e, crR_n, crN_e, crN_n, ciR, ciL, ciD, ciN_e, ciN_n, rdI_e, rdI_n, rdC_i, rdC_o, rdW, rdU_e, rdU_n, rdLW, clI, clR, clC, clD, clW, clV, clN_e, clN_n, clL_e, clL_n] <;> first | assumption | rfl | omega)) rfl) (fun x1989 M1989 h1989 => ?_)
  obtain ⟨e1989, ht1989, hr1989⟩ := h1989
  obtain ⟨hJ1989, la1989, lb1989, tv1989, tm1989, tw1989, te1989⟩ := hJ.st (v' := s1985.1) hch1985 hr1989 (fun _ _ _ => rfl) ht1989 (xc_side hF hA hL hn hR1985)
  refine x_icmp_eq (tgt := 2737) dL_law_1992 (by decide) (fun b1992 => ?_) (fun b1992 => ?_)
  · exact hk _ _ _ _ _ hJ1989 hN1985 la1989 lb1989
  · exact absurd e1989.symm b1992
theorem cs_37 (hd : 100 ≤ d) (hJ : IV M s N len sc) (hN : N ≤ 900000000) (hi0 : 0 ≤ i ∧ i + 6 ≤ len) (hln : len ≤ 384) (hk : ∀ (M1 : Mem) (s1 : Sg) (N1 : Int) (o5 o6 : Option DV), IV M1 s1 N1 len sc → N1 ≤ N + 120 → mnx M1 ≤ mnx M + 1400 → mns M1 ≤ mns M + 6000 → WP G d mL_law 2737 [some (dR (-5)), some (dR 0), some (dR 744), some (dR 760), some (dI i), o5, o6] [] M1 Q) : WP G d mL_law 1997 [some (dR (-5)), some (dR 0), some (dR 744), some (dR 760), some (dI i), none, none] [] M Q := by
  obtain ⟨v, n, A, hi, vi, tp, sz, fa⟩ := s
  obtain ⟨hC0, hT0, hF, h7, s5, hsc⟩ := id hJ
  have hC : CI M v n A hi vi tp sz fa N := hC0
  have s0 : msh M 0 = some (1, 0) := hC.1.1.1.1
  have hA : okA v := hC.2.1.1
  have hL : lawOK v := hC.2.1.2.1
  have hn : 0 ≤ n ∧ n ≤ 12 := hC.2.2.1.2.1
  refine x_aload_n dL_law_1997 rfl rfl ?_
  refine x_aload_n dL_law_1998 rfl rfl ?_
  refine x_iload dL_law_1999 rfl ?_
  refine x_iconst dL_law_2001 rfl ?_
  first | refine x_iaddN dL_law_2002 (by unfold i32; omega) ?_ | refine x_iadd dL_law_2002 ?_
  refine x_iald dL_law_2003 (by first | assumption | first | assumption | (simp (disch := omega) only [shI, shR, shL, shC, shD, shW, sh_V, shN_e, shN_n, crI, crL, crC, crW, crV, crR_e, crR_n, crN_e, crN_n, ciR, ciL, ciD, ciN_e, ciN_n, rdI_e, rdI_n, rdC_i, rdC_o, rdW, rdU_e, rdU_n, rdLW, clI, clR, clC, clD, clW, clV, clN_e, clN_n, clL_e, clL_n]; done) | (simp (disch := omega) only [shI, shR, shL, shC, shD, shW, sh_V, shN_e, shN_n, crI, crL, crC, crW, crV, crR_e, crR_n, crN_e, crN_n, ciR, ciL, ciD, ciN_e, ciN_n, rdI_e, rdI_n, rdC_i, rdC_o, rdW, rdU_e, rdU_n, rdLW, clI, clR, clC, clD, clW, clV, clN_e, clN_n, clL_e, clL_n] <;> first | assumption | rfl | omega)) (by omega) (by omega) ?_
  rw [hsc]
  refine x_aload_n dL_law_2004 rfl rfl ?_
  refine g_callI (vs := [_, _, _]) (d' := d - 1) rfl (uc_pairs (by omega) h7 hC) dL_law_2005 kX0_266 (by omega) (by decide) rfl (Nat.le_of_ble_eq_true rfl) (rcv_n) (fun x2005 M2005 h2005 => ?_)
  obtain ⟨y2005, s2005, N2005, hR2005, hy2005, hN2005, hch2005⟩ := h2005
  obtain ⟨hT2005, ⟨me2005, mw2005⟩, sf2005, hs2005, hok2005, hX2005⟩ := hJ.mid hch2005
  have hI2005 : TI M2005 744 v n A hi vi tp sz fa := hT2005
  refine x_istore (L' := [some _, some _, some _, some _, some _, some _, none]) dL_law_2008 (by decide) rfl ?_
  refine x_aload_n dL_law_2010 rfl rfl ?_
  refine x_aload_n dL_law_2011 rfl rfl ?_
  refine x_iload dL_law_2012 rfl ?_
  refine x_iconst dL_law_2014 rfl ?_
  first | refine x_iaddN dL_law_2015 (by unfold i32; omega) ?_ | refine x_iadd dL_law_2015 ?_
  refine x_iald dL_law_2016 (by first | assumption | first | assumption | (simp (disch := omega) only [shI, shR, shL, shC, shD, shW, sh_V, shN_e, shN_n, crI, crL, crC, crW, crV, crR_e, crR_n, crN_e, crN_n, ciR, ciL, ciD, ciN_e, ciN_n, rdI_e, rdI_n, rdC_i, rdC_o, rdW, rdU_e, rdU_n, rdLW, clI, clR, clC, clD, clW, clV, clN_e, clN_n, clL_e, clL_n]; done) | (simp (disch := omega) only [shI, shR, shL, shC, shD, shW, sh_V, shN_e, shN_n, crI, crL, crC, crW, crV, crR_e, crR_n, crN_e, crN_n, ciR, ciL, ciD, ciN_e, ciN_n, rdI_e, rdI_n, rdC_i, rdC_o, rdW, rdU_e, rdU_n, rdLW, clI, clR, clC, clD, clW, clV, clN_e, clN_n, clL_e, clL_n] <;> first | assumption | rfl | omega)) (by omega) (by omega) ?_
  rw [hs2005]
  refine g_callI (vs := [_, _]) (d' := d - 1) rfl (rc_pairs (by omega) hI2005 hR2005) dL_law_2017 kX0_268 (by omega) (by decide) rfl (Nat.le_of_ble_eq_true rfl) (rcv_o (by first | assumption | first | assumption | (simp (disch := omega) only [shI, shR, shL, shC, shD, shW, sh_V, shN_e, shN_n, crI, crL, crC, crW, crV, crR_e, crR_n, crN_e, crN_n, ciR, ciL, ciD, ciN_e, ciN_n, rdI_e, rdI_n, rdC_i, rdC_o, rdW, rdU_e, rdU_n, rdLW, clI, clR, clC, clD, clW, clV, clN_e, clN_n, clL_e, clL_n]; done) | (simp (disch := omega) only [shI, shR, shL, shC, shD, shW, sh_V, shN_e, shN_n, crI, crL, crC, crW, crV, crR_e, crR_n, crN_e, crN_n, ciR, ciL, ciD, ciN_e, ciN_n, rdI_e, rdI_n, rdC_i, rdC_o, rdW, rdU_e, rdU_n, rdLW, clI, clR, clC, clD, clW, clV, clN_e, clN_n, clL_e, clL_n] <;> first | assumption | rfl | omega)) rfl) (fun x2017 M2017 h2017 => ?_)
  obtain ⟨e2017, hb2017, ⟨w2017, hv2017, ht2017⟩, hr2017⟩ := h2017
  obtain ⟨hJ2017, la2017, lb2017, tv2017, tm2017, tw2017, te2017⟩ := hJ.st (v' := w2017) hch2005 hr2017 hv2017 ht2017 (xc_pairs hF hA hL hn hR2005)
  refine x_istore (L' := [some _, some _, some _, some _, some _, some _, some _]) dL_law_2020 (by decide) rfl ?_
  refine x_aload_n dL_law_2022 rfl rfl ?_
  refine g_callI (vs := [_]) (d' := d - 1) rfl (s_X8_thrown (by omega) tw2017) dL_law_2023 kX0_142 (by omega) (by decide) rfl (Nat.le_of_ble_eq_true rfl) (rcv_o (by first | assumption | first | assumption | (simp (disch := omega) only [shI, shR, shL, shC, shD, shW, sh_V, shN_e, shN_n, crI, crL, crC, crW, crV, crR_e, crR_n, crN_e, crN_n, ciR, ciL, ciD, ciN_e, ciN_n, rdI_e, rdI_n, rdC_i, rdC_o, rdW, rdU_e, rdU_n, rdLW, clI, clR, clC, clD, clW, clV, clN_e, clN_n, clL_e, clL_n]; done) | (simp (disch := omega) only [shI, shR, shL, shC, shD, shW, sh_V, shN_e, shN_n, crI, crL, crC, crW, crV, crR_e, crR_n, crN_e, crN_n, ciR, ciL, ciD, ciN_e, ciN_n, rdI_e, rdI_n, rdC_i, rdC_o, rdW, rdU_e, rdU_n, rdLW, clI, clR, clC, clD, clW, clV, clN_e, clN_n, clL_e, clL_n] <;> first | assumption | rfl | omega)) rfl) (fun x2023 M2023 h2023 => ?_)
  obtain ⟨e2023, f2023⟩ := h2023
  subst f2023
  refine x_iload dL_law_2026 rfl ?_
  refine x_icmp_eq (tgt := 2033) dL_law_2028 (by decide) (fun b2028 => ?_) (fun b2028 => ?_)
  · refine x_iload dL_law_2033 rfl ?_
    refine x_if_ne (tgt := 2050) dL_law_2035 (by decide) (fun b2035 => ?_) (fun b2035 => ?_)
    · refine x_goto (tgt := 2737) dL_law_2050 (by decide) ?_
      exact hk _ _ _ _ _ hJ2017 hN2005 la2017 lb2017
    · refine x_aload_n dL_law_2038 rfl rfl ?_
      refine x_iconst dL_law_2039 rfl ?_
      refine x_lald dL_law_2040 (by first | assumption | first | assumption | (simp (disch := omega) only [shI, shR, shL, shC, shD, shW, sh_V, shN_e, shN_n, crI, crL, crC, crW, crV, crR_e, crR_n, crN_e, crN_n, ciR, ciL, ciD, ciN_e, ciN_n, rdI_e, rdI_n, rdC_i, rdC_o, rdW, rdU_e, rdU_n, rdLW, clI, clR, clC, clD, clW, clV, clN_e, clN_n, clL_e, clL_n]; done) | (simp (disch := omega) only [shI, shR, shL, shC, shD, shW, sh_V, shN_e, shN_n, crI, crL, crC, crW, crV, crR_e, crR_n, crN_e, crN_n, ciR, ciL, ciD, ciN_e, ciN_n, rdI_e, rdI_n, rdC_i, rdC_o, rdW, rdU_e, rdU_n, rdLW, clI, clR, clC, clD, clW, clV, clN_e, clN_n, clL_e, clL_n] <;> first | assumption | rfl | omega)) (by omega) (by omega) ?_
      refine x_iload dL_law_2041 rfl ?_
      refine x_i2l dL_law_2043 ?_
      refine x_lcmp dL_law_2044 ?_
      refine x_if_eq (tgt := 2050) dL_law_2045 (by decide) (fun b2045 => ?_) (fun b2045 => ?_)
      · refine x_goto (tgt := 2737) dL_law_2050 (by decide) ?_
        exact hk _ _ _ _ _ hJ2017 hN2005 la2017 lb2017
      · exact absurd (jlcmp_0.mpr (by have h0 : x2005 = 0 := (by omega); have a1 := tm2017; have a2 := hy2005 h0; have a3 := hb2017 h0; omega)) b2045
  · exact absurd (e2023.trans e2017) b2028
theorem cs_38 (hd : 100 ≤ d) (hJ : IV M s N len sc) (hN : N ≤ 900000000) (hi0 : 0 ≤ i ∧ i + 6 ≤ len) (hln : len ≤ 384) (hk : ∀ (M1 : Mem) (s1 : Sg) (N1 : Int) (o5 o6 : Option DV), IV M1 s1 N1 len sc → N1 ≤ N + 120 → mnx M1 ≤ mnx M + 1400 → mns M1 ≤ mns M + 6000 → WP G d mL_law 2737 [some (dR (-5)), some (dR 0), some (dR 744), some (dR 760), some (dI i), o5, o6] [] M1 Q) : WP G d mL_law 2053 [some (dR (-5)), some (dR 0), some (dR 744), some (dR 760), some (dI i), none, none] [] M Q := by
  obtain ⟨v, n, A, hi, vi, tp, sz, fa⟩ := s
  obtain ⟨hC0, hT0, hF, h7, s5, hsc⟩ := id hJ
  have hC : CI M v n A hi vi tp sz fa N := hC0
  have s0 : msh M 0 = some (1, 0) := hC.1.1.1.1
  have hA : okA v := hC.2.1.1
  have hL : lawOK v := hC.2.1.2.1
  have hn : 0 ≤ n ∧ n ≤ 12 := hC.2.2.1.2.1
  refine x_aload_n dL_law_2053 rfl rfl ?_
  refine x_aload_n dL_law_2054 rfl rfl ?_
  refine x_iload dL_law_2055 rfl ?_
  refine x_iconst dL_law_2057 rfl ?_
  first | refine x_iaddN dL_law_2058 (by unfold i32; omega) ?_ | refine x_iadd dL_law_2058 ?_
  refine x_iald dL_law_2059 (by first | assumption | first | assumption | (simp (disch := omega) only [shI, shR, shL, shC, shD, shW, sh_V, shN_e, shN_n, crI, crL, crC, crW, crV, crR_e, crR_n, crN_e, crN_n, ciR, ciL, ciD, ciN_e, ciN_n, rdI_e, rdI_n, rdC_i, rdC_o, rdW, rdU_e, rdU_n, rdLW, clI, clR, clC, clD, clW, clV, clN_e, clN_n, clL_e, clL_n]; done) | (simp (disch := omega) only [shI, shR, shL, shC, shD, shW, sh_V, shN_e, shN_n, crI, crL, crC, crW, crV, crR_e, crR_n, crN_e, crN_n, ciR, ciL, ciD, ciN_e, ciN_n, rdI_e, rdI_n, rdC_i, rdC_o, rdW, rdU_e, rdU_n, rdLW, clI, clR, clC, clD, clW, clV, clN_e, clN_n, clL_e, clL_n] <;> first | assumption | rfl | omega)) (by omega) (by omega) ?_
  rw [hsc]
  refine x_aload_n dL_law_2060 rfl rfl ?_
  refine g_callI (vs := [_, _, _]) (d' := d - 1) rfl (uc_rests (by omega) h7 hC) dL_law_2061 kX0_269 (by omega) (by decide) rfl (Nat.le_of_ble_eq_true rfl) (rcv_n) (fun x2061 M2061 h2061 => ?_)
  obtain ⟨y2061, s2061, N2061, hR2061, hy2061, hN2061, hch2061⟩ := h2061
  obtain ⟨hT2061, ⟨me2061, mw2061⟩, sf2061, hs2061, hok2061, hX2061⟩ := hJ.mid hch2061
  have hI2061 : TI M2061 744 v n A hi vi tp sz fa := hT2061
  refine x_istore (L' := [some _, some _, some _, some _, some _, some _, none]) dL_law_2064 (by decide) rfl ?_
  refine x_aload_n dL_law_2066 rfl rfl ?_
  refine x_aload_n dL_law_2067 rfl rfl ?_
  refine x_iload dL_law_2068 rfl ?_
  refine x_iconst dL_law_2070 rfl ?_
  first | refine x_iaddN dL_law_2071 (by unfold i32; omega) ?_ | refine x_iadd dL_law_2071 ?_
  refine x_iald dL_law_2072 (by first | assumption | first | assumption | (simp (disch := omega) only [shI, shR, shL, shC, shD, shW, sh_V, shN_e, shN_n, crI, crL, crC, crW, crV, crR_e, crR_n, crN_e, crN_n, ciR, ciL, ciD, ciN_e, ciN_n, rdI_e, rdI_n, rdC_i, rdC_o, rdW, rdU_e, rdU_n, rdLW, clI, clR, clC, clD, clW, clV, clN_e, clN_n, clL_e, clL_n]; done) | (simp (disch := omega) only [shI, shR, shL, shC, shD, shW, sh_V, shN_e, shN_n, crI, crL, crC, crW, crV, crR_e, crR_n, crN_e, crN_n, ciR, ciL, ciD, ciN_e, ciN_n, rdI_e, rdI_n, rdC_i, rdC_o, rdW, rdU_e, rdU_n, rdLW, clI, clR, clC, clD, clW, clV, clN_e, clN_n, clL_e, clL_n] <;> first | assumption | rfl | omega)) (by omega) (by omega) ?_
  rw [hs2061]
  refine g_callI (vs := [_, _]) (d' := d - 1) rfl (rc_rests (by omega) hI2061 hR2061) dL_law_2073 kX0_271 (by omega) (by decide) rfl (Nat.le_of_ble_eq_true rfl) (rcv_o (by first | assumption | first | assumption | (simp (disch := omega) only [shI, shR, shL, shC, shD, shW, sh_V, shN_e, shN_n, crI, crL, crC, crW, crV, crR_e, crR_n, crN_e, crN_n, ciR, ciL, ciD, ciN_e, ciN_n, rdI_e, rdI_n, rdC_i, rdC_o, rdW, rdU_e, rdU_n, rdLW, clI, clR, clC, clD, clW, clV, clN_e, clN_n, clL_e, clL_n]; done) | (simp (disch := omega) only [shI, shR, shL, shC, shD, shW, sh_V, shN_e, shN_n, crI, crL, crC, crW, crV, crR_e, crR_n, crN_e, crN_n, ciR, ciL, ciD, ciN_e, ciN_n, rdI_e, rdI_n, rdC_i, rdC_o, rdW, rdU_e, rdU_n, rdLW, clI, clR, clC, clD, clW, clV, clN_e, clN_n, clL_e, clL_n] <;> first | assumption | rfl | omega)) rfl) (fun x2073 M2073 h2073 => ?_)
  obtain ⟨e2073, hb2073, ⟨w2073, hv2073, ht2073⟩, hr2073⟩ := h2073
  obtain ⟨hJ2073, la2073, lb2073, tv2073, tm2073, tw2073, te2073⟩ := hJ.st (v' := w2073) hch2061 hr2073 hv2073 ht2073 (xc_rests hF hA hL hn hR2061)
  refine x_istore (L' := [some _, some _, some _, some _, some _, some _, some _]) dL_law_2076 (by decide) rfl ?_
  refine x_aload_n dL_law_2078 rfl rfl ?_
  refine g_callI (vs := [_]) (d' := d - 1) rfl (s_X8_thrown (by omega) tw2073) dL_law_2079 kX0_142 (by omega) (by decide) rfl (Nat.le_of_ble_eq_true rfl) (rcv_o (by first | assumption | first | assumption | (simp (disch := omega) only [shI, shR, shL, shC, shD, shW, sh_V, shN_e, shN_n, crI, crL, crC, crW, crV, crR_e, crR_n, crN_e, crN_n, ciR, ciL, ciD, ciN_e, ciN_n, rdI_e, rdI_n, rdC_i, rdC_o, rdW, rdU_e, rdU_n, rdLW, clI, clR, clC, clD, clW, clV, clN_e, clN_n, clL_e, clL_n]; done) | (simp (disch := omega) only [shI, shR, shL, shC, shD, shW, sh_V, shN_e, shN_n, crI, crL, crC, crW, crV, crR_e, crR_n, crN_e, crN_n, ciR, ciL, ciD, ciN_e, ciN_n, rdI_e, rdI_n, rdC_i, rdC_o, rdW, rdU_e, rdU_n, rdLW, clI, clR, clC, clD, clW, clV, clN_e, clN_n, clL_e, clL_n] <;> first | assumption | rfl | omega)) rfl) (fun x2079 M2079 h2079 => ?_)
  obtain ⟨e2079, f2079⟩ := h2079
  subst f2079
  refine x_iload dL_law_2082 rfl ?_
  refine x_icmp_eq (tgt := 2089) dL_law_2084 (by decide) (fun b2084 => ?_) (fun b2084 => ?_)
  · refine x_iload dL_law_2089 rfl ?_
    refine x_if_ne (tgt := 2106) dL_law_2091 (by decide) (fun b2091 => ?_) (fun b2091 => ?_)
    · refine x_goto (tgt := 2737) dL_law_2106 (by decide) ?_
      exact hk _ _ _ _ _ hJ2073 hN2061 la2073 lb2073
    · refine x_aload_n dL_law_2094 rfl rfl ?_
      refine x_iconst dL_law_2095 rfl ?_
      refine x_lald dL_law_2096 (by first | assumption | first | assumption | (simp (disch := omega) only [shI, shR, shL, shC, shD, shW, sh_V, shN_e, shN_n, crI, crL, crC, crW, crV, crR_e, crR_n, crN_e, crN_n, ciR, ciL, ciD, ciN_e, ciN_n, rdI_e, rdI_n, rdC_i, rdC_o, rdW, rdU_e, rdU_n, rdLW, clI, clR, clC, clD, clW, clV, clN_e, clN_n, clL_e, clL_n]; done) | (simp (disch := omega) only [shI, shR, shL, shC, shD, shW, sh_V, shN_e, shN_n, crI, crL, crC, crW, crV, crR_e, crR_n, crN_e, crN_n, ciR, ciL, ciD, ciN_e, ciN_n, rdI_e, rdI_n, rdC_i, rdC_o, rdW, rdU_e, rdU_n, rdLW, clI, clR, clC, clD, clW, clV, clN_e, clN_n, clL_e, clL_n] <;> first | assumption | rfl | omega)) (by omega) (by omega) ?_
      refine x_iload dL_law_2097 rfl ?_
      refine x_i2l dL_law_2099 ?_
      refine x_lcmp dL_law_2100 ?_
      refine x_if_eq (tgt := 2106) dL_law_2101 (by decide) (fun b2101 => ?_) (fun b2101 => ?_)
      · refine x_goto (tgt := 2737) dL_law_2106 (by decide) ?_
        exact hk _ _ _ _ _ hJ2073 hN2061 la2073 lb2073
      · exact absurd (jlcmp_0.mpr (by have h0 : x2061 = 0 := (by omega); have a1 := tm2073; have a2 := hy2061 h0; have a3 := hb2073 h0; omega)) b2101
  · exact absurd (e2079.trans e2073) b2084
end LW

