/-! GuestViewLaw: its loop -/
section LL
variable {G : GW} {d : Nat} {M : Mem} {Q : Res → Mem → Prop} {s : Sg} {N len i : Int} {sc : Int → Int}
theorem law_loop (hd : 100 ≤ d) (hlen : 0 ≤ len ∧ len ≤ 384) (hQ : ∀ M1, (mnx M1 : Int) ≤ 761 + 1400 * 64 → (mns M1 : Int) ≤ 60000 + 6000 * 64 → Q (rV (dI 1)) M1) (hJ0 : IV M s 0 len sc) (hx0 : (mnx M : Int) ≤ 761) (hm0 : (mns M : Int) ≤ 60000) : WP G d mL_law 23 [some (dR (-5)), some (dR 0), some (dR 744), some (dR 760), some (dI 0), none, none] [] M Q := by
  have lp : ∀ (t : Nat) (c : Int) (M : Mem) (s : Sg) (N : Int), (65 - c).toNat = t → (0 ≤ c ∧ 6 * c ≤ len) → (IV M s N len sc) → (N ≤ 120 * c) → ((mnx M : Int) ≤ 761 + 1400 * c) → ((mns M : Int) ≤ 60000 + 6000 * c) → WP G d mL_law 23 [some (dR (-5)), some (dR 0), some (dR 744), some (dR 760), some (dI (6 * c)), none, none] [] (M) Q := by
    intro t
    induction t using Nat.strongRecOn with
    | _ t ih =>
      intro c M s N ht hc hJ hN hx hm
      have s5 : msh M (-5) = some (100, len) := hJ.2.2.2.2.1
      have nx : 6 * c + 6 ≤ len → ∀ (M1 : Mem) (s1 : Sg) (N1 : Int) (o5 o6 : Option DV), IV M1 s1 N1 len sc → N1 ≤ N + 120 → mnx M1 ≤ mnx M + 1400 → mns M1 ≤ mns M + 6000 → WP G d mL_law 2737 [some (dR (-5)), some (dR 0), some (dR 744), some (dR 760), some (dI (6 * c)), o5, o6] [] M1 Q := by
        intro hle M1 s1 N1 o5 o6 g1 g2 g3 g4
        first | refine x_iincN (L' := [some _, some _, some _, some _, some _, _, _]) dL_law_2737 rfl (by decide) (by unfold i32; omega) rfl ?_ | refine x_iinc (L' := [some _, some _, some _, some _, some _, _, _]) dL_law_2737 rfl (by decide) rfl ?_
        refine x_goto (tgt := 23) dL_law_2740 (by decide) ?_
        refine x_fgt (L' := [some (dR (-5)), some (dR 0), some (dR 744), some (dR 760), some (dI (6 * (c + 1))), none, none]) ?_ (ih _ (by omega) (c + 1) M1 s1 N1 rfl (by omega) g1 (by omega) (by omega) (by omega))
        rw [show (6 * (c + 1) : Int) = 6 * c + 6 by omega]
        repeat (first | exact trivial | refine ⟨rfl, ?_⟩)
      refine x_iload dL_law_23 rfl ?_
      refine x_aload_n dL_law_25 rfl rfl ?_
      refine x_alen rfl dL_law_26 (by first | assumption | first | assumption | (simp (disch := omega) only [shI, shR, shL, shC, shD, shW, sh_V, shN_e, shN_n, crI, crL, crC, crW, crV, crR_e, crR_n, crN_e, crN_n, ciR, ciL, ciD, ciN_e, ciN_n, rdI_e, rdI_n, rdC_i, rdC_o, rdW, rdU_e, rdU_n, rdLW, clI, clR, clC, clD, clW, clV, clN_e, clN_n, clL_e, clL_n]; done) | (simp (disch := omega) only [shI, shR, shL, shC, shD, shW, sh_V, shN_e, shN_n, crI, crL, crC, crW, crV, crR_e, crR_n, crN_e, crN_n, ciR, ciL, ciD, ciN_e, ciN_n, rdI_e, rdI_n, rdC_i, rdC_o, rdW, rdU_e, rdU_n, rdLW, clI, clR, clC, clD, clW, clV, clN_e, clN_n, clL_e, clL_n] <;> first | assumption | rfl | omega)) ?_
      refine x_bipush dL_law_27 rfl ?_
      first | refine x_isubN dL_law_29 (by unfold i32; omega) ?_ | refine x_isub dL_law_29 ?_
      refine x_icmp_gt (tgt := 2743) dL_law_30 (by decide) (fun h30 => ?_) (fun h30 => ?_)
      · refine x_iconst dL_law_2743 rfl ?_
        refine x_zreturn (by first | exact Or.inl rfl | exact Or.inr rfl | exact vB_r _ | exact vP_r _ | assumption | omega) rfl dL_law_2744 ?_
        exact hQ _ (by omega) (by omega)
      · refine x_aload_n dL_law_33 rfl rfl ?_
        refine x_iload dL_law_34 rfl ?_
        refine x_iald dL_law_36 (by first | assumption | first | assumption | (simp (disch := omega) only [shI, shR, shL, shC, shD, shW, sh_V, shN_e, shN_n, crI, crL, crC, crW, crV, crR_e, crR_n, crN_e, crN_n, ciR, ciL, ciD, ciN_e, ciN_n, rdI_e, rdI_n, rdC_i, rdC_o, rdW, rdU_e, rdU_n, rdLW, clI, clR, clC, clD, clW, clV, clN_e, clN_n, clL_e, clL_n]; done) | (simp (disch := omega) only [shI, shR, shL, shC, shD, shW, sh_V, shN_e, shN_n, crI, crL, crC, crW, crV, crR_e, crR_n, crN_e, crN_n, ciR, ciL, ciD, ciN_e, ciN_n, rdI_e, rdI_n, rdC_i, rdC_o, rdW, rdU_e, rdU_n, rdLW, clI, clR, clC, clD, clW, clV, clN_e, clN_n, clL_e, clL_n] <;> first | assumption | rfl | omega)) (by omega) (by omega) ?_
        refine x_bipush dL_law_37 rfl ?_
        refine x_iand dL_law_39 ?_
        rcases (show jand (mci M (-5) (6 * c)) 63 = 0 ∨ jand (mci M (-5) (6 * c)) 63 = 1 ∨ jand (mci M (-5) (6 * c)) 63 = 2 ∨ jand (mci M (-5) (6 * c)) 63 = 3 ∨ jand (mci M (-5) (6 * c)) 63 = 4 ∨ jand (mci M (-5) (6 * c)) 63 = 5 ∨ jand (mci M (-5) (6 * c)) 63 = 6 ∨ jand (mci M (-5) (6 * c)) 63 = 7 ∨ jand (mci M (-5) (6 * c)) 63 = 8 ∨ jand (mci M (-5) (6 * c)) 63 = 9 ∨ jand (mci M (-5) (6 * c)) 63 = 10 ∨ jand (mci M (-5) (6 * c)) 63 = 11 ∨ jand (mci M (-5) (6 * c)) 63 = 12 ∨ jand (mci M (-5) (6 * c)) 63 = 13 ∨ jand (mci M (-5) (6 * c)) 63 = 14 ∨ jand (mci M (-5) (6 * c)) 63 = 15 ∨ jand (mci M (-5) (6 * c)) 63 = 16 ∨ jand (mci M (-5) (6 * c)) 63 = 17 ∨ jand (mci M (-5) (6 * c)) 63 = 18 ∨ jand (mci M (-5) (6 * c)) 63 = 19 ∨ jand (mci M (-5) (6 * c)) 63 = 20 ∨ jand (mci M (-5) (6 * c)) 63 = 21 ∨ jand (mci M (-5) (6 * c)) 63 = 22 ∨ jand (mci M (-5) (6 * c)) 63 = 23 ∨ jand (mci M (-5) (6 * c)) 63 = 24 ∨ jand (mci M (-5) (6 * c)) 63 = 25 ∨ jand (mci M (-5) (6 * c)) 63 = 26 ∨ jand (mci M (-5) (6 * c)) 63 = 27 ∨ jand (mci M (-5) (6 * c)) 63 = 28 ∨ jand (mci M (-5) (6 * c)) 63 = 29 ∨ jand (mci M (-5) (6 * c)) 63 = 30 ∨ jand (mci M (-5) (6 * c)) 63 = 31 ∨ jand (mci M (-5) (6 * c)) 63 = 32 ∨ jand (mci M (-5) (6 * c)) 63 = 33 ∨ jand (mci M (-5) (6 * c)) 63 = 34 ∨ jand (mci M (-5) (6 * c)) 63 = 35 ∨ jand (mci M (-5) (6 * c)) 63 = 36 ∨ jand (mci M (-5) (6 * c)) 63 = 37 ∨ jand (mci M (-5) (6 * c)) 63 = 38 ∨ jand (mci M (-5) (6 * c)) 63 = 39 ∨ jand (mci M (-5) (6 * c)) 63 = 40 ∨ jand (mci M (-5) (6 * c)) 63 = 41 ∨ jand (mci M (-5) (6 * c)) 63 = 42 ∨ jand (mci M (-5) (6 * c)) 63 = 43 ∨ jand (mci M (-5) (6 * c)) 63 = 44 ∨ jand (mci M (-5) (6 * c)) 63 = 45 ∨ jand (mci M (-5) (6 * c)) 63 = 46 ∨ jand (mci M (-5) (6 * c)) 63 = 47 ∨ jand (mci M (-5) (6 * c)) 63 = 48 ∨ jand (mci M (-5) (6 * c)) 63 = 49 ∨ jand (mci M (-5) (6 * c)) 63 = 50 ∨ jand (mci M (-5) (6 * c)) 63 = 51 ∨ (jand (mci M (-5) (6 * c)) 63 < 0 ∨ 51 < jand (mci M (-5) (6 * c)) 63) by omega) with hs40 | hs40 | hs40 | hs40 | hs40 | hs40 | hs40 | hs40 | hs40 | hs40 | hs40 | hs40 | hs40 | hs40 | hs40 | hs40 | hs40 | hs40 | hs40 | hs40 | hs40 | hs40 | hs40 | hs40 | hs40 | hs40 | hs40 | hs40 | hs40 | hs40 | hs40 | hs40 | hs40 | hs40 | hs40 | hs40 | hs40 | hs40 | hs40 | hs40 | hs40 | hs40 | hs40 | hs40 | hs40 | hs40 | hs40 | hs40 | hs40 | hs40 | hs40 | hs40 | hs40
        · refine x_tab_in (tgt := 264) (off := 224) dL_law_40 (by omega) (by omega) (by rw [hs40]; rfl) (by decide) ?_
          exact cs_0 hd hJ (by omega) (by omega) hlen.2 (nx (by omega))
        · refine x_tab_in (tgt := 337) (off := 297) dL_law_40 (by omega) (by omega) (by rw [hs40]; rfl) (by decide) ?_
          exact cs_1 hd hJ (by omega) (by omega) hlen.2 (nx (by omega))
        · refine x_tab_in (tgt := 362) (off := 322) dL_law_40 (by omega) (by omega) (by rw [hs40]; rfl) (by decide) ?_
          exact cs_2 hd hJ (by omega) (by omega) hlen.2 (nx (by omega))
        · refine x_tab_in (tgt := 406) (off := 366) dL_law_40 (by omega) (by omega) (by rw [hs40]; rfl) (by decide) ?_
          exact cs_3 hd hJ (by omega) (by omega) hlen.2 (nx (by omega))
        · refine x_tab_in (tgt := 450) (off := 410) dL_law_40 (by omega) (by omega) (by rw [hs40]; rfl) (by decide) ?_
          exact cs_4 hd hJ (by omega) (by omega) hlen.2 (nx (by omega))
        · refine x_tab_in (tgt := 463) (off := 423) dL_law_40 (by omega) (by omega) (by rw [hs40]; rfl) (by decide) ?_
          exact cs_5 hd hJ (by omega) (by omega) hlen.2 (nx (by omega))
        · refine x_tab_in (tgt := 531) (off := 491) dL_law_40 (by omega) (by omega) (by rw [hs40]; rfl) (by decide) ?_
          exact cs_6 hd hJ (by omega) (by omega) hlen.2 (nx (by omega))
        · refine x_tab_in (tgt := 627) (off := 587) dL_law_40 (by omega) (by omega) (by rw [hs40]; rfl) (by decide) ?_
          exact cs_7 hd hJ (by omega) (by omega) hlen.2 (nx (by omega))
        · refine x_tab_in (tgt := 695) (off := 655) dL_law_40 (by omega) (by omega) (by rw [hs40]; rfl) (by decide) ?_
          exact cs_8 hd hJ (by omega) (by omega) hlen.2 (nx (by omega))
        · refine x_tab_in (tgt := 775) (off := 735) dL_law_40 (by omega) (by omega) (by rw [hs40]; rfl) (by decide) ?_
          exact cs_9 hd hJ (by omega) (by omega) hlen.2 (nx (by omega))
        · refine x_tab_in (tgt := 800) (off := 760) dL_law_40 (by omega) (by omega) (by rw [hs40]; rfl) (by decide) ?_
          exact cs_10 hd hJ (by omega) (by omega) hlen.2 (nx (by omega))
        · refine x_tab_in (tgt := 856) (off := 816) dL_law_40 (by omega) (by omega) (by rw [hs40]; rfl) (by decide) ?_
          exact cs_11 hd hJ (by omega) (by omega) hlen.2 (nx (by omega))
        · refine x_tab_in (tgt := 940) (off := 900) dL_law_40 (by omega) (by omega) (by rw [hs40]; rfl) (by decide) ?_
          exact cs_12 hd hJ (by omega) (by omega) hlen.2 (nx (by omega))
        · refine x_tab_in (tgt := 996) (off := 956) dL_law_40 (by omega) (by omega) (by rw [hs40]; rfl) (by decide) ?_
          exact cs_13 hd hJ (by omega) (by omega) hlen.2 (nx (by omega))
        · refine x_tab_in (tgt := 1007) (off := 967) dL_law_40 (by omega) (by omega) (by rw [hs40]; rfl) (by decide) ?_
          exact cs_14 hd hJ (by omega) (by omega) hlen.2 (nx (by omega))
        · refine x_tab_in (tgt := 1098) (off := 1058) dL_law_40 (by omega) (by omega) (by rw [hs40]; rfl) (by decide) ?_
          exact cs_15 hd hJ (by omega) (by omega) hlen.2 (nx (by omega))
        · refine x_tab_in (tgt := 1189) (off := 1149) dL_law_40 (by omega) (by omega) (by rw [hs40]; rfl) (by decide) ?_
          exact cs_16 hd hJ (by omega) (by omega) hlen.2 (nx (by omega))
        · refine x_tab_in (tgt := 1257) (off := 1217) dL_law_40 (by omega) (by omega) (by rw [hs40]; rfl) (by decide) ?_
          exact cs_17 hd hJ (by omega) (by omega) hlen.2 (nx (by omega))
        · refine x_tab_in (tgt := 1325) (off := 1285) dL_law_40 (by omega) (by omega) (by rw [hs40]; rfl) (by decide) ?_
          exact cs_18 hd hJ (by omega) (by omega) hlen.2 (nx (by omega))
        · refine x_tab_in (tgt := 1381) (off := 1341) dL_law_40 (by omega) (by omega) (by rw [hs40]; rfl) (by decide) ?_
          exact cs_19 hd hJ (by omega) (by omega) hlen.2 (nx (by omega))
        · refine x_tab_in (tgt := 1437) (off := 1397) dL_law_40 (by omega) (by omega) (by rw [hs40]; rfl) (by decide) ?_
          exact cs_20 hd hJ (by omega) (by omega) hlen.2 (nx (by omega))
        · refine x_tab_in (tgt := 1493) (off := 1453) dL_law_40 (by omega) (by omega) (by rw [hs40]; rfl) (by decide) ?_
          exact cs_21 hd hJ (by omega) (by omega) hlen.2 (nx (by omega))
        · refine x_tab_in (tgt := 1549) (off := 1509) dL_law_40 (by omega) (by omega) (by rw [hs40]; rfl) (by decide) ?_
          exact cs_22 hd hJ (by omega) (by omega) hlen.2 (nx (by omega))
        · refine x_tab_in (tgt := 1562) (off := 1522) dL_law_40 (by omega) (by omega) (by rw [hs40]; rfl) (by decide) ?_
          exact cs_23 hd hJ (by omega) (by omega) hlen.2 (nx (by omega))
        · refine x_tab_in (tgt := 1575) (off := 1535) dL_law_40 (by omega) (by omega) (by rw [hs40]; rfl) (by decide) ?_
          exact cs_24 hd hJ (by omega) (by omega) hlen.2 (nx (by omega))
        · refine x_tab_in (tgt := 1588) (off := 1548) dL_law_40 (by omega) (by omega) (by rw [hs40]; rfl) (by decide) ?_
          exact cs_25 hd hJ (by omega) (by omega) hlen.2 (nx (by omega))
        · refine x_tab_in (tgt := 1644) (off := 1604) dL_law_40 (by omega) (by omega) (by rw [hs40]; rfl) (by decide) ?_
          exact cs_26 hd hJ (by omega) (by omega) hlen.2 (nx (by omega))
        · refine x_tab_in (tgt := 1712) (off := 1672) dL_law_40 (by omega) (by omega) (by rw [hs40]; rfl) (by decide) ?_
          exact cs_27 hd hJ (by omega) (by omega) hlen.2 (nx (by omega))
        · refine x_tab_in (tgt := 1725) (off := 1685) dL_law_40 (by omega) (by omega) (by rw [hs40]; rfl) (by decide) ?_
          exact cs_28 hd hJ (by omega) (by omega) hlen.2 (nx (by omega))
        · refine x_tab_in (tgt := 1738) (off := 1698) dL_law_40 (by omega) (by omega) (by rw [hs40]; rfl) (by decide) ?_
          exact cs_29 hd hJ (by omega) (by omega) hlen.2 (nx (by omega))
        · refine x_tab_in (tgt := 1813) (off := 1773) dL_law_40 (by omega) (by omega) (by rw [hs40]; rfl) (by decide) ?_
          exact cs_30 hd hJ (by omega) (by omega) hlen.2 (nx (by omega))
        · refine x_tab_in (tgt := 1826) (off := 1786) dL_law_40 (by omega) (by omega) (by rw [hs40]; rfl) (by decide) ?_
          exact cs_31 hd hJ (by omega) (by omega) hlen.2 (nx (by omega))
        · refine x_tab_in (tgt := 1839) (off := 1799) dL_law_40 (by omega) (by omega) (by rw [hs40]; rfl) (by decide) ?_
          exact cs_32 hd hJ (by omega) (by omega) hlen.2 (nx (by omega))
        · refine x_tab_in (tgt := 1883) (off := 1843) dL_law_40 (by omega) (by omega) (by rw [hs40]; rfl) (by decide) ?_
          exact cs_33 hd hJ (by omega) (by omega) hlen.2 (nx (by omega))
        · refine x_tab_in (tgt := 1927) (off := 1887) dL_law_40 (by omega) (by omega) (by rw [hs40]; rfl) (by decide) ?_
          exact cs_34 hd hJ (by omega) (by omega) hlen.2 (nx (by omega))
        · refine x_tab_in (tgt := 1971) (off := 1931) dL_law_40 (by omega) (by omega) (by rw [hs40]; rfl) (by decide) ?_
          exact cs_35 hd hJ (by omega) (by omega) hlen.2 (nx (by omega))
        · refine x_tab_in (tgt := 1984) (off := 1944) dL_law_40 (by omega) (by omega) (by rw [hs40]; rfl) (by decide) ?_
          exact cs_36 hd hJ (by omega) (by omega) hlen.2 (nx (by omega))
        · refine x_tab_in (tgt := 1997) (off := 1957) dL_law_40 (by omega) (by omega) (by rw [hs40]; rfl) (by decide) ?_
          exact cs_37 hd hJ (by omega) (by omega) hlen.2 (nx (by omega))
        · refine x_tab_in (tgt := 2053) (off := 2013) dL_law_40 (by omega) (by omega) (by rw [hs40]; rfl) (by decide) ?_
          exact cs_38 hd hJ (by omega) (by omega) hlen.2 (nx (by omega))
        · refine x_tab_in (tgt := 2109) (off := 2069) dL_law_40 (by omega) (by omega) (by rw [hs40]; rfl) (by decide) ?_
          exact cs_39 hd hJ (by omega) (by omega) hlen.2 (nx (by omega))
        · refine x_tab_in (tgt := 2177) (off := 2137) dL_law_40 (by omega) (by omega) (by rw [hs40]; rfl) (by decide) ?_
          exact cs_40 hd hJ (by omega) (by omega) hlen.2 (nx (by omega))
        · refine x_tab_in (tgt := 2233) (off := 2193) dL_law_40 (by omega) (by omega) (by rw [hs40]; rfl) (by decide) ?_
          exact cs_41 hd hJ (by omega) (by omega) hlen.2 (nx (by omega))
        · refine x_tab_in (tgt := 2246) (off := 2206) dL_law_40 (by omega) (by omega) (by rw [hs40]; rfl) (by decide) ?_
          exact cs_42 hd hJ (by omega) (by omega) hlen.2 (nx (by omega))
        · refine x_tab_in (tgt := 2330) (off := 2290) dL_law_40 (by omega) (by omega) (by rw [hs40]; rfl) (by decide) ?_
          exact cs_43 hd hJ (by omega) (by omega) hlen.2 (nx (by omega))
        · refine x_tab_in (tgt := 2414) (off := 2374) dL_law_40 (by omega) (by omega) (by rw [hs40]; rfl) (by decide) ?_
          exact cs_44 hd hJ (by omega) (by omega) hlen.2 (nx (by omega))
        · refine x_tab_in (tgt := 2498) (off := 2458) dL_law_40 (by omega) (by omega) (by rw [hs40]; rfl) (by decide) ?_
          exact cs_45 hd hJ (by omega) (by omega) hlen.2 (nx (by omega))
        · refine x_tab_in (tgt := 2582) (off := 2542) dL_law_40 (by omega) (by omega) (by rw [hs40]; rfl) (by decide) ?_
          exact cs_46 hd hJ (by omega) (by omega) hlen.2 (nx (by omega))
        · refine x_tab_in (tgt := 2650) (off := 2610) dL_law_40 (by omega) (by omega) (by rw [hs40]; rfl) (by decide) ?_
          exact cs_47 hd hJ (by omega) (by omega) hlen.2 (nx (by omega))
        · refine x_tab_in (tgt := 2675) (off := 2635) dL_law_40 (by omega) (by omega) (by rw [hs40]; rfl) (by decide) ?_
          exact cs_48 hd hJ (by omega) (by omega) hlen.2 (nx (by omega))
        · refine x_tab_in (tgt := 2688) (off := 2648) dL_law_40 (by omega) (by omega) (by rw [hs40]; rfl) (by decide) ?_
          exact cs_49 hd hJ (by omega) (by omega) hlen.2 (nx (by omega))
        · refine x_tab_in (tgt := 2699) (off := 2659) dL_law_40 (by omega) (by omega) (by rw [hs40]; rfl) (by decide) ?_
          exact cs_50 hd hJ (by omega) (by omega) hlen.2 (nx (by omega))
        · refine x_tab_in (tgt := 2712) (off := 2672) dL_law_40 (by omega) (by omega) (by rw [hs40]; rfl) (by decide) ?_
          exact cs_51 hd hJ (by omega) (by omega) hlen.2 (nx (by omega))
        · refine x_tab_out (tgt := 2737) dL_law_40 hs40 (by decide) ?_
          exact nx (by omega) M s N none none hJ (by omega) (by omega) (by omega)
  exact lp _ 0 M s 0 rfl (by omega) hJ0 (by omega) (by omega) (by omega)
end LL

