/-! GuestView: ops two by two -/
theorem low1_0 : ∀ x : Fin 256, x.val = 0 ∨ jand (x.val : Int) ((x.val : Int) - 1) = clrI (x.val : Int) (lo0 (x.val : Int)) := by decide +kernel
theorem low1 {s : Int} (h : 0 < s ∧ s < 256) : jand s (s - 1) = clrI s (lo0 s) := by
  obtain ⟨x, e⟩ := fin256 (x := s) (by omega)
  subst e
  rcases low1_0 x with q | q
  · omega
  · exact q
theorem two1_0 : ∀ a : Fin 8, ∀ b : Fin 8, ∀ s : Fin 256, a.val = b.val ∨ jand (s.val : Int) (jxor (jor (pw (a.val : Int)) (pw (b.val : Int))) (-1)) = clrI (clrI (s.val : Int) (a.val : Int)) (b.val : Int) := by decide +kernel
theorem two1 {s a b : Int} (hs : 0 ≤ s ∧ s < 256) (ha : 0 ≤ a ∧ a < 8) (hb : 0 ≤ b ∧ b < 8) (hn : a ≠ b) : jand s (jxor (jor (pw a) (pw b)) (-1)) = clrI (clrI s a) b := by
  obtain ⟨a', ea⟩ := fin8 ha
  obtain ⟨b', eb⟩ := fin8 hb
  obtain ⟨s', es⟩ := fin256 hs
  subst ea; subst eb; subst es
  rcases two1_0 a' b' s' with q | q
  · exact absurd (congrArg (fun x : Nat => (x : Int)) q) hn
  · exact q
/-- below the lowest there is none -/
theorem lo_no0 : ∀ k : Fin 8, ∀ s : Fin 256, s.val = 0 ∨ lo0 (s.val : Int) ≤ (k.val : Int) ∨ bitI (s.val : Int) (k.val : Int) = 0 := by decide +kernel
theorem lo_no {s k : Int} (hs : 0 < s ∧ s < 256) (hk : 0 ≤ k ∧ k ≤ lo0 s) : bitI (clrI s (lo0 s)) k = 0 := by
  have hl := lo0_r (x := s) (by omega) (by omega)
  rw [clr_b (by omega) hl (by omega)]
  by_cases e : k = lo0 s
  · rw [if_pos e]
  · rw [if_neg e]
    obtain ⟨k', ek⟩ := fin8 (x := k) (by omega)
    obtain ⟨s', es⟩ := fin256 (x := s) (by omega)
    subst ek; subst es
    rcases lo_no0 k' s' with q | q | q
    · omega
    · omega
    · exact q
theorem cd_lo {v : Vw} {T : Int → Int} {s o : Int} (hs : 0 < s ∧ s < 256) (ho : 0 ≤ o ∧ o ≤ lo0 s) : cdP v T s o = -1 := by
  unfold cdP
  rw [if_neg (by omega), if_neg fun q => by rw [lo_no hs ho] at q; exact absurd q.1 (by decide)]
theorem mx_lo {v : Vw} {T : Int → Int} {s : Int} (hs : 0 < s ∧ s < 256) (hT : 0 ≤ T (clrI s (lo0 s))) : ∀ t : Nat, (t : Int) ≤ lo0 s + 1 → mxP v T s (t + 1) = T (clrI s (lo0 s)) := by
  intro t
  have e1 : cdP v T s (-1) = T (clrI s (lo0 s)) := if_pos rfl
  induction t with
  | zero =>
    intro _
    show (if (0 : Int) ≤ cdP v T s (-1) then cdP v T s (-1) else 0) = _
    rw [e1, if_pos hT]
  | succ t ih =>
    intro h
    rw [mxP_s, ih (by omega), cd_lo hs (by omega), if_neg (by omega)]
section X1
variable {G : GW} {d : Nat} {M M1 : Mem} {a b c e k n x y op w st hi sz fa N i p T s : Int} {v vi : Vw} {A : Int → Vw} {tp : Int → Int}
theorem s_X1_allBest (hd : 16 ≤ d) (hC : CI M v n A hi vi tp sz fa N) : CS G d mX1_allBest [dR 0] M (postN fun M1 => ∃ g, M1 = wI M g ∧ (∀ b k, ¬ b = 200 → g b k = mci M b k) ∧ ∀ j, 0 ≤ j → j < pw (v 0) → g 200 j = tT v j) := by
  obtain ⟨hC1, hC54, hCA, hCR⟩ := id hC; obtain ⟨hS, hTab, hTx, hLn, hSk, hnx⟩ := id hC1; obtain ⟨hA, hL, hR⟩ := id hC54; obtain ⟨⟨s0, s199, s200, s201, s202, s203⟩, ⟨c0, c1, c2, c3, c4, c5, c6, c7, c8, c9, c10, c11, c12⟩, c203, hSt, m189, m191, g193, g196, ⟨⟨r2, r3, r4, r5, r6, r7, r53⟩, ⟨w0, w1, w2, w3, w4, w5, w6⟩, wx1, wx2, wx3⟩⟩ := id hS; have hv := hA.1; have hv8 := hv.n8; have hv0 := hv.1.1; have hv3 := hv.2.2.2.1; have hs54 := hSt 54 (by unfold SB; omega); obtain ⟨p0, p1, ⟨d0, d1, d2, d3, d4, d5, d6, d7⟩, ⟨t1, t2, t3, t4, t5, t6⟩, p5, p6, p7⟩ := id hs54; have t7 : msh M (54 + 7) = some (4, 0) := p5.2.1; have t10 : msh M (54 + 10) = some (4, 0) := p6.2.1; obtain ⟨hB, hW, hLw⟩ := id hR.1; obtain ⟨b1, b2, b3, b4, b5, b6, b7, b8, b9, b10, b11, b12, b13, b14, b15⟩ := id hB; obtain ⟨hn, hn2, hat, hAc⟩ := id hCA; obtain ⟨⟨hki, hhi⟩, hIm, ⟨htp, hsz, hsz2⟩, hfa⟩ := id hCR
  have hvB : okB v := hv
  have h8 := pw_le8 (t := (v 0).toNat) (by omega)
  have hpp := pw_pos (v 0)
  rw [show (((v 0).toNat : Nat) : Int) = v 0 by omega] at h8
  refine CS.mkQ (by decide) (Nat.le_of_ble_eq_true rfl) fun Q hQ => ?_
  have lp : ∀ (t : Nat) (s : Int) (g : Ci), (pw (v 0) - s).toNat = t → (1 ≤ s) → (s ≤ pw (v 0)) → (∀ b k, ¬ b = 200 → g b k = mci M b k) → (∀ j, 0 ≤ j → j < s → g 200 j = tT v j) → WP G d mX1_allBest 9 [some (dR 0), some (dI s), none, none] [] (wI M g) Q := by
    intro t
    induction t using Nat.strongRecOn with
    | _ t ih =>
      intro s g ht z0 z1 hf hl
      have gb1 : g 54 8 = v 0 := (hf _ _ (by omega)).trans b1
      by_cases hs : s < pw (v 0)
      · have hl0 := lo0_r (x := s) (by omega) (by omega)
        have hl1 := lo_lt ⟨hv0, hv8⟩ (by omega) hs
        have r1 := clr_r (s := s) (by omega) hl0 (lo0_b (by omega))
        have rT1 := tT_r hvB (n := 256) (s := clrI s (lo0 s)) (by omega) (by omega) (by omega) (by omega)
        have inner : ∀ (t2 : Nat) (o : Int) (g : Ci), (v 0 - o).toNat = t2 → (lo0 s + 1 ≤ o ∧ o ≤ v 0) → (∀ b k, ¬ b = 200 → g b k = mci M b k) → (∀ j, 0 ≤ j → j < s → g 200 j = tT v j) → (g 200 s = mxP v (tT v) s (o + 1).toNat) → WP G d mX1_allBest 47 [some (dR 0), some (dI s), some (dI (lo0 s)), some (dI o)] [] (wI M g) Q := by
          intro t2
          induction t2 using Nat.strongRecOn with
          | _ t2 ih2 =>
            intro o g ht2 o0 hf hl hx
            have gb1 : g 54 8 = v 0 := (hf _ _ (by omega)).trans b1
            have hCg : CI (wI M g) v n A hi vi tp sz fa N := (CO.o hC fun b k q1 q2 => hf b k (by omega)).1
            have es : mxP v (tT v) s (o + 1 + 1).toNat = if mxP v (tT v) s (o + 1).toNat ≤ cdP v (tT v) s o then cdP v (tT v) s o else mxP v (tT v) s (o + 1).toNat := by
              rw [show (o + 1 + 1).toNat = (o + 1).toNat + 1 by omega, mxP_s, show (((o + 1).toNat : Nat) : Int) - 1 = o by omega]
            have hm0 := (mxP_ge (v := v) (T := tT v) (s := s) (t := (o + 1).toNat)).1
            by_cases ho : o < v 0
            · have bo : bitI (clrI s (lo0 s)) o = bitI s o := by
                rw [clr_b (by omega) hl0 (by omega), if_neg (by omega)]
              have n1 := (hv.op (lo0 s) (by omega) (by omega)).1
              have n2 := (hv.op o (by omega) (by omega)).1
              have cut : ∀ (g' : Ci) (y : Int), (∀ b k, ¬ b = 200 → g' b k = mci M b k) → (∀ j, 0 ≤ j → j < s → g' 200 j = tT v j) → g' 200 s = mxP v (tT v) s (o + 1 + 1).toNat → WP G d mX1_allBest 47 [some (dR 0), some (dI s), some (dI (lo0 s)), some (dI (o + 1))] [] (wI M g') Q := fun g' y q1 q2 q3 => ih2 _ (by omega) (o + 1) g' rfl (by omega) q1 q2 q3
              by_cases hb : bitI s o = 1
              · have r2 := clr_r (s := clrI s (lo0 s)) (by omega) (k := o) (by omega) (bo.trans hb)
                have rT := tT_r hvB (n := 256) (s := clrI (clrI s (lo0 s)) o) (by omega) (by omega) (by omega) (by omega)
                have eT := hl (clrI (clrI s (lo0 s)) o) (by omega) (by omega)
                have rM : mxP v (tT v) s (o + 1).toNat ≤ 1000000 := by
                  rcases (mxP_ge (v := v) (T := tT v) (s := s) (t := (o + 1).toNat)).2.1 with q | ⟨o', q1, q2⟩
                  · omega
                  · have g9 := (mxP_ge (v := v) (T := tT v) (s := s) (t := (v 0).toNat + 1)).2.2 o' (by omega)
                    rw [← tT_e (by omega) (by omega), q2] at g9
                    have := tT_r hvB (n := 256) (s := s) (by omega) (by omega) (by omega) hs
                    omega
                refine x_iload_n dX1_allBest_47 rfl rfl ?_
                refine x_aload_n dX1_allBest_48 rfl rfl ?_
                refine g_getR (kI := 1) rfl dX1_allBest_49 fX1_22_1 (by first | assumption | first | assumption | (simp (disch := omega) only [shI, shR, shL, shC, shD, shW, sh_V, shN_e, shN_n, crI, crL, crC, crW, crV, crR_e, crR_n, crN_e, crN_n, ciR, ciL, ciD, ciN_e, ciN_n, rdI_e, rdI_n, rdC_i, rdC_o, rdW, rdU_e, rdU_n, rdLW, clI, clR, clC, clD, clW, clV, clN_e, clN_n, clL_e, clL_n]; done) | (simp (disch := omega) only [shI, shR, shL, shC, shD, shW, sh_V, shN_e, shN_n, crI, crL, crC, crW, crV, crR_e, crR_n, crN_e, crN_n, ciR, ciL, ciD, ciN_e, ciN_n, rdI_e, rdI_n, rdC_i, rdC_o, rdW, rdU_e, rdU_n, rdLW, clI, clR, clC, clD, clW, clV, clN_e, clN_n, clL_e, clL_n] <;> first | assumption | rfl | omega)) (by first | assumption | first | assumption | (simp (disch := omega) only [shI, shR, shL, shC, shD, shW, sh_V, shN_e, shN_n, crI, crL, crC, crW, crV, crR_e, crR_n, crN_e, crN_n, ciR, ciL, ciD, ciN_e, ciN_n, rdI_e, rdI_n, rdC_i, rdC_o, rdW, rdU_e, rdU_n, rdLW, clI, clR, clC, clD, clW, clV, clN_e, clN_n, clL_e, clL_n]; done) | (simp (disch := omega) only [shI, shR, shL, shC, shD, shW, sh_V, shN_e, shN_n, crI, crL, crC, crW, crV, crR_e, crR_n, crN_e, crN_n, ciR, ciL, ciD, ciN_e, ciN_n, rdI_e, rdI_n, rdC_i, rdC_o, rdW, rdU_e, rdU_n, rdLW, clI, clR, clC, clD, clW, clV, clN_e, clN_n, clL_e, clL_n] <;> first | assumption | rfl | omega)) ?_
                refine g_getI (kI := 8) rfl dX1_allBest_52 fX1_101_3 (by first | assumption | first | assumption | (simp (disch := omega) only [shI, shR, shL, shC, shD, shW, sh_V, shN_e, shN_n, crI, crL, crC, crW, crV, crR_e, crR_n, crN_e, crN_n, ciR, ciL, ciD, ciN_e, ciN_n, rdI_e, rdI_n, rdC_i, rdC_o, rdW, rdU_e, rdU_n, rdLW, clI, clR, clC, clD, clW, clV, clN_e, clN_n, clL_e, clL_n]; done) | (simp (disch := omega) only [shI, shR, shL, shC, shD, shW, sh_V, shN_e, shN_n, crI, crL, crC, crW, crV, crR_e, crR_n, crN_e, crN_n, ciR, ciL, ciD, ciN_e, ciN_n, rdI_e, rdI_n, rdC_i, rdC_o, rdW, rdU_e, rdU_n, rdLW, clI, clR, clC, clD, clW, clV, clN_e, clN_n, clL_e, clL_n] <;> first | assumption | rfl | omega)) ?_
                try simp (disch := omega) only [rdI_e, rdI_n, rdC_i, rdC_o, rdW, rdR, rdU_e, rdU_n, rdLW, Int.add_zero, gb1, hx, eT]
                refine x_icmp_ge (tgt := 120) dX1_allBest_55 (by decide) (fun h55 => ?_) (fun h55 => ?_)
                · omega
                · refine x_iload_n dX1_allBest_58 rfl rfl ?_
                  refine x_iload_n dX1_allBest_59 rfl rfl ?_
                  refine x_ishr dX1_allBest_60 ?_
                  refine x_iconst dX1_allBest_61 rfl ?_
                  refine x_iand dX1_allBest_62 ?_
                  rw [has_e (show i32 s from ⟨by omega, by omega⟩) (by omega)]
                  refine x_iconst dX1_allBest_63 rfl ?_
                  refine x_icmp_ne (tgt := 114) dX1_allBest_64 (by decide) (fun h64 => ?_) (fun h64 => ?_)
                  · exact absurd hb h64
                  · refine x_aload_n dX1_allBest_67 rfl rfl ?_
                    refine x_iload_n dX1_allBest_68 rfl rfl ?_
                    refine x_iload_n dX1_allBest_69 rfl rfl ?_
                    refine g_callI (vs := [_, _, _]) (d' := d - 1) rfl (s_X1_areClashing (M := wI M g) (by omega) hCg (by omega) (by omega)) dX1_allBest_70 kX1_385 (by omega) (by decide) rfl (Nat.le_of_ble_eq_true rfl) (rcv_o (by first | assumption | first | assumption | (simp (disch := omega) only [shI, shR, shL, shC, shD, shW, sh_V, shN_e, shN_n, crI, crL, crC, crW, crV, crR_e, crR_n, crN_e, crN_n, ciR, ciL, ciD, ciN_e, ciN_n, rdI_e, rdI_n, rdC_i, rdC_o, rdW, rdU_e, rdU_n, rdLW, clI, clR, clC, clD, clW, clV, clN_e, clN_n, clL_e, clL_n]; done) | (simp (disch := omega) only [shI, shR, shL, shC, shD, shW, sh_V, shN_e, shN_n, crI, crL, crC, crW, crV, crR_e, crR_n, crN_e, crN_n, ciR, ciL, ciD, ciN_e, ciN_n, rdI_e, rdI_n, rdC_i, rdC_o, rdW, rdU_e, rdU_n, rdLW, clI, clR, clC, clD, clW, clV, clN_e, clN_n, clL_e, clL_n] <;> first | assumption | rfl | omega)) rfl) (fun x70 M70 h70 => ?_)
                    obtain ⟨e70, f70⟩ := h70
                    have f70' := f70.symm
                    subst f70'
                    subst e70
                    try simp (disch := omega) only [rdI_e, rdI_n, rdC_i, rdC_o, rdW, rdR, rdU_e, rdU_n, rdLW, Int.add_zero, gb1, hx, eT]
                    refine x_if_ne (tgt := 114) dX1_allBest_73 (by decide) (fun h73 => ?_) (fun h73 => ?_)
                    · try simp only [vP_0, vP_1, vP_n0, vP_n1, Classical.not_not] at h73
                      first | refine x_iincN (L' := [some _, some _, some _, some _]) dX1_allBest_114 rfl (by decide) (by unfold i32; omega) rfl ?_ | refine x_iinc (L' := [some _, some _, some _, some _]) dX1_allBest_114 rfl (by decide) rfl ?_
                      refine x_goto (tgt := 47) dX1_allBest_117 (by decide) ?_
                      first
                      | (refine cut g 0 hf hl ?_
                         rw [es, hx]
                         have ec : cdP v (tT v) s o = -1 := by
                           unfold cdP
                           rw [if_neg (by omega), if_neg fun q => q.2 h73]
                         rw [ec, if_neg (by omega)])
                      | (refine WP.mem (M1 := wI M (up g 200 s x110)) rfl (cut (up g 200 s x110) 0 (fun b k q => (rdU_n (by omega)).trans (hf b k q)) (fun j j0 j1 => (rdU_n (by omega)).trans (hl j j0 j1)) ?_)
                         rw [rdU_e ⟨rfl, rfl⟩, es]
                         have ec : cdP v (tT v) s o = opN v (lo0 s) + opN v o + tT v (clrI (clrI s (lo0 s)) o) := by
                           unfold cdP
                           rw [if_neg (by omega), if_pos ⟨bo.trans hb, h73⟩]
                         rw [ec]
                         split <;> omega)
                    · try simp only [vP_0, vP_1, vP_n0, vP_n1, Classical.not_not] at h73
                      refine x_aload_n dX1_allBest_76 rfl rfl ?_
                      refine g_getR (kI := 10) rfl dX1_allBest_77 fX1_56_1 (by first | assumption | first | assumption | (simp (disch := omega) only [shI, shR, shL, shC, shD, shW, sh_V, shN_e, shN_n, crI, crL, crC, crW, crV, crR_e, crR_n, crN_e, crN_n, ciR, ciL, ciD, ciN_e, ciN_n, rdI_e, rdI_n, rdC_i, rdC_o, rdW, rdU_e, rdU_n, rdLW, clI, clR, clC, clD, clW, clV, clN_e, clN_n, clL_e, clL_n]; done) | (simp (disch := omega) only [shI, shR, shL, shC, shD, shW, sh_V, shN_e, shN_n, crI, crL, crC, crW, crV, crR_e, crR_n, crN_e, crN_n, ciR, ciL, ciD, ciN_e, ciN_n, rdI_e, rdI_n, rdC_i, rdC_o, rdW, rdU_e, rdU_n, rdLW, clI, clR, clC, clD, clW, clV, clN_e, clN_n, clL_e, clL_n] <;> first | assumption | rfl | omega)) (by first | assumption | first | assumption | (simp (disch := omega) only [shI, shR, shL, shC, shD, shW, sh_V, shN_e, shN_n, crI, crL, crC, crW, crV, crR_e, crR_n, crN_e, crN_n, ciR, ciL, ciD, ciN_e, ciN_n, rdI_e, rdI_n, rdC_i, rdC_o, rdW, rdU_e, rdU_n, rdLW, clI, clR, clC, clD, clW, clV, clN_e, clN_n, clL_e, clL_n]; done) | (simp (disch := omega) only [shI, shR, shL, shC, shD, shW, sh_V, shN_e, shN_n, crI, crL, crC, crW, crV, crR_e, crR_n, crN_e, crN_n, ciR, ciL, ciD, ciN_e, ciN_n, rdI_e, rdI_n, rdC_i, rdC_o, rdW, rdU_e, rdU_n, rdLW, clI, clR, clC, clD, clW, clV, clN_e, clN_n, clL_e, clL_n] <;> first | assumption | rfl | omega)) ?_
                      refine x_iload_n dX1_allBest_80 rfl rfl ?_
                      refine x_aload_n dX1_allBest_81 rfl rfl ?_
                      refine g_getR (kI := 10) rfl dX1_allBest_82 fX1_56_1 (by first | assumption | first | assumption | (simp (disch := omega) only [shI, shR, shL, shC, shD, shW, sh_V, shN_e, shN_n, crI, crL, crC, crW, crV, crR_e, crR_n, crN_e, crN_n, ciR, ciL, ciD, ciN_e, ciN_n, rdI_e, rdI_n, rdC_i, rdC_o, rdW, rdU_e, rdU_n, rdLW, clI, clR, clC, clD, clW, clV, clN_e, clN_n, clL_e, clL_n]; done) | (simp (disch := omega) only [shI, shR, shL, shC, shD, shW, sh_V, shN_e, shN_n, crI, crL, crC, crW, crV, crR_e, crR_n, crN_e, crN_n, ciR, ciL, ciD, ciN_e, ciN_n, rdI_e, rdI_n, rdC_i, rdC_o, rdW, rdU_e, rdU_n, rdLW, clI, clR, clC, clD, clW, clV, clN_e, clN_n, clL_e, clL_n] <;> first | assumption | rfl | omega)) (by first | assumption | first | assumption | (simp (disch := omega) only [shI, shR, shL, shC, shD, shW, sh_V, shN_e, shN_n, crI, crL, crC, crW, crV, crR_e, crR_n, crN_e, crN_n, ciR, ciL, ciD, ciN_e, ciN_n, rdI_e, rdI_n, rdC_i, rdC_o, rdW, rdU_e, rdU_n, rdLW, clI, clR, clC, clD, clW, clV, clN_e, clN_n, clL_e, clL_n]; done) | (simp (disch := omega) only [shI, shR, shL, shC, shD, shW, sh_V, shN_e, shN_n, crI, crL, crC, crW, crV, crR_e, crR_n, crN_e, crN_n, ciR, ciL, ciD, ciN_e, ciN_n, rdI_e, rdI_n, rdC_i, rdC_o, rdW, rdU_e, rdU_n, rdLW, clI, clR, clC, clD, clW, clV, clN_e, clN_n, clL_e, clL_n] <;> first | assumption | rfl | omega)) ?_
                      refine x_iload_n dX1_allBest_85 rfl rfl ?_
                      refine x_iald dX1_allBest_86 (by first | assumption | first | assumption | (simp (disch := omega) only [shI, shR, shL, shC, shD, shW, sh_V, shN_e, shN_n, crI, crL, crC, crW, crV, crR_e, crR_n, crN_e, crN_n, ciR, ciL, ciD, ciN_e, ciN_n, rdI_e, rdI_n, rdC_i, rdC_o, rdW, rdU_e, rdU_n, rdLW, clI, clR, clC, clD, clW, clV, clN_e, clN_n, clL_e, clL_n]; done) | (simp (disch := omega) only [shI, shR, shL, shC, shD, shW, sh_V, shN_e, shN_n, crI, crL, crC, crW, crV, crR_e, crR_n, crN_e, crN_n, ciR, ciL, ciD, ciN_e, ciN_n, rdI_e, rdI_n, rdC_i, rdC_o, rdW, rdU_e, rdU_n, rdLW, clI, clR, clC, clD, clW, clV, clN_e, clN_n, clL_e, clL_n] <;> first | assumption | rfl | omega)) (by omega) (by omega) ?_
                      try simp (disch := omega) only [rdI_e, rdI_n, rdC_i, rdC_o, rdW, rdR, rdU_e, rdU_n, rdLW, Int.add_zero, gb1, hx, eT]
                      refine x_aload_n dX1_allBest_87 rfl rfl ?_
                      refine x_iload_n dX1_allBest_88 rfl rfl ?_
                      refine x_iload_n dX1_allBest_89 rfl rfl ?_
                      refine g_callI (vs := [_, _, _]) (d' := d - 1) rfl (s_X1_sizes (M := wI M g) (by omega) hCg (by omega) (by omega)) dX1_allBest_90 kX1_412 (by omega) (by decide) rfl (Nat.le_of_ble_eq_true rfl) (rcv_o (by first | assumption | first | assumption | (simp (disch := omega) only [shI, shR, shL, shC, shD, shW, sh_V, shN_e, shN_n, crI, crL, crC, crW, crV, crR_e, crR_n, crN_e, crN_n, ciR, ciL, ciD, ciN_e, ciN_n, rdI_e, rdI_n, rdC_i, rdC_o, rdW, rdU_e, rdU_n, rdLW, clI, clR, clC, clD, clW, clV, clN_e, clN_n, clL_e, clL_n]; done) | (simp (disch := omega) only [shI, shR, shL, shC, shD, shW, sh_V, shN_e, shN_n, crI, crL, crC, crW, crV, crR_e, crR_n, crN_e, crN_n, ciR, ciL, ciD, ciN_e, ciN_n, rdI_e, rdI_n, rdC_i, rdC_o, rdW, rdU_e, rdU_n, rdLW, clI, clR, clC, clD, clW, clV, clN_e, clN_n, clL_e, clL_n] <;> first | assumption | rfl | omega)) rfl) (fun x90 M90 h90 => ?_)
                      obtain ⟨e90, f90⟩ := h90
                      have f90' := f90.symm
                      subst f90'
                      subst e90
                      try simp (disch := omega) only [rdI_e, rdI_n, rdC_i, rdC_o, rdW, rdR, rdU_e, rdU_n, rdLW, Int.add_zero, gb1, hx, eT]
                      refine x_aload_n dX1_allBest_93 rfl rfl ?_
                      refine g_getR (kI := 10) rfl dX1_allBest_94 fX1_56_1 (by first | assumption | first | assumption | (simp (disch := omega) only [shI, shR, shL, shC, shD, shW, sh_V, shN_e, shN_n, crI, crL, crC, crW, crV, crR_e, crR_n, crN_e, crN_n, ciR, ciL, ciD, ciN_e, ciN_n, rdI_e, rdI_n, rdC_i, rdC_o, rdW, rdU_e, rdU_n, rdLW, clI, clR, clC, clD, clW, clV, clN_e, clN_n, clL_e, clL_n]; done) | (simp (disch := omega) only [shI, shR, shL, shC, shD, shW, sh_V, shN_e, shN_n, crI, crL, crC, crW, crV, crR_e, crR_n, crN_e, crN_n, ciR, ciL, ciD, ciN_e, ciN_n, rdI_e, rdI_n, rdC_i, rdC_o, rdW, rdU_e, rdU_n, rdLW, clI, clR, clC, clD, clW, clV, clN_e, clN_n, clL_e, clL_n] <;> first | assumption | rfl | omega)) (by first | assumption | first | assumption | (simp (disch := omega) only [shI, shR, shL, shC, shD, shW, sh_V, shN_e, shN_n, crI, crL, crC, crW, crV, crR_e, crR_n, crN_e, crN_n, ciR, ciL, ciD, ciN_e, ciN_n, rdI_e, rdI_n, rdC_i, rdC_o, rdW, rdU_e, rdU_n, rdLW, clI, clR, clC, clD, clW, clV, clN_e, clN_n, clL_e, clL_n]; done) | (simp (disch := omega) only [shI, shR, shL, shC, shD, shW, sh_V, shN_e, shN_n, crI, crL, crC, crW, crV, crR_e, crR_n, crN_e, crN_n, ciR, ciL, ciD, ciN_e, ciN_n, rdI_e, rdI_n, rdC_i, rdC_o, rdW, rdU_e, rdU_n, rdLW, clI, clR, clC, clD, clW, clV, clN_e, clN_n, clL_e, clL_n] <;> first | assumption | rfl | omega)) ?_
                      refine x_iload_n dX1_allBest_97 rfl rfl ?_
                      refine x_iconst dX1_allBest_98 rfl ?_
                      refine x_iload_n dX1_allBest_99 rfl rfl ?_
                      refine x_ishl dX1_allBest_100 ?_
                      refine x_iconst dX1_allBest_101 rfl ?_
                      refine x_iload_n dX1_allBest_102 rfl rfl ?_
                      refine x_ishl dX1_allBest_103 ?_
                      rw [jshl_1 (by omega), jshl_1 (by omega)]
                      refine x_ior dX1_allBest_104 ?_
                      refine x_iconst dX1_allBest_105 rfl ?_
                      refine x_ixor dX1_allBest_106 ?_
                      refine x_iand dX1_allBest_107 ?_
                      rw [two1 (by omega) (by omega) (by omega) (by omega)]
                      refine x_iald dX1_allBest_108 (by first | assumption | first | assumption | (simp (disch := omega) only [shI, shR, shL, shC, shD, shW, sh_V, shN_e, shN_n, crI, crL, crC, crW, crV, crR_e, crR_n, crN_e, crN_n, ciR, ciL, ciD, ciN_e, ciN_n, rdI_e, rdI_n, rdC_i, rdC_o, rdW, rdU_e, rdU_n, rdLW, clI, clR, clC, clD, clW, clV, clN_e, clN_n, clL_e, clL_n]; done) | (simp (disch := omega) only [shI, shR, shL, shC, shD, shW, sh_V, shN_e, shN_n, crI, crL, crC, crW, crV, crR_e, crR_n, crN_e, crN_n, ciR, ciL, ciD, ciN_e, ciN_n, rdI_e, rdI_n, rdC_i, rdC_o, rdW, rdU_e, rdU_n, rdLW, clI, clR, clC, clD, clW, clV, clN_e, clN_n, clL_e, clL_n] <;> first | assumption | rfl | omega)) (by omega) (by omega) ?_
                      try simp (disch := omega) only [rdI_e, rdI_n, rdC_i, rdC_o, rdW, rdR, rdU_e, rdU_n, rdLW, Int.add_zero, gb1, hx, eT]
                      first | refine x_iaddN dX1_allBest_109 (by unfold i32; omega) ?_ | refine x_iadd dX1_allBest_109 ?_
                      refine g_callI (vs := [_, _]) (d' := d - 1) rfl (s_max (by omega)) dX1_allBest_110 kX1_335 (by omega) (by decide) rfl (Nat.le_of_ble_eq_true rfl) (rcv_n) (fun x110 M110 h110 => ?_)
                      obtain ⟨e110, f110⟩ := h110
                      have f110' := f110.symm
                      subst f110'
                      refine x_iast (by omega) dX1_allBest_113 (by first | assumption | first | assumption | (simp (disch := omega) only [shI, shR, shL, shC, shD, shW, sh_V, shN_e, shN_n, crI, crL, crC, crW, crV, crR_e, crR_n, crN_e, crN_n, ciR, ciL, ciD, ciN_e, ciN_n, rdI_e, rdI_n, rdC_i, rdC_o, rdW, rdU_e, rdU_n, rdLW, clI, clR, clC, clD, clW, clV, clN_e, clN_n, clL_e, clL_n]; done) | (simp (disch := omega) only [shI, shR, shL, shC, shD, shW, sh_V, shN_e, shN_n, crI, crL, crC, crW, crV, crR_e, crR_n, crN_e, crN_n, ciR, ciL, ciD, ciN_e, ciN_n, rdI_e, rdI_n, rdC_i, rdC_o, rdW, rdU_e, rdU_n, rdLW, clI, clR, clC, clD, clW, clV, clN_e, clN_n, clL_e, clL_n] <;> first | assumption | rfl | omega)) (by omega) (by omega) ?_
                      first | refine x_iincN (L' := [some _, some _, some _, some _]) dX1_allBest_114 rfl (by decide) (by unfold i32; omega) rfl ?_ | refine x_iinc (L' := [some _, some _, some _, some _]) dX1_allBest_114 rfl (by decide) rfl ?_
                      refine x_goto (tgt := 47) dX1_allBest_117 (by decide) ?_
                      first
                      | (refine cut g 0 hf hl ?_
                         rw [es, hx]
                         have ec : cdP v (tT v) s o = -1 := by
                           unfold cdP
                           rw [if_neg (by omega), if_neg fun q => q.2 h73]
                         rw [ec, if_neg (by omega)])
                      | (refine WP.mem (M1 := wI M (up g 200 s x110)) rfl (cut (up g 200 s x110) 0 (fun b k q => (rdU_n (by omega)).trans (hf b k q)) (fun j j0 j1 => (rdU_n (by omega)).trans (hl j j0 j1)) ?_)
                         rw [rdU_e ⟨rfl, rfl⟩, es]
                         have ec : cdP v (tT v) s o = opN v (lo0 s) + opN v o + tT v (clrI (clrI s (lo0 s)) o) := by
                           unfold cdP
                           rw [if_neg (by omega), if_pos ⟨bo.trans hb, h73⟩]
                         rw [ec]
                         split <;> omega)
              · refine x_iload_n dX1_allBest_47 rfl rfl ?_
                refine x_aload_n dX1_allBest_48 rfl rfl ?_
                refine g_getR (kI := 1) rfl dX1_allBest_49 fX1_22_1 (by first | assumption | first | assumption | (simp (disch := omega) only [shI, shR, shL, shC, shD, shW, sh_V, shN_e, shN_n, crI, crL, crC, crW, crV, crR_e, crR_n, crN_e, crN_n, ciR, ciL, ciD, ciN_e, ciN_n, rdI_e, rdI_n, rdC_i, rdC_o, rdW, rdU_e, rdU_n, rdLW, clI, clR, clC, clD, clW, clV, clN_e, clN_n, clL_e, clL_n]; done) | (simp (disch := omega) only [shI, shR, shL, shC, shD, shW, sh_V, shN_e, shN_n, crI, crL, crC, crW, crV, crR_e, crR_n, crN_e, crN_n, ciR, ciL, ciD, ciN_e, ciN_n, rdI_e, rdI_n, rdC_i, rdC_o, rdW, rdU_e, rdU_n, rdLW, clI, clR, clC, clD, clW, clV, clN_e, clN_n, clL_e, clL_n] <;> first | assumption | rfl | omega)) (by first | assumption | first | assumption | (simp (disch := omega) only [shI, shR, shL, shC, shD, shW, sh_V, shN_e, shN_n, crI, crL, crC, crW, crV, crR_e, crR_n, crN_e, crN_n, ciR, ciL, ciD, ciN_e, ciN_n, rdI_e, rdI_n, rdC_i, rdC_o, rdW, rdU_e, rdU_n, rdLW, clI, clR, clC, clD, clW, clV, clN_e, clN_n, clL_e, clL_n]; done) | (simp (disch := omega) only [shI, shR, shL, shC, shD, shW, sh_V, shN_e, shN_n, crI, crL, crC, crW, crV, crR_e, crR_n, crN_e, crN_n, ciR, ciL, ciD, ciN_e, ciN_n, rdI_e, rdI_n, rdC_i, rdC_o, rdW, rdU_e, rdU_n, rdLW, clI, clR, clC, clD, clW, clV, clN_e, clN_n, clL_e, clL_n] <;> first | assumption | rfl | omega)) ?_
                refine g_getI (kI := 8) rfl dX1_allBest_52 fX1_101_3 (by first | assumption | first | assumption | (simp (disch := omega) only [shI, shR, shL, shC, shD, shW, sh_V, shN_e, shN_n, crI, crL, crC, crW, crV, crR_e, crR_n, crN_e, crN_n, ciR, ciL, ciD, ciN_e, ciN_n, rdI_e, rdI_n, rdC_i, rdC_o, rdW, rdU_e, rdU_n, rdLW, clI, clR, clC, clD, clW, clV, clN_e, clN_n, clL_e, clL_n]; done) | (simp (disch := omega) only [shI, shR, shL, shC, shD, shW, sh_V, shN_e, shN_n, crI, crL, crC, crW, crV, crR_e, crR_n, crN_e, crN_n, ciR, ciL, ciD, ciN_e, ciN_n, rdI_e, rdI_n, rdC_i, rdC_o, rdW, rdU_e, rdU_n, rdLW, clI, clR, clC, clD, clW, clV, clN_e, clN_n, clL_e, clL_n] <;> first | assumption | rfl | omega)) ?_
                try simp (disch := omega) only [rdI_e, rdI_n, rdC_i, rdC_o, rdW, rdR, rdU_e, rdU_n, rdLW, Int.add_zero, gb1]
                refine x_icmp_ge (tgt := 120) dX1_allBest_55 (by decide) (fun h55 => ?_) (fun h55 => ?_)
                · omega
                · refine x_iload_n dX1_allBest_58 rfl rfl ?_
                  refine x_iload_n dX1_allBest_59 rfl rfl ?_
                  refine x_ishr dX1_allBest_60 ?_
                  refine x_iconst dX1_allBest_61 rfl ?_
                  refine x_iand dX1_allBest_62 ?_
                  rw [has_e (show i32 s from ⟨by omega, by omega⟩) (by omega)]
                  refine x_iconst dX1_allBest_63 rfl ?_
                  refine x_icmp_ne (tgt := 114) dX1_allBest_64 (by decide) (fun h64 => ?_) (fun h64 => ?_)
                  · first | refine x_iincN (L' := [some _, some _, some _, some _]) dX1_allBest_114 rfl (by decide) (by unfold i32; omega) rfl ?_ | refine x_iinc (L' := [some _, some _, some _, some _]) dX1_allBest_114 rfl (by decide) rfl ?_
                    refine x_goto (tgt := 47) dX1_allBest_117 (by decide) ?_
                    refine cut g 0 hf hl ?_
                    rw [es, hx]
                    have ec : cdP v (tT v) s o = -1 := by
                      unfold cdP
                      rw [if_neg (by omega), if_neg fun q => hb (bo.symm.trans q.1)]
                    rw [ec, if_neg (by omega)]
                  · exact absurd h64 hb
            · refine x_iload_n dX1_allBest_47 rfl rfl ?_
              refine x_aload_n dX1_allBest_48 rfl rfl ?_
              refine g_getR (kI := 1) rfl dX1_allBest_49 fX1_22_1 (by first | assumption | first | assumption | (simp (disch := omega) only [shI, shR, shL, shC, shD, shW, sh_V, shN_e, shN_n, crI, crL, crC, crW, crV, crR_e, crR_n, crN_e, crN_n, ciR, ciL, ciD, ciN_e, ciN_n, rdI_e, rdI_n, rdC_i, rdC_o, rdW, rdU_e, rdU_n, rdLW, clI, clR, clC, clD, clW, clV, clN_e, clN_n, clL_e, clL_n]; done) | (simp (disch := omega) only [shI, shR, shL, shC, shD, shW, sh_V, shN_e, shN_n, crI, crL, crC, crW, crV, crR_e, crR_n, crN_e, crN_n, ciR, ciL, ciD, ciN_e, ciN_n, rdI_e, rdI_n, rdC_i, rdC_o, rdW, rdU_e, rdU_n, rdLW, clI, clR, clC, clD, clW, clV, clN_e, clN_n, clL_e, clL_n] <;> first | assumption | rfl | omega)) (by first | assumption | first | assumption | (simp (disch := omega) only [shI, shR, shL, shC, shD, shW, sh_V, shN_e, shN_n, crI, crL, crC, crW, crV, crR_e, crR_n, crN_e, crN_n, ciR, ciL, ciD, ciN_e, ciN_n, rdI_e, rdI_n, rdC_i, rdC_o, rdW, rdU_e, rdU_n, rdLW, clI, clR, clC, clD, clW, clV, clN_e, clN_n, clL_e, clL_n]; done) | (simp (disch := omega) only [shI, shR, shL, shC, shD, shW, sh_V, shN_e, shN_n, crI, crL, crC, crW, crV, crR_e, crR_n, crN_e, crN_n, ciR, ciL, ciD, ciN_e, ciN_n, rdI_e, rdI_n, rdC_i, rdC_o, rdW, rdU_e, rdU_n, rdLW, clI, clR, clC, clD, clW, clV, clN_e, clN_n, clL_e, clL_n] <;> first | assumption | rfl | omega)) ?_
              refine g_getI (kI := 8) rfl dX1_allBest_52 fX1_101_3 (by first | assumption | first | assumption | (simp (disch := omega) only [shI, shR, shL, shC, shD, shW, sh_V, shN_e, shN_n, crI, crL, crC, crW, crV, crR_e, crR_n, crN_e, crN_n, ciR, ciL, ciD, ciN_e, ciN_n, rdI_e, rdI_n, rdC_i, rdC_o, rdW, rdU_e, rdU_n, rdLW, clI, clR, clC, clD, clW, clV, clN_e, clN_n, clL_e, clL_n]; done) | (simp (disch := omega) only [shI, shR, shL, shC, shD, shW, sh_V, shN_e, shN_n, crI, crL, crC, crW, crV, crR_e, crR_n, crN_e, crN_n, ciR, ciL, ciD, ciN_e, ciN_n, rdI_e, rdI_n, rdC_i, rdC_o, rdW, rdU_e, rdU_n, rdLW, clI, clR, clC, clD, clW, clV, clN_e, clN_n, clL_e, clL_n] <;> first | assumption | rfl | omega)) ?_
              try simp (disch := omega) only [rdI_e, rdI_n, rdC_i, rdC_o, rdW, rdR, rdU_e, rdU_n, rdLW, Int.add_zero, gb1]
              refine x_icmp_ge (tgt := 120) dX1_allBest_55 (by decide) (fun h55 => ?_) (fun h55 => ?_)
              · first | refine x_iincN (L' := [some _, some _, some _, some _]) dX1_allBest_120 rfl (by decide) (by unfold i32; omega) rfl ?_ | refine x_iinc (L' := [some _, some _, some _, some _]) dX1_allBest_120 rfl (by decide) rfl ?_
                refine x_goto (tgt := 9) dX1_allBest_123 (by decide) ?_
                refine x_fgt (by repeat (first | exact trivial | refine ⟨rfl, ?_⟩)) (ih _ (by omega) (s + 1) g rfl (by omega) (by omega) hf fun j j0 j1 => ?_)
                by_cases e : j = s
                · subst e
                  rw [hx, tT_e (by omega) (by omega)]
                  congr 1
                  omega
                · exact hl j j0 (by omega)
              · omega
        have eT := hl (clrI s (lo0 s)) (by omega) (by omega)
        refine x_iload_n dX1_allBest_9 rfl rfl ?_
        refine x_iconst dX1_allBest_10 rfl ?_
        refine x_aload_n dX1_allBest_11 rfl rfl ?_
        refine g_getR (kI := 1) rfl dX1_allBest_12 fX1_22_1 (by first | assumption | first | assumption | (simp (disch := omega) only [shI, shR, shL, shC, shD, shW, sh_V, shN_e, shN_n, crI, crL, crC, crW, crV, crR_e, crR_n, crN_e, crN_n, ciR, ciL, ciD, ciN_e, ciN_n, rdI_e, rdI_n, rdC_i, rdC_o, rdW, rdU_e, rdU_n, rdLW, clI, clR, clC, clD, clW, clV, clN_e, clN_n, clL_e, clL_n]; done) | (simp (disch := omega) only [shI, shR, shL, shC, shD, shW, sh_V, shN_e, shN_n, crI, crL, crC, crW, crV, crR_e, crR_n, crN_e, crN_n, ciR, ciL, ciD, ciN_e, ciN_n, rdI_e, rdI_n, rdC_i, rdC_o, rdW, rdU_e, rdU_n, rdLW, clI, clR, clC, clD, clW, clV, clN_e, clN_n, clL_e, clL_n] <;> first | assumption | rfl | omega)) (by first | assumption | first | assumption | (simp (disch := omega) only [shI, shR, shL, shC, shD, shW, sh_V, shN_e, shN_n, crI, crL, crC, crW, crV, crR_e, crR_n, crN_e, crN_n, ciR, ciL, ciD, ciN_e, ciN_n, rdI_e, rdI_n, rdC_i, rdC_o, rdW, rdU_e, rdU_n, rdLW, clI, clR, clC, clD, clW, clV, clN_e, clN_n, clL_e, clL_n]; done) | (simp (disch := omega) only [shI, shR, shL, shC, shD, shW, sh_V, shN_e, shN_n, crI, crL, crC, crW, crV, crR_e, crR_n, crN_e, crN_n, ciR, ciL, ciD, ciN_e, ciN_n, rdI_e, rdI_n, rdC_i, rdC_o, rdW, rdU_e, rdU_n, rdLW, clI, clR, clC, clD, clW, clV, clN_e, clN_n, clL_e, clL_n] <;> first | assumption | rfl | omega)) ?_
        refine g_getI (kI := 8) rfl dX1_allBest_15 fX1_101_3 (by first | assumption | first | assumption | (simp (disch := omega) only [shI, shR, shL, shC, shD, shW, sh_V, shN_e, shN_n, crI, crL, crC, crW, crV, crR_e, crR_n, crN_e, crN_n, ciR, ciL, ciD, ciN_e, ciN_n, rdI_e, rdI_n, rdC_i, rdC_o, rdW, rdU_e, rdU_n, rdLW, clI, clR, clC, clD, clW, clV, clN_e, clN_n, clL_e, clL_n]; done) | (simp (disch := omega) only [shI, shR, shL, shC, shD, shW, sh_V, shN_e, shN_n, crI, crL, crC, crW, crV, crR_e, crR_n, crN_e, crN_n, ciR, ciL, ciD, ciN_e, ciN_n, rdI_e, rdI_n, rdC_i, rdC_o, rdW, rdU_e, rdU_n, rdLW, clI, clR, clC, clD, clW, clV, clN_e, clN_n, clL_e, clL_n] <;> first | assumption | rfl | omega)) ?_
        try simp (disch := omega) only [rdI_e, rdI_n, rdC_i, rdC_o, rdW, rdR, rdU_e, rdU_n, rdLW, Int.add_zero, gb1, eT]
        refine x_ishl dX1_allBest_18 ?_
        rw [jshl_1 (by omega)]
        refine x_icmp_ge (tgt := 126) dX1_allBest_19 (by decide) (fun h19 => ?_) (fun h19 => ?_)
        · omega
        · refine x_iload_n dX1_allBest_22 rfl rfl ?_
          refine g_callI (vs := [_]) (d' := d - 1) rfl (s_ntz (by omega) (by omega)) dX1_allBest_23 kX1_409 (by omega) (by decide) rfl (Nat.le_of_ble_eq_true rfl) (rcv_n) (fun x23 M23 h23 => ?_)
          obtain ⟨e23, f23⟩ := h23
          have f23' := f23.symm
          subst f23'
          subst e23
          try simp (disch := omega) only [rdI_e, rdI_n, rdC_i, rdC_o, rdW, rdR, rdU_e, rdU_n, rdLW, Int.add_zero, gb1, eT]
          refine x_istore_n (L' := [some _, some _, some _, none]) dX1_allBest_26 rfl (by decide) rfl ?_
          refine x_aload_n dX1_allBest_27 rfl rfl ?_
          refine g_getR (kI := 10) rfl dX1_allBest_28 fX1_56_1 (by first | assumption | first | assumption | (simp (disch := omega) only [shI, shR, shL, shC, shD, shW, sh_V, shN_e, shN_n, crI, crL, crC, crW, crV, crR_e, crR_n, crN_e, crN_n, ciR, ciL, ciD, ciN_e, ciN_n, rdI_e, rdI_n, rdC_i, rdC_o, rdW, rdU_e, rdU_n, rdLW, clI, clR, clC, clD, clW, clV, clN_e, clN_n, clL_e, clL_n]; done) | (simp (disch := omega) only [shI, shR, shL, shC, shD, shW, sh_V, shN_e, shN_n, crI, crL, crC, crW, crV, crR_e, crR_n, crN_e, crN_n, ciR, ciL, ciD, ciN_e, ciN_n, rdI_e, rdI_n, rdC_i, rdC_o, rdW, rdU_e, rdU_n, rdLW, clI, clR, clC, clD, clW, clV, clN_e, clN_n, clL_e, clL_n] <;> first | assumption | rfl | omega)) (by first | assumption | first | assumption | (simp (disch := omega) only [shI, shR, shL, shC, shD, shW, sh_V, shN_e, shN_n, crI, crL, crC, crW, crV, crR_e, crR_n, crN_e, crN_n, ciR, ciL, ciD, ciN_e, ciN_n, rdI_e, rdI_n, rdC_i, rdC_o, rdW, rdU_e, rdU_n, rdLW, clI, clR, clC, clD, clW, clV, clN_e, clN_n, clL_e, clL_n]; done) | (simp (disch := omega) only [shI, shR, shL, shC, shD, shW, sh_V, shN_e, shN_n, crI, crL, crC, crW, crV, crR_e, crR_n, crN_e, crN_n, ciR, ciL, ciD, ciN_e, ciN_n, rdI_e, rdI_n, rdC_i, rdC_o, rdW, rdU_e, rdU_n, rdLW, clI, clR, clC, clD, clW, clV, clN_e, clN_n, clL_e, clL_n] <;> first | assumption | rfl | omega)) ?_
          refine x_iload_n dX1_allBest_31 rfl rfl ?_
          refine x_aload_n dX1_allBest_32 rfl rfl ?_
          refine g_getR (kI := 10) rfl dX1_allBest_33 fX1_56_1 (by first | assumption | first | assumption | (simp (disch := omega) only [shI, shR, shL, shC, shD, shW, sh_V, shN_e, shN_n, crI, crL, crC, crW, crV, crR_e, crR_n, crN_e, crN_n, ciR, ciL, ciD, ciN_e, ciN_n, rdI_e, rdI_n, rdC_i, rdC_o, rdW, rdU_e, rdU_n, rdLW, clI, clR, clC, clD, clW, clV, clN_e, clN_n, clL_e, clL_n]; done) | (simp (disch := omega) only [shI, shR, shL, shC, shD, shW, sh_V, shN_e, shN_n, crI, crL, crC, crW, crV, crR_e, crR_n, crN_e, crN_n, ciR, ciL, ciD, ciN_e, ciN_n, rdI_e, rdI_n, rdC_i, rdC_o, rdW, rdU_e, rdU_n, rdLW, clI, clR, clC, clD, clW, clV, clN_e, clN_n, clL_e, clL_n] <;> first | assumption | rfl | omega)) (by first | assumption | first | assumption | (simp (disch := omega) only [shI, shR, shL, shC, shD, shW, sh_V, shN_e, shN_n, crI, crL, crC, crW, crV, crR_e, crR_n, crN_e, crN_n, ciR, ciL, ciD, ciN_e, ciN_n, rdI_e, rdI_n, rdC_i, rdC_o, rdW, rdU_e, rdU_n, rdLW, clI, clR, clC, clD, clW, clV, clN_e, clN_n, clL_e, clL_n]; done) | (simp (disch := omega) only [shI, shR, shL, shC, shD, shW, sh_V, shN_e, shN_n, crI, crL, crC, crW, crV, crR_e, crR_n, crN_e, crN_n, ciR, ciL, ciD, ciN_e, ciN_n, rdI_e, rdI_n, rdC_i, rdC_o, rdW, rdU_e, rdU_n, rdLW, clI, clR, clC, clD, clW, clV, clN_e, clN_n, clL_e, clL_n] <;> first | assumption | rfl | omega)) ?_
          refine x_iload_n dX1_allBest_36 rfl rfl ?_
          refine x_iload_n dX1_allBest_37 rfl rfl ?_
          refine x_iconst dX1_allBest_38 rfl ?_
          first | refine x_isubN dX1_allBest_39 (by unfold i32; omega) ?_ | refine x_isub dX1_allBest_39 ?_
          refine x_iand dX1_allBest_40 ?_
          rw [low1 (by omega)]
          refine x_iald dX1_allBest_41 (by first | assumption | first | assumption | (simp (disch := omega) only [shI, shR, shL, shC, shD, shW, sh_V, shN_e, shN_n, crI, crL, crC, crW, crV, crR_e, crR_n, crN_e, crN_n, ciR, ciL, ciD, ciN_e, ciN_n, rdI_e, rdI_n, rdC_i, rdC_o, rdW, rdU_e, rdU_n, rdLW, clI, clR, clC, clD, clW, clV, clN_e, clN_n, clL_e, clL_n]; done) | (simp (disch := omega) only [shI, shR, shL, shC, shD, shW, sh_V, shN_e, shN_n, crI, crL, crC, crW, crV, crR_e, crR_n, crN_e, crN_n, ciR, ciL, ciD, ciN_e, ciN_n, rdI_e, rdI_n, rdC_i, rdC_o, rdW, rdU_e, rdU_n, rdLW, clI, clR, clC, clD, clW, clV, clN_e, clN_n, clL_e, clL_n] <;> first | assumption | rfl | omega)) (by omega) (by omega) ?_
          try simp (disch := omega) only [rdI_e, rdI_n, rdC_i, rdC_o, rdW, rdR, rdU_e, rdU_n, rdLW, Int.add_zero, gb1, eT]
          refine x_iast (by omega) dX1_allBest_42 (by first | assumption | first | assumption | (simp (disch := omega) only [shI, shR, shL, shC, shD, shW, sh_V, shN_e, shN_n, crI, crL, crC, crW, crV, crR_e, crR_n, crN_e, crN_n, ciR, ciL, ciD, ciN_e, ciN_n, rdI_e, rdI_n, rdC_i, rdC_o, rdW, rdU_e, rdU_n, rdLW, clI, clR, clC, clD, clW, clV, clN_e, clN_n, clL_e, clL_n]; done) | (simp (disch := omega) only [shI, shR, shL, shC, shD, shW, sh_V, shN_e, shN_n, crI, crL, crC, crW, crV, crR_e, crR_n, crN_e, crN_n, ciR, ciL, ciD, ciN_e, ciN_n, rdI_e, rdI_n, rdC_i, rdC_o, rdW, rdU_e, rdU_n, rdLW, clI, clR, clC, clD, clW, clV, clN_e, clN_n, clL_e, clL_n] <;> first | assumption | rfl | omega)) (by omega) (by omega) ?_
          refine x_iload_n dX1_allBest_43 rfl rfl ?_
          refine x_iconst dX1_allBest_44 rfl ?_
          first | refine x_iaddN dX1_allBest_45 (by unfold i32; omega) ?_ | refine x_iadd dX1_allBest_45 ?_
          refine x_istore_n (L' := [some _, some _, some _, some _]) dX1_allBest_46 rfl (by decide) rfl ?_
          refine WP.mem (M1 := wI M (up g 200 s (tT v (clrI s (lo0 s))))) rfl (inner _ (lo0 s + 1) _ rfl (by omega) (fun b k q => (rdU_n (by omega)).trans (hf b k q)) (fun j j0 j1 => (rdU_n (by omega)).trans (hl j j0 j1)) ?_)
          rw [rdU_e ⟨rfl, rfl⟩, show (lo0 s + 1 + 1).toNat = (lo0 s + 1).toNat + 1 by omega]
          exact (mx_lo (by omega) rT1.1 _ (by omega)).symm
      · refine x_iload_n dX1_allBest_9 rfl rfl ?_
        refine x_iconst dX1_allBest_10 rfl ?_
        refine x_aload_n dX1_allBest_11 rfl rfl ?_
        refine g_getR (kI := 1) rfl dX1_allBest_12 fX1_22_1 (by first | assumption | first | assumption | (simp (disch := omega) only [shI, shR, shL, shC, shD, shW, sh_V, shN_e, shN_n, crI, crL, crC, crW, crV, crR_e, crR_n, crN_e, crN_n, ciR, ciL, ciD, ciN_e, ciN_n, rdI_e, rdI_n, rdC_i, rdC_o, rdW, rdU_e, rdU_n, rdLW, clI, clR, clC, clD, clW, clV, clN_e, clN_n, clL_e, clL_n]; done) | (simp (disch := omega) only [shI, shR, shL, shC, shD, shW, sh_V, shN_e, shN_n, crI, crL, crC, crW, crV, crR_e, crR_n, crN_e, crN_n, ciR, ciL, ciD, ciN_e, ciN_n, rdI_e, rdI_n, rdC_i, rdC_o, rdW, rdU_e, rdU_n, rdLW, clI, clR, clC, clD, clW, clV, clN_e, clN_n, clL_e, clL_n] <;> first | assumption | rfl | omega)) (by first | assumption | first | assumption | (simp (disch := omega) only [shI, shR, shL, shC, shD, shW, sh_V, shN_e, shN_n, crI, crL, crC, crW, crV, crR_e, crR_n, crN_e, crN_n, ciR, ciL, ciD, ciN_e, ciN_n, rdI_e, rdI_n, rdC_i, rdC_o, rdW, rdU_e, rdU_n, rdLW, clI, clR, clC, clD, clW, clV, clN_e, clN_n, clL_e, clL_n]; done) | (simp (disch := omega) only [shI, shR, shL, shC, shD, shW, sh_V, shN_e, shN_n, crI, crL, crC, crW, crV, crR_e, crR_n, crN_e, crN_n, ciR, ciL, ciD, ciN_e, ciN_n, rdI_e, rdI_n, rdC_i, rdC_o, rdW, rdU_e, rdU_n, rdLW, clI, clR, clC, clD, clW, clV, clN_e, clN_n, clL_e, clL_n] <;> first | assumption | rfl | omega)) ?_
        refine g_getI (kI := 8) rfl dX1_allBest_15 fX1_101_3 (by first | assumption | first | assumption | (simp (disch := omega) only [shI, shR, shL, shC, shD, shW, sh_V, shN_e, shN_n, crI, crL, crC, crW, crV, crR_e, crR_n, crN_e, crN_n, ciR, ciL, ciD, ciN_e, ciN_n, rdI_e, rdI_n, rdC_i, rdC_o, rdW, rdU_e, rdU_n, rdLW, clI, clR, clC, clD, clW, clV, clN_e, clN_n, clL_e, clL_n]; done) | (simp (disch := omega) only [shI, shR, shL, shC, shD, shW, sh_V, shN_e, shN_n, crI, crL, crC, crW, crV, crR_e, crR_n, crN_e, crN_n, ciR, ciL, ciD, ciN_e, ciN_n, rdI_e, rdI_n, rdC_i, rdC_o, rdW, rdU_e, rdU_n, rdLW, clI, clR, clC, clD, clW, clV, clN_e, clN_n, clL_e, clL_n] <;> first | assumption | rfl | omega)) ?_
        try simp (disch := omega) only [rdI_e, rdI_n, rdC_i, rdC_o, rdW, rdR, rdU_e, rdU_n, rdLW, Int.add_zero, gb1]
        refine x_ishl dX1_allBest_18 ?_
        rw [jshl_1 (by omega)]
        refine x_icmp_ge (tgt := 126) dX1_allBest_19 (by decide) (fun h19 => ?_) (fun h19 => ?_)
        · refine x_vreturn rfl dX1_allBest_126 ?_
          exact hQ _ _ ⟨rfl, g, rfl, hf, fun j j0 j1 => hl j j0 (by omega)⟩
        · omega
  refine x_aload_n dX1_allBest_0 rfl rfl ?_
  refine g_getR (kI := 10) rfl dX1_allBest_1 fX1_56_1 (by first | assumption | first | assumption | (simp (disch := omega) only [shI, shR, shL, shC, shD, shW, sh_V, shN_e, shN_n, crI, crL, crC, crW, crV, crR_e, crR_n, crN_e, crN_n, ciR, ciL, ciD, ciN_e, ciN_n, rdI_e, rdI_n, rdC_i, rdC_o, rdW, rdU_e, rdU_n, rdLW, clI, clR, clC, clD, clW, clV, clN_e, clN_n, clL_e, clL_n]; done) | (simp (disch := omega) only [shI, shR, shL, shC, shD, shW, sh_V, shN_e, shN_n, crI, crL, crC, crW, crV, crR_e, crR_n, crN_e, crN_n, ciR, ciL, ciD, ciN_e, ciN_n, rdI_e, rdI_n, rdC_i, rdC_o, rdW, rdU_e, rdU_n, rdLW, clI, clR, clC, clD, clW, clV, clN_e, clN_n, clL_e, clL_n] <;> first | assumption | rfl | omega)) (by first | assumption | first | assumption | (simp (disch := omega) only [shI, shR, shL, shC, shD, shW, sh_V, shN_e, shN_n, crI, crL, crC, crW, crV, crR_e, crR_n, crN_e, crN_n, ciR, ciL, ciD, ciN_e, ciN_n, rdI_e, rdI_n, rdC_i, rdC_o, rdW, rdU_e, rdU_n, rdLW, clI, clR, clC, clD, clW, clV, clN_e, clN_n, clL_e, clL_n]; done) | (simp (disch := omega) only [shI, shR, shL, shC, shD, shW, sh_V, shN_e, shN_n, crI, crL, crC, crW, crV, crR_e, crR_n, crN_e, crN_n, ciR, ciL, ciD, ciN_e, ciN_n, rdI_e, rdI_n, rdC_i, rdC_o, rdW, rdU_e, rdU_n, rdLW, clI, clR, clC, clD, clW, clV, clN_e, clN_n, clL_e, clL_n] <;> first | assumption | rfl | omega)) ?_
  refine x_iconst dX1_allBest_4 rfl ?_
  refine x_iconst dX1_allBest_5 rfl ?_
  refine x_iast (by omega) dX1_allBest_6 (by first | assumption | first | assumption | (simp (disch := omega) only [shI, shR, shL, shC, shD, shW, sh_V, shN_e, shN_n, crI, crL, crC, crW, crV, crR_e, crR_n, crN_e, crN_n, ciR, ciL, ciD, ciN_e, ciN_n, rdI_e, rdI_n, rdC_i, rdC_o, rdW, rdU_e, rdU_n, rdLW, clI, clR, clC, clD, clW, clV, clN_e, clN_n, clL_e, clL_n]; done) | (simp (disch := omega) only [shI, shR, shL, shC, shD, shW, sh_V, shN_e, shN_n, crI, crL, crC, crW, crV, crR_e, crR_n, crN_e, crN_n, ciR, ciL, ciD, ciN_e, ciN_n, rdI_e, rdI_n, rdC_i, rdC_o, rdW, rdU_e, rdU_n, rdLW, clI, clR, clC, clD, clW, clV, clN_e, clN_n, clL_e, clL_n] <;> first | assumption | rfl | omega)) (by omega) (by omega) ?_
  refine x_iconst dX1_allBest_7 rfl ?_
  refine x_istore_n (L' := [some _, some _, none, none]) dX1_allBest_8 rfl (by decide) rfl ?_
  refine x_fgt (by repeat (first | exact trivial | refine ⟨rfl, ?_⟩)) (WP.mem (M1 := wI M (up (mci M) 200 0 0)) rfl (lp _ 1 _ rfl (by omega) (by omega) (fun b k q => rdU_n (by omega)) fun j j0 j1 => ?_))
  rw [rdU_e ⟨rfl, by omega⟩, show j = 0 by omega, tT_0]
end X1

