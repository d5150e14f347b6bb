/-! GuestView$State: passes -/
section XT
variable {G : GW} {d : Nat} {M : Mem} {B T p N : Int} {u v : Vw}
theorem passes_mid {dr : Int} {g : Ci} (hd : 43 ≤ d) (h : StS (msh M) (mcr M) p) (hR : RelA (msh M) g (mcr M) B T p u N) (hu : okA u) (hN : N ≤ 999999990) (hB : p + 44 < B) (hf : Fo p (p + 12) (mci M) g) : WP G d mX3_passes 51 [some (dR p), some (dI dr), some (dI (vP (likeG u))), some (dI (u (guA 1))), some (dI (-1)), some (dI 6)] [] (wI M g) (postI fun x M1 => x = vP (whatV u ≤ 1) ∧ ∃ g, M1 = wI M g ∧ RelA (msh M) g (mcr M) B T p (afterV u (tickP u) (opH u)) (N + 2) ∧ okA (afterV u (tickP u) (opH u)) ∧ Fo p (p + 12) (mci M) g) := by
  have hh := h
  obtain ⟨p0, p1, ⟨c0, c1, c2, c3, c4, c5, c6, c7⟩, ⟨t1, t2, t3, t4, t5, t6⟩, p5, p6, p7⟩ := h
  have hb1 : eqB u (bareV u 0) := bareV_eqB (Or.inl rfl)
  have hu1 : okB (bareV u 0) := hu.1.eqB hb1
  have hg1 : okGu (bareV u 0) 1 := hu.2.2.eqv fun k a b => bareV_o (by unfold guA at *; omega)
  have e3 : bareV u 0 3 = u 3 := hb1 3 (by omega)
  have e5 : bareV u 0 5 = u 5 := hb1 5 (by omega)
  have epc : bareV u 0 (guA 1) = u (guA 1) := bareV_o (by unfold guA; omega)
  have hop : whatV u ≤ 1 → 0 ≤ opH u ∧ opH u < u 0 := fun q => by
    unfold whatV hostH at q
    by_cases r : bareV u 0 3 ≤ bareV u 0 (guA 1)
    · rw [if_pos r] at q; omega
    · unfold opH
      rw [if_pos (by omega)]
      exact hu.1.pr _ hu.2.2.1.1 (by omega)
  have hb2 : eqB u (stepV u) := fun k hk => (hostV_eqB k hk).trans (hb1 k hk)
  have hu2 : okB (stepV u) := hu.1.eqB hb2
  have hA2 : okA (stepV u) := ⟨hu2, (bareV_ok hu.1 hu.2.1).eqv fun k a b => hostV_o (by unfold guA at *; omega), hostV_ok hu1 hg1⟩
  refine x_aload_n dX3_passes_51 rfl rfl ?_
  refine x_aload_n dX3_passes_52 rfl rfl ?_
  refine g_getR (kI := 7) rfl dX3_passes_53 fX3_43_3 (by assumption) (by assumption) ?_
  refine g_callI (vs := [_, _]) (d' := d - 1) rfl (s_X3_opAt (M := wI M g) (s := u 5) (i := 1) (by omega) hh p6 hR.1.1 hu.1 hR.2.2 hu.2.2.1.1) dX3_passes_56 kX3_141 (by omega) (by decide) rfl (Nat.le_of_ble_eq_true rfl) (rcv_o (by assumption) rfl) (fun x56 M56 h56 => ?_)
  obtain ⟨e56, f56⟩ := h56
  have f56' := f56.symm
  subst f56'
  refine x_istore (L' := [some _, some _, some _, some _, some _, some _]) dX3_passes_59 (by decide) rfl ?_
  refine x_aload_n dX3_passes_61 rfl rfl ?_
  refine x_aload_n dX3_passes_62 rfl rfl ?_
  refine g_getR (kI := 6) rfl dX3_passes_63 fX3_39_3 (by assumption) (by assumption) ?_
  refine g_callN (vs := [_, _]) (d' := d - 1) rfl (s_X3_stepsBare (M := wI M g) (i := 0) (by omega) hh p5 (Or.inl rfl) hR.1.1 hu.1 hR.2.1 hu.2.1) dX3_passes_66 kX3_199 (by omega) (by decide) rfl (Nat.le_of_ble_eq_true rfl) (rcv_o (by assumption) rfl) (fun M66 h66 => ?_)
  obtain ⟨g1, hM66, a1, a2⟩ := h66
  subst hM66
  refine WP.mem (M1 := wI M g1) rfl ?_
  have hR1 : RelS (msh M) g1 (mcr M) B T p (bareV u 0) N := (hR.1.fr hu.1 (fun b k x1 x2 x3 => a2 b k (by omega)) hB).eqB hu.1 hb1
  have hG1 : RelG g1 (p + 10) (bareV u 0 5) (bareV u 0) 1 := by
    rw [e5]
    exact (RelG.eqv hR.2.2 fun k a b => bareV_o (by unfold guA at *; omega)).fo a2 (by omega)
  refine x_aload_n dX3_passes_69 rfl rfl ?_
  refine x_aload_n dX3_passes_70 rfl rfl ?_
  refine g_getR (kI := 7) rfl dX3_passes_71 fX3_43_3 (by assumption) (by assumption) ?_
  refine g_callI (vs := [_, _]) (d' := d - 1) rfl (s_X3_stepsHosted (M := wI M g1) (by omega) hh p6 (Or.inr (Or.inl rfl)) hR1 hu1 hG1 hg1 (by omega)) dX3_passes_74 kX3_202 (by omega) (by decide) rfl (Nat.le_of_ble_eq_true rfl) (rcv_o (by assumption) rfl) (fun x74 M74 h74 => ?_)
  obtain ⟨g2, hM74, b0, b1, b2⟩ := h74
  refine x_istore (L' := [some _, some _, some _, some _, some _, some _]) dX3_passes_77 (by decide) rfl ?_
  subst hM74
  refine WP.mem (M1 := wI M g2) rfl ?_
  have ex : x56 = opH u := e56
  have ey : x74 = whatV u := b0
  rw [ex, ey]
  have hRu : RelS (msh M) g2 (mcr M) B T p u N := hR.1.fr hu.1 (fun b k x1 x2 x3 => (b2 b k x1 (by omega)).trans (a2 b k (by omega))) hB
  have hG0 : RelG g2 (p + 7) 0 (stepV u) 0 := by
    obtain ⟨z1, z2, z3, z4, z5, z6, z7, z8⟩ := a1
    refine RelG.eqv (v := bareV u 0) ⟨?_, ?_, ?_, ?_, ?_, ?_, ?_, fun k r1 r2 => ?_⟩ fun k a b => hostV_o (by unfold guA at *; omega)
    · exact (b2 _ _ (by omega) (by omega)).trans z1
    · exact (b2 _ _ (by omega) (by omega)).trans z2
    · rw [b2 _ _ (by omega) (by omega)]; exact z3
    · exact (b2 _ _ (by omega) (by omega)).trans z4
    · exact (b2 _ _ (by omega) (by omega)).trans z5
    · exact (b2 _ _ (by omega) (by omega)).trans z6
    · exact (b2 _ _ (by omega) (by omega)).trans z7
    · exact (b2 _ _ (by omega) (by omega)).trans (z8 k r1 r2)
  have hG2 : RelG g2 (p + 10) (stepV u 5) (stepV u) 1 := by
    rw [hb2 5 (by omega), ← e5]
    exact b1
  exact passes_mid2 (by omega) hh ⟨hRu.eqB hu.1 hb2, hG0, hG2⟩ hA2 hu.1 hRu.2.2 hN hB hb2.m (hb2 8 (by omega)) (hb2 9 (by omega)) rfl hop (fun b k r => (b2 b k (by omega) (by omega)).trans ((a2 b k (by omega)).trans (hf b k r)))
theorem likeG_us {x : Int} : likeG (us v 11 x) = likeG v := by
  unfold likeG guA
  rw [us_n (by omega), us_n (by omega), us_n (by omega), us_n (by omega), us_n (by omega), us_n (by omega), us_n (by omega), us_n (by omega)]
  have e : (∀ k, 0 ≤ k → k < 8 → us v 11 x (102 + 13 * 0 + 5 + k) = us v 11 x (102 + 13 * 1 + 5 + k)) = (∀ k, 0 ≤ k → k < 8 → v (102 + 13 * 0 + 5 + k) = v (102 + 13 * 1 + 5 + k)) := propext ⟨fun h k a b => by have := h k a b; rw [us_n (by omega), us_n (by omega)] at this; exact this, fun h k a b => by rw [us_n (by omega), us_n (by omega)]; exact h k a b⟩
  rw [e]
theorem s_X3_passes {dr : Int} (hd : 45 ≤ d) (hdr : dr = 0 ∨ dr = 1) (h : StS (msh M) (mcr M) p) (hR : RelA (msh M) (mci M) (mcr M) B T p v N) (hv : okA v) (hN : N ≤ 999999990) (hB : p + 44 < B) : CS G d mX3_passes [dR p, dI dr] M (postI fun x M1 => x = vP (trapsT v (dr = 1)) ∧ ∃ g, M1 = wI M g ∧ RelA (msh M) g (mcr M) B T p (tickV v (dr = 1)) (N + 2) ∧ okA (tickV v (dr = 1)) ∧ Fo p (p + 12) (mci M) g) := by
  have hh := h
  obtain ⟨p0, p1, ⟨c0, c1, c2, c3, c4, c5, c6, c7⟩, ⟨t1, t2, t3, t4, t5, t6⟩, p5, p6, p7⟩ := h
  have hs7 : msh M (p + 7) = some (4, 0) := p5.2.1
  have hs10 : msh M (p + 10) = some (4, 0) := p6.2.1
  have hv5 := hv.1.2.2.2.2.2.1
  have e1 : mci M (p + 10) 1 = v (guA 1) := hR.2.2.1
  rcases hdr with rfl | rfl
  · have ev : tickV v ((0 : Int) = 1) = afterV v (tickP v) (opH v) := by
      unfold tickV tick0
      rw [iV_f (by omega), iV_f (fun q => q)]
    have et : vP (trapsT v ((0 : Int) = 1)) = vP (whatV v ≤ 1) := vP_c ⟨fun q => by
      rcases q with q | q
      · exact absurd q.1 (by omega)
      · exact q.2, fun q => Or.inr ⟨by omega, q⟩⟩
    rw [ev, et]
    refine CS.mk (by decide) (Nat.le_of_ble_eq_true rfl) ?_
    refine x_aload_n dX3_passes_0 rfl rfl ?_
    refine g_getR (kI := 6) rfl dX3_passes_1 fX3_39_3 (by assumption) (by assumption) ?_
    refine x_aload_n dX3_passes_4 rfl rfl ?_
    refine g_getR (kI := 7) rfl dX3_passes_5 fX3_43_3 (by assumption) (by assumption) ?_
    refine g_callI (vs := [_, _]) (d' := d - 1) rfl (s_X4_isLike (v := v) (s := v 5) (by omega) p5 p6 hR.2.1 hR.2.2 (by omega)) dX3_passes_8 kX3_189 (by omega) (by decide) rfl (Nat.le_of_ble_eq_true rfl) (rcv_o (by assumption) rfl) (fun x8 M8 h8 => ?_)
    obtain ⟨e8, f8⟩ := h8
    have f8' := f8.symm
    subst f8'
    refine x_istore_n (L' := [some _, some _, some _, none, none, none]) dX3_passes_11 rfl (by decide) rfl ?_
    refine x_aload_n dX3_passes_12 rfl rfl ?_
    refine g_getR (kI := 7) rfl dX3_passes_13 fX3_43_3 (by assumption) (by assumption) ?_
    refine g_getI (kI := 1) rfl dX3_passes_16 fX3_138_4 (by assumption) ?_
    rw [e1, e8]
    refine x_istore_n (L' := [some _, some _, some _, some _, none, none]) dX3_passes_19 rfl (by decide) rfl ?_
    refine x_iconst dX3_passes_20 rfl ?_
    refine x_istore (L' := [some _, some _, some _, some _, some _, none]) dX3_passes_21 (by decide) rfl ?_
    refine x_bipush dX3_passes_23 rfl ?_
    refine x_istore (L' := [some _, some _, some _, some _, some _, some _]) dX3_passes_25 (by decide) rfl ?_
    refine x_iload_n dX3_passes_27 rfl rfl ?_
    refine x_if_eq (tgt := 51) dX3_passes_28 (by decide) (fun h28 => ?_) (fun h28 => ?_)
    · exact passes_mid (M := M) (g := mci M) (by omega) hh hR hv hN hB Fo.rfl
    · exact absurd rfl h28
  · have hR1 : RelA (msh M) (up (mci M) p 18 (seedV (v 11))) (mcr M) B T p (drawnV v) N := hR.sc hv.1 (Or.inr (Or.inr ⟨rfl, rfl⟩)) hB
    have hv1 : okA (drawnV v) := hv.us (Or.inr (Or.inr rfl))
    have hf1 : Fo p (p + 12) (mci M) (up (mci M) p 18 (seedV (v 11))) := fun b k r => by simp (disch := omega) only [rdI_e, rdI_n, rdC_i, rdC_o, rdW, rdR, rdU_e, rdU_n]
    have hl : vP (likeG v) = vP (likeG (drawnV v)) := by unfold drawnV; rw [likeG_us]
    have hpc : v (guA 1) = drawnV v (guA 1) := (us_n (by unfold guA; omega)).symm
    have e15 : up (mci M) p 18 (seedV (v 11)) p 15 = v 7 := by
      simp (disch := omega) only [rdI_e, rdI_n, rdC_i, rdC_o, rdW, rdR, rdU_e, rdU_n]
      exact hR.1.1.2.2.2.2.2.2.1
    refine CS.mk (by decide) (Nat.le_of_ble_eq_true rfl) ?_
    refine x_aload_n dX3_passes_0 rfl rfl ?_
    refine g_getR (kI := 6) rfl dX3_passes_1 fX3_39_3 (by assumption) (by assumption) ?_
    refine x_aload_n dX3_passes_4 rfl rfl ?_
    refine g_getR (kI := 7) rfl dX3_passes_5 fX3_43_3 (by assumption) (by assumption) ?_
    refine g_callI (vs := [_, _]) (d' := d - 1) rfl (s_X4_isLike (v := v) (s := v 5) (by omega) p5 p6 hR.2.1 hR.2.2 (by omega)) dX3_passes_8 kX3_189 (by omega) (by decide) rfl (Nat.le_of_ble_eq_true rfl) (rcv_o (by assumption) rfl) (fun x8 M8 h8 => ?_)
    obtain ⟨e8, f8⟩ := h8
    have f8' := f8.symm
    subst f8'
    refine x_istore_n (L' := [some _, some _, some _, none, none, none]) dX3_passes_11 rfl (by decide) rfl ?_
    refine x_aload_n dX3_passes_12 rfl rfl ?_
    refine g_getR (kI := 7) rfl dX3_passes_13 fX3_43_3 (by assumption) (by assumption) ?_
    refine g_getI (kI := 1) rfl dX3_passes_16 fX3_138_4 (by assumption) ?_
    rw [e1, e8]
    refine x_istore_n (L' := [some _, some _, some _, some _, none, none]) dX3_passes_19 rfl (by decide) rfl ?_
    refine x_iconst dX3_passes_20 rfl ?_
    refine x_istore (L' := [some _, some _, some _, some _, some _, none]) dX3_passes_21 (by decide) rfl ?_
    refine x_bipush dX3_passes_23 rfl ?_
    refine x_istore (L' := [some _, some _, some _, some _, some _, some _]) dX3_passes_25 (by decide) rfl ?_
    refine x_iload_n dX3_passes_27 rfl rfl ?_
    refine x_if_eq (tgt := 51) dX3_passes_28 (by decide) (fun h28 => ?_) (fun h28 => ?_)
    · exact absurd h28 (by decide)
    · refine x_aload_n dX3_passes_31 rfl rfl ?_
      refine x_bipush dX3_passes_32 rfl ?_
      refine g_callI (vs := [_, _]) (d' := d - 1) rfl (s_X3_draw (by omega) hh hR.1.1 (by omega)) dX3_passes_34 kX3_193 (by omega) (by decide) rfl (Nat.le_of_ble_eq_true rfl) (rcv_o (by assumption) rfl) (fun x34 M34 h34 => ?_)
      obtain ⟨g1, hM34, hx, hg⟩ := h34
      subst hM34
      subst hg
      refine x_aload_n dX3_passes_37 rfl rfl ?_
      refine g_getI (kI := 15) rfl dX3_passes_38 fX3_85_3 (by assumption) ?_
      rw [show mci (wI M (up (mci M) p 18 (seedV (v 11)))) p 15 = v 7 from e15, hx]
      refine x_icmp_ge (tgt := 51) dX3_passes_41 (by decide) (fun h41 => ?_) (fun h41 => ?_)
      · have hal : ¬ alarmV v := by
          unfold alarmV
          omega
        have ev : tickV v ((1 : Int) = 1) = afterV (drawnV v) (tickP (drawnV v)) (opH (drawnV v)) := by
          unfold tickV tick0
          rw [iV_t rfl, iV_f hal]
        have et : vP (trapsT v ((1 : Int) = 1)) = vP (whatV (drawnV v) ≤ 1) := vP_c ⟨fun q => by
          rcases q with q | q
          · exact q.2.2
          · exact absurd rfl q.1, fun q => Or.inl ⟨rfl, hal, q⟩⟩
        rw [ev, et, hl, hpc]
        exact passes_mid (M := M) (by omega) hh hR1 hv1 hN hB hf1
      · refine x_aload_n dX3_passes_44 rfl rfl ?_
        refine g_callN (vs := [_]) (d' := d - 1) rfl (s_X3_alarms (M := wI M _) (v := drawnV v) (by omega) hh hR1 hv1 (by omega) hB) dX3_passes_45 kX3_196 (by omega) (by decide) rfl (Nat.le_of_ble_eq_true rfl) (rcv_o (by assumption) rfl) (fun M45 h45 => ?_)
        obtain ⟨g2, hM45, b1, b2, b3⟩ := h45
        refine x_goto (tgt := 121) dX3_passes_48 (by decide) ?_
        subst hM45
        have hal : alarmV v := by
          unfold alarmV
          omega
        have ev : tickV v ((1 : Int) = 1) = afterV (drawnV v) (tickA (drawnV v)) (-1) := by
          unfold tickV tick0
          rw [iV_t rfl, iV_t hal]
        have et : vP (trapsT v ((1 : Int) = 1)) = vP ((6 : Int) ≤ 1) := vP_c ⟨fun q => by
          rcases q with q | q
          · exact absurd hal q.2.1
          · exact absurd rfl q.1, fun q => absurd q (by omega)⟩
        rw [ev, et, hl, hpc]
        have h8 : tickA (drawnV v) 8 = drawnV v 8 := by
          unfold tickA
          rw [caughtV_o (by unfold guA; omega) (by unfold guA; omega), caughtV_o (by unfold guA; omega) (by unfold guA; omega), tellV_o (by omega) (by omega)]
        refine WP.mem (M1 := wI M g2) rfl ?_
        have := passes_tail (G := G) (d := d) (M := M) (dr := 1) (op := -1) (what := 6) (v := drawnV v) (by omega) hh b1 b2 (by omega) hB h8 (fun b k r => (b3 b k r).trans (hf1 b k r)) rfl
        rw [show N + 1 + 1 = N + 2 by omega] at this
        exact this
end XT

