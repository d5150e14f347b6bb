/-! GuestViewModel: ticks ahead, trials -/
theorem goT_o {v : Vw} {dr : Prop} {t : Nat} {k : Int} (h : okA v) (hL : lawOK v) (hk : 368 ≤ k ∨ k < 0) : goT v dr t k = v k := by
  rcases hk with hk | hk
  · exact (okA_goT h hL t).2 k (by omega) (by omega) (by omega)
  · induction t with
    | zero => rfl
    | succ t ih => exact (tickV_n hk).trans ih
section X8
variable {G : GW} {d : Nat} {M : Mem} {m a b c p k i what n st pc op : Int} {v : Vw}
theorem s_X8_ahead (hd : 21 ≤ d) (hP : TP M m v) : CS G d mX8_ahead [dR m, dI n, dI b] M (postI fun x M1 => RD M m (if 0 ≤ n ∧ n ≤ 60 then 0 else 1) M1 ∧ (0 ≤ n ∧ n ≤ 60 → x = aheadAns v n b)) := by
  obtain ⟨hT, hw, hA, hL, hK, hsk⟩ := id hP
  have hT_ := hT; obtain ⟨p0, p1, ⟨c1, c2, c3, c4, c5, c6, c7, c8, c9, c10, c11, c12, c13, c14, c15⟩, ⟨t1, t2, t3, t4, t5, t6, t7, t8, t9, t10, t11, t12, t13, t14, t15⟩⟩ := hT_
  have e1 : ((1 : Int) = 0) = False := by simp
  refine CS.mkQ (by decide) (Nat.le_of_ble_eq_true rfl) fun Q hQ => ?_
  refine x_aload_n dX8_ahead_0 rfl rfl ?_
  refine x_iconst dX8_ahead_1 rfl ?_
  refine g_putI (kI := 0) rfl dX8_ahead_2 fX8_3_8 (by first | assumption | exact hT.2.1) ?_
  obtain ⟨hT, hw, hA, hL, hK, hsk⟩ := TP.z (x := 0) hP
  refine x_aload_n dX8_ahead_5 rfl rfl ?_
  refine x_iload_n dX8_ahead_6 rfl rfl ?_
  refine g_callI (vs := [_]) (d' := d - 1) rfl (s_X8_noTicks (by omega)) dX8_ahead_7 kX8_550 (by omega) (by decide) rfl (Nat.le_of_ble_eq_true rfl) (rcv_n) (fun x7 M7 h7 => ?_)
  obtain ⟨e7, f7⟩ := h7
  have f7' := f7.symm
  subst f7'
  subst e7
  try simp (disch := omega) only [rdI_e, rdI_n, rdC_i, rdC_o, rdW, rdR, rdU_e, rdU_n, rdLW, Int.add_zero, hw]
  refine x_iconst dX8_ahead_10 rfl ?_
  refine g_callI (vs := [_, _, _]) (d' := d - 1) rfl (s_X8_throwsIf (by omega) hT (by first | omega | exact vP_r _)) dX8_ahead_11 kX8_280 (by omega) (by decide) rfl (Nat.le_of_ble_eq_true rfl) (rcv_o (by first | assumption | exact hT.2.1) rfl) (fun x11 M11 h11 => ?_)
  obtain ⟨e11, r11, f11⟩ := h11
  refine x_if_eq (tgt := 19) dX8_ahead_14 (by decide) (fun h14 => ?_) (fun h14 => ?_)
  · first | have f11' := (f11.1 (by omega)).symm | have f11' := (f11.2 (by omega)).symm
    subst f11'
    rw [e11] at h14
    try simp only [vP_0, vP_1, vP_n0, vP_n1, Classical.not_not] at h14
    refine x_aload_n dX8_ahead_19 rfl rfl ?_
    refine g_callN (vs := [_]) (d' := d - 1) rfl (s_X8_keepsAll (M := mI M m 0 0) (by omega) hT) dX8_ahead_20 kX8_464 (by omega) (by decide) rfl (Nat.le_of_ble_eq_true rfl) (rcv_o (by first | assumption | exact hT.2.1) rfl) (fun M20 h20 => ?_)
    subst h20
    refine x_aload_n dX8_ahead_23 rfl rfl ?_
    refine x_iload_n dX8_ahead_24 rfl rfl ?_
    refine x_iconst dX8_ahead_25 rfl ?_
    refine g_callI (vs := [_, _, _]) (d' := d - 1) rfl (s_X8_goesOn (M := mC (mI M m 0 0) (m + 1) 0 (m + 4) 0 368) (by omega) hT (mciC (by omega) hw) hA hL (KnOk.at hK (fun p => rdC_o (by omega)) (fun p => rfl)) (by unfold sk01 at hsk ⊢; rw [rdC_o (by omega)]; exact hsk) (by omega) (Or.inr rfl)) dX8_ahead_26 kX8_442 (by omega) (by decide) rfl (Nat.le_of_ble_eq_true rfl) (rcv_o (by first | assumption | exact hT.2.1) rfl) (fun x26 M26 h26 => ?_)
    obtain ⟨e26, g26, l26, hM26, r26, q26, y26, hK26, hTr26, hsk26⟩ := h26
    rw [e1] at r26
    subst hM26
    refine x_pop dX8_ahead_29 rfl ?_
    refine x_aload_n dX8_ahead_30 rfl rfl ?_
    refine x_iload_n dX8_ahead_31 rfl rfl ?_
    refine x_if_eq (tgt := 39) dX8_ahead_32 (by decide) (fun h32 => ?_) (fun h32 => ?_)
    · refine x_iconst dX8_ahead_39 rfl ?_
      refine x_iconst dX8_ahead_40 rfl ?_
      refine g_callI (vs := [_, _, _]) (d' := d - 1) rfl (s_X8_ofGuest (M := wL (mC (mI M m 0 0) (m + 1) 0 (m + 4) 0 368) g26 l26) (by omega) hT r26 (by omega) (by omega)) dX8_ahead_41 kX8_384 (by omega) (by decide) rfl (Nat.le_of_ble_eq_true rfl) (rcv_o (by first | assumption | exact hT.2.1) rfl) (fun x41 M41 h41 => ?_)
      obtain ⟨e41, f41⟩ := h41
      have f41' := f41.symm
      subst f41'
      subst e41
      try simp (disch := omega) only [rdI_e, rdI_n, rdC_i, rdC_o, rdW, rdR, rdU_e, rdU_n, rdLW, Int.add_zero, hw]
      refine x_istore_n (L' := [some _, some _, some _, some _]) dX8_ahead_44 rfl (by decide) rfl ?_
      refine x_aload_n dX8_ahead_45 rfl rfl ?_
      refine g_callN (vs := [_]) (d' := d - 1) rfl (s_X8_bringsBack (M := wL (mC (mI M m 0 0) (m + 1) 0 (m + 4) 0 368) g26 l26) (by omega) hT) dX8_ahead_46 kX8_470 (by omega) (by decide) rfl (Nat.le_of_ble_eq_true rfl) (rcv_o (by first | assumption | exact hT.2.1) rfl) (fun M46 h46 => ?_)
      subst h46
      refine x_iload_n dX8_ahead_49 rfl rfl ?_
      refine x_ireturn rfl dX8_ahead_50 ?_
      have hb := TQ.back (M := mI M m 0 0) hw q26 (fun k hk => by rw [r26]; exact goT_o hA hL hk)
      refine hQ _ _ ⟨_, rfl, ?_, fun _ => ?_⟩
      · rw [if_pos (by omega)]
        refine RD.mk (g := mci (mC (wI (mI M m 0 0) g26) (m + 4) 0 (m + 1) 0 368)) (l := l26) hb.2 y26.tm (KnOk.at hK26 (fun p => rdC_o (by omega)) (fun p => rfl)) ?_
        unfold sk01 at hsk26 ⊢
        rw [rdC_o (by omega)]
        exact hsk26
      · unfold aheadAns
        first | rw [if_pos h32] | rw [if_neg h32]
        try rfl
    · refine x_iconst dX8_ahead_35 rfl ?_
      refine x_goto (tgt := 40) dX8_ahead_36 (by decide) ?_
      refine x_iconst dX8_ahead_40 rfl ?_
      refine g_callI (vs := [_, _, _]) (d' := d - 1) rfl (s_X8_ofGuest (M := wL (mC (mI M m 0 0) (m + 1) 0 (m + 4) 0 368) g26 l26) (by omega) hT r26 (by omega) (by omega)) dX8_ahead_41 kX8_384 (by omega) (by decide) rfl (Nat.le_of_ble_eq_true rfl) (rcv_o (by first | assumption | exact hT.2.1) rfl) (fun x41 M41 h41 => ?_)
      obtain ⟨e41, f41⟩ := h41
      have f41' := f41.symm
      subst f41'
      subst e41
      try simp (disch := omega) only [rdI_e, rdI_n, rdC_i, rdC_o, rdW, rdR, rdU_e, rdU_n, rdLW, Int.add_zero, hw]
      refine x_istore_n (L' := [some _, some _, some _, some _]) dX8_ahead_44 rfl (by decide) rfl ?_
      refine x_aload_n dX8_ahead_45 rfl rfl ?_
      refine g_callN (vs := [_]) (d' := d - 1) rfl (s_X8_bringsBack (M := wL (mC (mI M m 0 0) (m + 1) 0 (m + 4) 0 368) g26 l26) (by omega) hT) dX8_ahead_46 kX8_470 (by omega) (by decide) rfl (Nat.le_of_ble_eq_true rfl) (rcv_o (by first | assumption | exact hT.2.1) rfl) (fun M46 h46 => ?_)
      subst h46
      refine x_iload_n dX8_ahead_49 rfl rfl ?_
      refine x_ireturn rfl dX8_ahead_50 ?_
      have hb := TQ.back (M := mI M m 0 0) hw q26 (fun k hk => by rw [r26]; exact goT_o hA hL hk)
      refine hQ _ _ ⟨_, rfl, ?_, fun _ => ?_⟩
      · rw [if_pos (by omega)]
        refine RD.mk (g := mci (mC (wI (mI M m 0 0) g26) (m + 4) 0 (m + 1) 0 368)) (l := l26) hb.2 y26.tm (KnOk.at hK26 (fun p => rdC_o (by omega)) (fun p => rfl)) ?_
        unfold sk01 at hsk26 ⊢
        rw [rdC_o (by omega)]
        exact hsk26
      · unfold aheadAns
        first | rw [if_pos h32] | rw [if_neg h32]
        try rfl
  · first | have f11' := (f11.1 (by omega)).symm | have f11' := (f11.2 (by omega)).symm
    subst f11'
    rw [e11] at h14
    try simp only [vP_0, vP_1, vP_n0, vP_n1, Classical.not_not] at h14
    refine x_iconst dX8_ahead_17 rfl ?_
    refine x_ireturn rfl dX8_ahead_18 ?_
    exact hQ _ _ ⟨_, rfl, by rw [if_neg (by omega)]; exact RD.t hP, fun q => absurd q (by omega)⟩
theorem s_X8_trial (hd : 21 ≤ d) (hP : TP M m v) : CS G d mX8_trial [dR m, dI n, dI b] M (postI fun x M1 => RD M m (if 0 ≤ n ∧ n ≤ 60 then 0 else 1) M1 ∧ (0 ≤ n ∧ n ≤ 60 → x = trialAns v n b)) := by
  obtain ⟨hT, hw, hA, hL, hK, hsk⟩ := id hP
  have hT_ := hT; obtain ⟨p0, p1, ⟨c1, c2, c3, c4, c5, c6, c7, c8, c9, c10, c11, c12, c13, c14, c15⟩, ⟨t1, t2, t3, t4, t5, t6, t7, t8, t9, t10, t11, t12, t13, t14, t15⟩⟩ := hT_
  have e1 : ((0 : Int) = 0) = True := by simp
  refine CS.mkQ (by decide) (Nat.le_of_ble_eq_true rfl) fun Q hQ => ?_
  refine x_aload_n dX8_trial_0 rfl rfl ?_
  refine x_iconst dX8_trial_1 rfl ?_
  refine g_putI (kI := 0) rfl dX8_trial_2 fX8_3_8 (by first | assumption | exact hT.2.1) ?_
  obtain ⟨hT, hw, hA, hL, hK, hsk⟩ := TP.z (x := 0) hP
  refine x_aload_n dX8_trial_5 rfl rfl ?_
  refine x_iload_n dX8_trial_6 rfl rfl ?_
  refine g_callI (vs := [_]) (d' := d - 1) rfl (s_X8_noTicks (by omega)) dX8_trial_7 kX8_550 (by omega) (by decide) rfl (Nat.le_of_ble_eq_true rfl) (rcv_n) (fun x7 M7 h7 => ?_)
  obtain ⟨e7, f7⟩ := h7
  have f7' := f7.symm
  subst f7'
  subst e7
  try simp (disch := omega) only [rdI_e, rdI_n, rdC_i, rdC_o, rdW, rdR, rdU_e, rdU_n, rdLW, Int.add_zero, hw, r26]
  refine x_iconst dX8_trial_10 rfl ?_
  refine g_callI (vs := [_, _, _]) (d' := d - 1) rfl (s_X8_throwsIf (by omega) hT (by first | omega | exact vP_r _)) dX8_trial_11 kX8_280 (by omega) (by decide) rfl (Nat.le_of_ble_eq_true rfl) (rcv_o (by first | assumption | exact hT.2.1) rfl) (fun x11 M11 h11 => ?_)
  obtain ⟨e11, r11, f11⟩ := h11
  refine x_if_eq (tgt := 19) dX8_trial_14 (by decide) (fun h14 => ?_) (fun h14 => ?_)
  · first | have f11' := (f11.1 (by omega)).symm | have f11' := (f11.2 (by omega)).symm
    subst f11'
    rw [e11] at h14
    try simp only [vP_0, vP_1, vP_n0, vP_n1, Classical.not_not] at h14
    refine x_aload_n dX8_trial_19 rfl rfl ?_
    refine g_callN (vs := [_]) (d' := d - 1) rfl (s_X8_keepsAll (M := mI M m 0 0) (by omega) hT) dX8_trial_20 kX8_464 (by omega) (by decide) rfl (Nat.le_of_ble_eq_true rfl) (rcv_o (by first | assumption | exact hT.2.1) rfl) (fun M20 h20 => ?_)
    subst h20
    refine x_aload_n dX8_trial_23 rfl rfl ?_
    refine x_iload_n dX8_trial_24 rfl rfl ?_
    refine x_iconst dX8_trial_25 rfl ?_
    refine g_callI (vs := [_, _, _]) (d' := d - 1) rfl (s_X8_goesOn (M := mC (mI M m 0 0) (m + 1) 0 (m + 4) 0 368) (by omega) hT (mciC (by omega) hw) hA hL (KnOk.at hK (fun p => rdC_o (by omega)) (fun p => rfl)) (by unfold sk01 at hsk ⊢; rw [rdC_o (by omega)]; exact hsk) (by omega) (Or.inl rfl)) dX8_trial_26 kX8_442 (by omega) (by decide) rfl (Nat.le_of_ble_eq_true rfl) (rcv_o (by first | assumption | exact hT.2.1) rfl) (fun x26 M26 h26 => ?_)
    obtain ⟨e26, g26, l26, hM26, r26, q26, y26, hK26, hTr26, hsk26⟩ := h26
    rw [e1] at r26
    subst hM26
    refine x_pop dX8_trial_29 rfl ?_
    refine x_iload_n dX8_trial_30 rfl rfl ?_
    refine x_if_ne (tgt := 44) dX8_trial_31 (by decide) (fun h31 => ?_) (fun h31 => ?_)
    · refine x_aload_n dX8_trial_44 rfl rfl ?_
      refine g_callI (vs := [_]) (d' := d - 1) rfl (s_X8_areAlike (M := wL (mC (mI M m 0 0) (m + 1) 0 (m + 4) 0 368) g26 l26) (by omega) hT r26) dX8_trial_45 kX8_408 (by omega) (by decide) rfl (Nat.le_of_ble_eq_true rfl) (rcv_o (by first | assumption | exact hT.2.1) rfl) (fun x45 M45 h45 => ?_)
      obtain ⟨e45, f45⟩ := h45
      have f45' := f45.symm
      subst f45'
      subst e45
      try simp (disch := omega) only [rdI_e, rdI_n, rdC_i, rdC_o, rdW, rdR, rdU_e, rdU_n, rdLW, Int.add_zero, hw, r26]
      refine x_if_eq (tgt := 55) dX8_trial_48 (by decide) (fun h48 => ?_) (fun h48 => ?_)
      · try simp only [vP_0, vP_1, vP_n0, vP_n1, Classical.not_not] at h48
        refine x_iconst dX8_trial_55 rfl ?_
        refine x_istore_n (L' := [some _, some _, some _, some _]) dX8_trial_56 rfl (by decide) rfl ?_
        refine x_aload_n dX8_trial_57 rfl rfl ?_
        refine g_callN (vs := [_]) (d' := d - 1) rfl (s_X8_bringsBack (M := wL (mC (mI M m 0 0) (m + 1) 0 (m + 4) 0 368) g26 l26) (by omega) hT) dX8_trial_58 kX8_470 (by omega) (by decide) rfl (Nat.le_of_ble_eq_true rfl) (rcv_o (by first | assumption | exact hT.2.1) rfl) (fun M58 h58 => ?_)
        subst h58
        refine x_iload_n dX8_trial_61 rfl rfl ?_
        refine x_ireturn rfl dX8_trial_62 ?_
        have hb := TQ.back (M := mI M m 0 0) hw q26 (fun k hk => by rw [r26]; exact goT_o hA hL hk)
        refine hQ _ _ ⟨_, rfl, ?_, fun _ => ?_⟩
        · rw [if_pos (by omega)]
          refine RD.mk (g := mci (mC (wI (mI M m 0 0) g26) (m + 4) 0 (m + 1) 0 368)) (l := l26) hb.2 y26.tm (KnOk.at hK26 (fun p => rdC_o (by omega)) (fun p => rfl)) ?_
          unfold sk01 at hsk26 ⊢
          rw [rdC_o (by omega)]
          exact hsk26
        · unfold trialAns
          first
          | rw [if_pos h31]
          | (rw [if_neg h31]
             first | exact (vP_t h48).symm | exact (vP_f h48).symm)
      · try simp only [vP_0, vP_1, vP_n0, vP_n1, Classical.not_not] at h48
        refine x_iconst dX8_trial_51 rfl ?_
        refine x_goto (tgt := 56) dX8_trial_52 (by decide) ?_
        refine x_istore_n (L' := [some _, some _, some _, some _]) dX8_trial_56 rfl (by decide) rfl ?_
        refine x_aload_n dX8_trial_57 rfl rfl ?_
        refine g_callN (vs := [_]) (d' := d - 1) rfl (s_X8_bringsBack (M := wL (mC (mI M m 0 0) (m + 1) 0 (m + 4) 0 368) g26 l26) (by omega) hT) dX8_trial_58 kX8_470 (by omega) (by decide) rfl (Nat.le_of_ble_eq_true rfl) (rcv_o (by first | assumption | exact hT.2.1) rfl) (fun M58 h58 => ?_)
        subst h58
        refine x_iload_n dX8_trial_61 rfl rfl ?_
        refine x_ireturn rfl dX8_trial_62 ?_
        have hb := TQ.back (M := mI M m 0 0) hw q26 (fun k hk => by rw [r26]; exact goT_o hA hL hk)
        refine hQ _ _ ⟨_, rfl, ?_, fun _ => ?_⟩
        · rw [if_pos (by omega)]
          refine RD.mk (g := mci (mC (wI (mI M m 0 0) g26) (m + 4) 0 (m + 1) 0 368)) (l := l26) hb.2 y26.tm (KnOk.at hK26 (fun p => rdC_o (by omega)) (fun p => rfl)) ?_
          unfold sk01 at hsk26 ⊢
          rw [rdC_o (by omega)]
          exact hsk26
        · unfold trialAns
          first
          | rw [if_pos h31]
          | (rw [if_neg h31]
             first | exact (vP_t h48).symm | exact (vP_f h48).symm)
    · refine x_aload_n dX8_trial_34 rfl rfl ?_
      refine g_getR (kI := 1) rfl dX8_trial_35 fX8_13_8 (by first | assumption | exact hT.2.1) (by first | assumption | exact hT.2.1) ?_
      refine x_bipush dX8_trial_38 rfl ?_
      refine x_iald dX8_trial_40 (by first | assumption | exact hT.2.1) (by omega) (by omega) ?_
      try simp (disch := omega) only [rdI_e, rdI_n, rdC_i, rdC_o, rdW, rdR, rdU_e, rdU_n, rdLW, Int.add_zero, hw, r26]
      refine x_goto (tgt := 56) dX8_trial_41 (by decide) ?_
      refine x_istore_n (L' := [some _, some _, some _, some _]) dX8_trial_56 rfl (by decide) rfl ?_
      refine x_aload_n dX8_trial_57 rfl rfl ?_
      refine g_callN (vs := [_]) (d' := d - 1) rfl (s_X8_bringsBack (M := wL (mC (mI M m 0 0) (m + 1) 0 (m + 4) 0 368) g26 l26) (by omega) hT) dX8_trial_58 kX8_470 (by omega) (by decide) rfl (Nat.le_of_ble_eq_true rfl) (rcv_o (by first | assumption | exact hT.2.1) rfl) (fun M58 h58 => ?_)
      subst h58
      refine x_iload_n dX8_trial_61 rfl rfl ?_
      refine x_ireturn rfl dX8_trial_62 ?_
      have hb := TQ.back (M := mI M m 0 0) hw q26 (fun k hk => by rw [r26]; exact goT_o hA hL hk)
      refine hQ _ _ ⟨_, rfl, ?_, fun _ => ?_⟩
      · rw [if_pos (by omega)]
        refine RD.mk (g := mci (mC (wI (mI M m 0 0) g26) (m + 4) 0 (m + 1) 0 368)) (l := l26) hb.2 y26.tm (KnOk.at hK26 (fun p => rdC_o (by omega)) (fun p => rfl)) ?_
        unfold sk01 at hsk26 ⊢
        rw [rdC_o (by omega)]
        exact hsk26
      · unfold trialAns
        first
        | rw [if_pos h31]
        | (rw [if_neg h31]
           first | exact (vP_t h48).symm | exact (vP_f h48).symm)
  · first | have f11' := (f11.1 (by omega)).symm | have f11' := (f11.2 (by omega)).symm
    subst f11'
    rw [e11] at h14
    try simp only [vP_0, vP_1, vP_n0, vP_n1, Classical.not_not] at h14
    refine x_iconst dX8_trial_17 rfl ?_
    refine x_ireturn rfl dX8_trial_18 ?_
    exact hQ _ _ ⟨_, rfl, by rw [if_neg (by omega)]; exact RD.t hP, fun q => absurd q (by omega)⟩
theorem purseS_r {s : Int} (h : okA v) (hL : lawOK v) : 0 ≤ purseS v n s ∧ purseS v n s ≤ 9999 :=
  (okA_goT (dr := True) (h.us (Or.inr (Or.inr rfl))) (hL.eqM (eqM_us (i := 11) (x := s) (by omega))) n.toNat).1.1.2.2.2.2.2.2.2.2.2.1
theorem spanR_s {t : Nat} : spanR v n b (t + 1) = if spanR v n b t < 0 then purseS v n ((t + 1 : Nat) : Int) else if b = 0 then (if spanR v n b t ≤ purseS v n ((t + 1 : Nat) : Int) then spanR v n b t else purseS v n ((t + 1 : Nat) : Int)) else (if spanR v n b t ≤ purseS v n ((t + 1 : Nat) : Int) then purseS v n ((t + 1 : Nat) : Int) else spanR v n b t) := rfl
theorem s_X8_span (hd : 21 ≤ d) (hP : TP M m v) : CS G d mX8_span [dR m, dI n, dI b] M (postI fun x M1 => RD M m (if 0 ≤ n ∧ n ≤ 60 then 0 else 1) M1 ∧ (0 ≤ n ∧ n ≤ 60 → x = spanAns v n b)) := by
  obtain ⟨hT, hw, hA, hL, hK, hsk⟩ := id hP
  have hT_ := hT; obtain ⟨p0, p1, ⟨c1, c2, c3, c4, c5, c6, c7, c8, c9, c10, c11, c12, c13, c14, c15⟩, ⟨t1, t2, t3, t4, t5, t6, t7, t8, t9, t10, t11, t12, t13, t14, t15⟩⟩ := hT_
  have e1 : ((0 : Int) = 0) = True := by simp
  refine CS.mkQ (by decide) (Nat.le_of_ble_eq_true rfl) fun Q hQ => ?_
  by_cases hn : 0 ≤ n ∧ n ≤ 60
  · rw [if_pos hn] at hQ
    have loop : ∀ (t : Nat) (s x : Int) (g l : Ci), (7 - s).toNat = t → (1 ≤ s) → (s ≤ 7) → (x = spanR v n b (s - 1).toNat) → (x = -1 ∧ s = 1 ∨ 0 ≤ x ∧ x ≤ 9999) → (g (m + 1) = v) → (∀ k, g (m + 4) k = mci (mC (mI M m 0 0) (m + 1) 0 (m + 4) 0 368) (m + 4) k) → (TQ m (mci (mI M m 0 0)) g) → (TM m (mcl M) l) → (KnOk g l m) → (sk01 g m) → WP G d mX8_span 28 [some (dR m), some (dI n), some (dI b), some (dI x), some (dI s), none] [] (wL M g l) Q := by
      intro t
      induction t using Nat.strongRecOn with
      | _ t ih =>
        intro s x g l ht s0 s1 hx hxr hw h4 hf hl hK hs
        by_cases hs7 : s ≤ 6
        · have hu : (up g (m + 1) 11 s) (m + 1) = us v 11 s := mciIs (M := wL M g l) hw
          have hA1 : okA (us v 11 s) := hA.us (Or.inr (Or.inr rfl))
          have hL1 : lawOK (us v 11 s) := hL.eqM (eqM_us (by omega))
          have hpr := purseS_r (n := n) (s := s) hA hL
          have es : spanR v n b (s + 1 - 1).toNat = (if x < 0 then purseS v n s else if b = 0 then (if x ≤ purseS v n s then x else purseS v n s) else (if x ≤ purseS v n s then purseS v n s else x)) := by
            rw [show (s + 1 - 1).toNat = (s - 1).toNat + 1 by omega, hx]
            have : (((s - 1).toNat + 1 : Nat) : Int) = s := by omega
            rw [spanR_s, this]
          refine x_iload dX8_span_28 rfl ?_
          refine x_bipush dX8_span_30 rfl ?_
          refine x_icmp_gt (tgt := 99) dX8_span_32 (by decide) (fun h32 => ?_) (fun h32 => ?_)
          · omega
          · refine x_aload_n dX8_span_35 rfl rfl ?_
            refine g_getR (kI := 1) rfl dX8_span_36 fX8_13_8 (by first | assumption | exact hT.2.1) (by first | assumption | exact hT.2.1) ?_
            refine x_bipush dX8_span_39 rfl ?_
            refine x_iload dX8_span_41 rfl ?_
            refine x_iast (by omega) dX8_span_43 (by first | assumption | exact hT.2.1) (by omega) (by omega) ?_
            refine x_aload_n dX8_span_44 rfl rfl ?_
            refine x_iload_n dX8_span_45 rfl rfl ?_
            refine x_iconst dX8_span_46 rfl ?_
            refine g_callI (vs := [_, _, _]) (d' := d - 1) rfl (s_X8_goesOn (M := wL M (up g (m + 1) 11 s) l) (by omega) hT hu hA1 hL1 (KnOk.at hK (fun p => rdU_n (by omega)) (fun p => rfl)) (sk01.at hs (rdU_n (by omega))) hn (Or.inl rfl)) dX8_span_47 kX8_442 (by omega) (by decide) rfl (Nat.le_of_ble_eq_true rfl) (rcv_o (by first | assumption | exact hT.2.1) rfl) (fun x47 M47 h47 => ?_)
            obtain ⟨e47, g47, l47, hM47, r47, q47, y47, hK47, hTr47, hsk47⟩ := h47
            rw [e1] at r47
            subst hM47
            refine x_pop dX8_span_50 rfl ?_
            refine x_aload_n dX8_span_51 rfl rfl ?_
            refine g_getR (kI := 1) rfl dX8_span_52 fX8_13_8 (by first | assumption | exact hT.2.1) (by first | assumption | exact hT.2.1) ?_
            refine x_bipush dX8_span_55 rfl ?_
            refine x_iald dX8_span_57 (by first | assumption | exact hT.2.1) (by omega) (by omega) ?_
            rw [show mci (wL (wL M (up g (m + 1) 11 s) l) g47 l47) (m + 1) 9 = purseS v n s from congrFun r47 9]
            refine x_istore (L' := [some _, some _, some _, some _, some _, some _]) dX8_span_58 (by decide) rfl ?_
            refine x_aload_n dX8_span_60 rfl rfl ?_
            refine g_callN (vs := [_]) (d' := d - 1) rfl (s_X8_bringsBack (M := wL M g47 l47) (by omega) hT) dX8_span_61 kX8_470 (by omega) (by decide) rfl (Nat.le_of_ble_eq_true rfl) (rcv_o (by first | assumption | exact hT.2.1) rfl) (fun M61 h61 => ?_)
            subst h61
            have hw2 : mci (mC (wL M g47 l47) (m + 4) 0 (m + 1) 0 368) (m + 1) = v := funext fun k => by
              by_cases hk : 0 ≤ k ∧ k < 368
              · refine (rdC_i (by omega)).trans ((q47 _ _ (by omega) (by omega) (by unfold scr; omega)).trans ((rdU_n (by omega)).trans ((h4 _).trans ((rdC_i (by omega)).trans ?_))))
                rw [← TP.z (x := 0) hP |>.2.1]
                exact congrArg _ (by omega)
              · refine (rdC_o (by omega)).trans ((congrFun r47 k).trans ((goT_o hA1 hL1 (by omega)).trans (us_n (by omega))))
            have hq2 : TQ m (mci (mI M m 0 0)) (mci (mC (wL M g47 l47) (m + 4) 0 (m + 1) 0 368)) := fun a k p1 p2 p3 p4 p5 p6 p7 => by
              by_cases ha : a = m + 1
              · subst ha
                rw [hw2]
                exact (congrFun (TP.z (x := 0) hP).2.1 k).symm
              · exact (rdC_o (by omega)).trans ((q47 a k ha p4 p1).trans ((rdU_n (by omega)).trans (hf a k p1 p2 p3 p4 p5 p6 p7)))
            have nx : ∀ x', x' = (if x < 0 then purseS v n s else if b = 0 then (if x ≤ purseS v n s then x else purseS v n s) else (if x ≤ purseS v n s then purseS v n s else x)) → WP G d mX8_span 28 [some (dR m), some (dI n), some (dI b), some (dI x'), some (dI (s + 1)), none] [] (mC (wL M g47 l47) (m + 4) 0 (m + 1) 0 368) Q := fun x' ex => by
              refine WP.mem (M1 := wL M (mci (mC (wL M g47 l47) (m + 4) 0 (m + 1) 0 368)) l47) rfl (ih _ (by omega) (s + 1) x' _ l47 rfl (by omega) (by omega) (ex.trans es.symm) (Or.inr ?_) hw2 (fun k => ?_) hq2 (TM.trans hl y47.tm) (KnOk.at hK47 (fun p => rdC_o (by omega)) (fun p => rfl)) ?_)
              · rw [ex]
                split
                · exact hpr
                · split
                  · split <;> omega
                  · split <;> omega
              · exact (rdC_o (by omega)).trans ((q47 _ _ (by omega) (by omega) (by unfold scr; omega)).trans ((rdU_n (by omega)).trans (h4 k)))
              · unfold sk01 at hsk47 ⊢
                rw [rdC_o (by omega)]
                exact hsk47
            refine x_iload_n dX8_span_64 rfl rfl ?_
            refine x_if_ge (tgt := 73) dX8_span_65 (by decide) (fun h65 => ?_) (fun h65 => ?_)
            · refine x_iload_n dX8_span_73 rfl rfl ?_
              refine x_if_eq (tgt := 86) dX8_span_74 (by decide) (fun h74 => ?_) (fun h74 => ?_)
              · refine x_iload_n dX8_span_86 rfl rfl ?_
                refine x_iload dX8_span_87 rfl ?_
                refine g_callI (vs := [_, _]) (d' := d - 1) rfl (s_min (by omega)) dX8_span_89 kX8_387 (by omega) (by decide) rfl (Nat.le_of_ble_eq_true rfl) (rcv_n) (fun x89 M89 h89 => ?_)
                obtain ⟨e89, f89⟩ := h89
                have f89' := f89.symm
                subst f89'
                refine x_istore_n (L' := [some _, some _, some _, some _, some _, some _]) dX8_span_92 rfl (by decide) rfl ?_
                first | refine x_iincN (L' := [some _, some _, some _, some _, some _, some _]) dX8_span_93 rfl (by decide) (by unfold i32; omega) rfl ?_ | refine x_iinc (L' := [some _, some _, some _, some _, some _, some _]) dX8_span_93 rfl (by decide) rfl ?_
                refine x_goto (tgt := 28) dX8_span_96 (by decide) ?_
                first
                | (refine x_fgt (by simp [subL]) (nx x80 ?_)
                   rw [if_neg (by omega), if_neg h74]; split <;> omega)
                | (refine x_fgt (by simp [subL]) (nx x89 ?_)
                   rw [if_neg (by omega), if_pos h74]; split <;> omega)
                | (refine x_fgt (by simp [subL]) (nx (purseS v n s) ?_)
                   rw [if_pos (by omega)])
              · refine x_iload_n dX8_span_77 rfl rfl ?_
                refine x_iload dX8_span_78 rfl ?_
                refine g_callI (vs := [_, _]) (d' := d - 1) rfl (s_max (by omega)) dX8_span_80 kX8_509 (by omega) (by decide) rfl (Nat.le_of_ble_eq_true rfl) (rcv_n) (fun x80 M80 h80 => ?_)
                obtain ⟨e80, f80⟩ := h80
                have f80' := f80.symm
                subst f80'
                refine x_goto (tgt := 92) dX8_span_83 (by decide) ?_
                refine x_istore_n (L' := [some _, some _, some _, some _, some _, some _]) dX8_span_92 rfl (by decide) rfl ?_
                first | refine x_iincN (L' := [some _, some _, some _, some _, some _, some _]) dX8_span_93 rfl (by decide) (by unfold i32; omega) rfl ?_ | refine x_iinc (L' := [some _, some _, some _, some _, some _, some _]) dX8_span_93 rfl (by decide) rfl ?_
                refine x_goto (tgt := 28) dX8_span_96 (by decide) ?_
                first
                | (refine x_fgt (by simp [subL]) (nx x80 ?_)
                   rw [if_neg (by omega), if_neg h74]; split <;> omega)
                | (refine x_fgt (by simp [subL]) (nx x89 ?_)
                   rw [if_neg (by omega), if_pos h74]; split <;> omega)
                | (refine x_fgt (by simp [subL]) (nx (purseS v n s) ?_)
                   rw [if_pos (by omega)])
            · refine x_iload dX8_span_68 rfl ?_
              refine x_goto (tgt := 92) dX8_span_70 (by decide) ?_
              refine x_istore_n (L' := [some _, some _, some _, some _, some _, some _]) dX8_span_92 rfl (by decide) rfl ?_
              first | refine x_iincN (L' := [some _, some _, some _, some _, some _, some _]) dX8_span_93 rfl (by decide) (by unfold i32; omega) rfl ?_ | refine x_iinc (L' := [some _, some _, some _, some _, some _, some _]) dX8_span_93 rfl (by decide) rfl ?_
              refine x_goto (tgt := 28) dX8_span_96 (by decide) ?_
              first
              | (refine x_fgt (by simp [subL]) (nx x80 ?_)
                 rw [if_neg (by omega), if_neg h74]; split <;> omega)
              | (refine x_fgt (by simp [subL]) (nx x89 ?_)
                 rw [if_neg (by omega), if_pos h74]; split <;> omega)
              | (refine x_fgt (by simp [subL]) (nx (purseS v n s) ?_)
                 rw [if_pos (by omega)])
        · refine x_iload dX8_span_28 rfl ?_
          refine x_bipush dX8_span_30 rfl ?_
          refine x_icmp_gt (tgt := 99) dX8_span_32 (by decide) (fun h32 => ?_) (fun h32 => ?_)
          · refine x_iload_n dX8_span_99 rfl rfl ?_
            refine x_ireturn rfl dX8_span_100 ?_
            refine hQ _ _ ⟨_, rfl, RD.mk hf hl hK hs, fun _ => ?_⟩
            unfold spanAns
            rw [hx, show (s - 1).toNat = 6 by omega]
          · omega
    refine x_aload_n dX8_span_0 rfl rfl ?_
    refine x_iconst dX8_span_1 rfl ?_
    refine g_putI (kI := 0) rfl dX8_span_2 fX8_3_8 (by first | assumption | exact hT.2.1) ?_
    obtain ⟨hT, hw, hA, hL, hK, hsk⟩ := TP.z (x := 0) hP
    refine x_aload_n dX8_span_5 rfl rfl ?_
    refine x_iload_n dX8_span_6 rfl rfl ?_
    refine g_callI (vs := [_]) (d' := d - 1) rfl (s_X8_noTicks (by omega)) dX8_span_7 kX8_550 (by omega) (by decide) rfl (Nat.le_of_ble_eq_true rfl) (rcv_n) (fun x7 M7 h7 => ?_)
    obtain ⟨e7, f7⟩ := h7
    have f7' := f7.symm
    subst f7'
    subst e7
    refine x_iconst dX8_span_10 rfl ?_
    refine g_callI (vs := [_, _, _]) (d' := d - 1) rfl (s_X8_throwsIf (by omega) hT (by first | omega | exact vP_r _)) dX8_span_11 kX8_280 (by omega) (by decide) rfl (Nat.le_of_ble_eq_true rfl) (rcv_o (by first | assumption | exact hT.2.1) rfl) (fun x11 M11 h11 => ?_)
    obtain ⟨e11, r11, f11⟩ := h11
    refine x_if_eq (tgt := 19) dX8_span_14 (by decide) (fun h14 => ?_) (fun h14 => ?_)
    · first | have f11' := (f11.1 (by omega)).symm | have f11' := (f11.2 (by omega)).symm
      subst f11'
      rw [e11] at h14
      try simp only [vP_0, vP_1, vP_n0, vP_n1, Classical.not_not] at h14
      refine x_aload_n dX8_span_19 rfl rfl ?_
      refine g_callN (vs := [_]) (d' := d - 1) rfl (s_X8_keepsAll (M := mI M m 0 0) (by omega) hT) dX8_span_20 kX8_464 (by omega) (by decide) rfl (Nat.le_of_ble_eq_true rfl) (rcv_o (by first | assumption | exact hT.2.1) rfl) (fun M20 h20 => ?_)
      subst h20
      refine x_iconst dX8_span_23 rfl ?_
      refine x_istore_n (L' := [some _, some _, some _, some _, none, none]) dX8_span_24 rfl (by decide) rfl ?_
      refine x_iconst dX8_span_25 rfl ?_
      refine x_istore (L' := [some _, some _, some _, some _, some _, none]) dX8_span_26 (by decide) rfl ?_
      refine WP.mem (M1 := wL M (mci (mC (mI M m 0 0) (m + 1) 0 (m + 4) 0 368)) (mcl M)) rfl (loop _ 1 (-1) _ _ rfl (by omega) (by omega) rfl (by omega) (mciC (by omega) hw) (fun k => rfl) (fun a k p1 p2 p3 p4 p5 p6 p7 => rdC_o (by omega)) TM.rfl (KnOk.at hK (fun p => rdC_o (by omega)) (fun p => rfl)) ?_)
      unfold sk01 at hsk ⊢
      rw [rdC_o (by omega)]
      exact hsk
    · rw [e11] at h14
      try simp only [vP_0, vP_1, vP_n0, vP_n1, Classical.not_not] at h14
      omega
  · rw [if_neg hn] at hQ
    refine x_aload_n dX8_span_0 rfl rfl ?_
    refine x_iconst dX8_span_1 rfl ?_
    refine g_putI (kI := 0) rfl dX8_span_2 fX8_3_8 (by first | assumption | exact hT.2.1) ?_
    refine x_aload_n dX8_span_5 rfl rfl ?_
    refine x_iload_n dX8_span_6 rfl rfl ?_
    refine g_callI (vs := [_]) (d' := d - 1) rfl (s_X8_noTicks (by omega)) dX8_span_7 kX8_550 (by omega) (by decide) rfl (Nat.le_of_ble_eq_true rfl) (rcv_n) (fun x7 M7 h7 => ?_)
    obtain ⟨e7, f7⟩ := h7
    have f7' := f7.symm
    subst f7'
    subst e7
    refine x_iconst dX8_span_10 rfl ?_
    refine g_callI (vs := [_, _, _]) (d' := d - 1) rfl (s_X8_throwsIf (by omega) hT (by first | omega | exact vP_r _)) dX8_span_11 kX8_280 (by omega) (by decide) rfl (Nat.le_of_ble_eq_true rfl) (rcv_o (by first | assumption | exact hT.2.1) rfl) (fun x11 M11 h11 => ?_)
    obtain ⟨e11, r11, f11⟩ := h11
    refine x_if_eq (tgt := 19) dX8_span_14 (by decide) (fun h14 => ?_) (fun h14 => ?_)
    · rw [e11] at h14
      try simp only [vP_0, vP_1, vP_n0, vP_n1, Classical.not_not] at h14
      omega
    · first | have f11' := (f11.1 (by omega)).symm | have f11' := (f11.2 (by omega)).symm
      subst f11'
      rw [e11] at h14
      try simp only [vP_0, vP_1, vP_n0, vP_n1, Classical.not_not] at h14
      refine x_iconst dX8_span_17 rfl ?_
      refine x_ireturn rfl dX8_span_18 ?_
      exact hQ _ _ ⟨_, rfl, RD.t hP, fun q => absurd q hn⟩
end X8

