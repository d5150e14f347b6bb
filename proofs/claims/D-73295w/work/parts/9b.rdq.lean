/-! GuestViewModel: reading of a law, parts and sums -/
/-- the bench with a law under way behind it -/
def drf (v u : Vw) : Vw := fun k => if 1217 ≤ k then u (k - 849) else v k
theorem drf_us {v u : Vw} {i j x : Int} (h : 1217 ≤ i) (hj : j = i - 849) : us (drf v u) i x = drf v (us u j x) := by
  refine funext fun k => ?_
  unfold us drf
  by_cases q : k = i
  · rw [if_pos q, if_pos (by omega)]
    exact (if_pos (by omega)).symm
  · rw [if_neg q]
    by_cases q2 : 1217 ≤ k
    · rw [if_pos q2, if_pos q2]
      exact (if_neg (by omega)).symm
    · rw [if_neg q2, if_neg q2]
theorem drf_r {v u : Vw} {i j : Int} (h : 1217 ≤ i) (hj : j = i - 849) : drf v u i = u j := by
  unfold drf
  rw [if_pos h, hj]
def LOut (M : Mem) (m dp : Int) (v : Vw) (r : LgR) (x : Int) (M1 : Mem) : Prop :=
  (∀ f, r = .inl f → x = 0 ∧ ∃ p' dp' c' u', M1 = mQr M m p' f dp' c' (drf v u')) ∧ ∀ y, r = .inr y → x = 1 ∧ ∃ b', M1 = mQr M m y.1 b' dp y.2.1 (drf v y.2.2)
theorem LOut.f {M : Mem} {m dp f p' dp' c' : Int} {v u' : Vw} {r : LgR} (hr : r = .inl f) : LOut M m dp v r 0 (mQr M m p' f dp' c' (drf v u')) := by
  subst hr
  refine ⟨fun g q => ?_, fun y q => by cases q⟩
  cases q
  exact ⟨rfl, p', dp', c', u', rfl⟩
theorem LOut.s {M : Mem} {m dp b' q c' : Int} {v u' : Vw} {r : LgR} (hr : r = .inr (q, c', u')) : LOut M m dp v r 1 (mQr M m q b' dp c' (drf v u')) := by
  subst hr
  refine ⟨fun g q => (by cases q), fun y q => ?_⟩
  cases q
  exact ⟨rfl, b', rfl⟩
theorem LOut.z {M : Mem} {m dp : Int} {v : Vw} {r : LgR} {x : Int} {M1 : Mem} (h : LOut M m dp v r x M1) : x = 0 ∨ x = 1 := by
  rcases hr : r with f | y
  · exact Or.inl (h.1 f hr).1
  · exact Or.inr (h.2 y hr).1
theorem prtX {tp : Int → Int} {b q : Int} : prtW tp b q = (if isW tp b q (txB 0) then 0 else (if isW tp b q (txB 1) then 1 else (if isW tp b q (txB 2) then 2 else (if isW tp b q (txB 3) then 3 else (if isW tp b q (txB 4) then 4 else (if isW tp b q (txB 5) then 5 else (if isW tp b q (txB 6) then 6 else -1))))))) := rfl
theorem tagX {tp : Int → Int} {b q : Int} : tagW tp b q = (if isW tp b q (txB 7) then 0 else (if isW tp b q (txB 8) then 1 else (if isW tp b q (txB 9) then 2 else -1))) := rfl
section X8
variable {G : GW} {d : Nat} {M : Mem} {m p b dp c e lo hi k n o a x : Int} {w v u : Vw} {tp : Int → Int}
theorem s_X8_emits (hd : 10 ≤ d) (hR : RdH M m tp e) (hc : 0 ≤ c ∧ c < 400) : CS G d mX8_emits [dR m, dI k, dI x] (mQr M m p b dp c (drf v u)) (postN fun M1 => M1 = mQr M m p b dp (c + 1) (drf v (us (us u (417 + 2 * c) k) (418 + 2 * c) x))) := by
  obtain ⟨hT, he, htp, he2, hX⟩ := id hR
  have hT_ := hT; obtain ⟨p0, p1, ⟨c1, c2, c3, c4, c5, c6, c7, c8, c9, c10, c11, c12, c13, c14, c15⟩, ⟨t1, t2, t3, t4, t5, t6, t7, t8, t9, t10, t11, t12, t13, t14, t15⟩⟩ := hT_
  refine CS.mkQ (by decide) (Nat.le_of_ble_eq_true rfl) fun Q hQ => ?_
  refine x_aload_n dX8_emits_0 rfl rfl ?_
  refine g_getR (kI := 1) rfl dX8_emits_1 fX8_13_8 (by first | assumption | exact hT.2.1) (by first | assumption | exact hT.2.1) ?_
  refine x_sipush dX8_emits_4 rfl ?_
  refine x_iconst dX8_emits_7 rfl ?_
  refine x_aload_n dX8_emits_8 rfl rfl ?_
  refine g_getI (kI := 16) rfl dX8_emits_9 fX8_202_8 (by first | assumption | exact hT.2.1) ?_
  try simp (disch := omega) only [rdI_e, rdI_n, rdC_i, rdC_o, rdW, rdR, rdU_e, rdU_n, rdLW, Int.add_zero, mQ_p, mQ_b, mQ_d, mQ_c, mQ_w, mQ_e, mQ_t, he, htp]
  first | refine x_imulN dX8_emits_12 (by unfold i32; omega) ?_ | refine x_imul dX8_emits_12 ?_
  first | refine x_iaddN dX8_emits_13 (by unfold i32; omega) ?_ | refine x_iadd dX8_emits_13 ?_
  refine x_iload_n dX8_emits_14 rfl rfl ?_
  refine x_iast (by omega) dX8_emits_15 (by first | assumption | exact hT.2.1) (by omega) (by omega) ?_
  try simp only [mQ_wp, mQ_wb, mQ_wd, mQ_wc, mQ_ww]
  rw [drf_us (j := 417 + 2 * c) (by omega) (by omega)]
  refine x_aload_n dX8_emits_16 rfl rfl ?_
  refine g_getR (kI := 1) rfl dX8_emits_17 fX8_13_8 (by first | assumption | exact hT.2.1) (by first | assumption | exact hT.2.1) ?_
  refine x_sipush dX8_emits_20 rfl ?_
  refine x_iconst dX8_emits_23 rfl ?_
  refine x_aload_n dX8_emits_24 rfl rfl ?_
  refine g_getI (kI := 16) rfl dX8_emits_25 fX8_202_8 (by first | assumption | exact hT.2.1) ?_
  try simp (disch := omega) only [rdI_e, rdI_n, rdC_i, rdC_o, rdW, rdR, rdU_e, rdU_n, rdLW, Int.add_zero, mQ_p, mQ_b, mQ_d, mQ_c, mQ_w, mQ_e, mQ_t, he, htp]
  first | refine x_imulN dX8_emits_28 (by unfold i32; omega) ?_ | refine x_imul dX8_emits_28 ?_
  first | refine x_iaddN dX8_emits_29 (by unfold i32; omega) ?_ | refine x_iadd dX8_emits_29 ?_
  refine x_iconst dX8_emits_30 rfl ?_
  first | refine x_iaddN dX8_emits_31 (by unfold i32; omega) ?_ | refine x_iadd dX8_emits_31 ?_
  refine x_iload_n dX8_emits_32 rfl rfl ?_
  refine x_iast (by omega) dX8_emits_33 (by first | assumption | exact hT.2.1) (by omega) (by omega) ?_
  try simp only [mQ_wp, mQ_wb, mQ_wd, mQ_wc, mQ_ww]
  rw [drf_us (j := 418 + 2 * c) (by omega) (by omega)]
  refine x_aload_n dX8_emits_34 rfl rfl ?_
  refine x_dup dX8_emits_35 rfl ?_
  refine g_getI (kI := 16) rfl dX8_emits_36 fX8_202_8 (by first | assumption | exact hT.2.1) ?_
  try simp (disch := omega) only [rdI_e, rdI_n, rdC_i, rdC_o, rdW, rdR, rdU_e, rdU_n, rdLW, Int.add_zero, mQ_p, mQ_b, mQ_d, mQ_c, mQ_w, mQ_e, mQ_t, he, htp]
  refine x_iconst dX8_emits_39 rfl ?_
  first | refine x_iaddN dX8_emits_40 (by unfold i32; omega) ?_ | refine x_iadd dX8_emits_40 ?_
  refine g_putI (kI := 16) rfl dX8_emits_41 fX8_202_8 (by first | assumption | exact hT.2.1) ?_
  try simp only [mQ_wp, mQ_wb, mQ_wd, mQ_wc, mQ_ww]
  refine x_vreturn rfl dX8_emits_44 ?_
  exact hQ _ _ ⟨rfl, rfl⟩
theorem s_X8_wordOfPart (hd : 19 ≤ d) (hR : RdH M m tp e) (hp : 0 ≤ b ∧ b ≤ p ∧ p ≤ e) : CS G d mX8_wordOfPart [dR m] (mQr M m p b dp c w) (pur (mQr M m p b dp c w) (prtW tp b p)) := by
  obtain ⟨hT, he, htp, he2, hX⟩ := id hR
  refine CS.mkQ (by decide) (Nat.le_of_ble_eq_true rfl) fun Q hQ => ?_
  refine x_aload_n dX8_wordOfPart_0 rfl rfl ?_
  refine x_ldcs dX8_wordOfPart_1 (List.mem_of_getElem? (i := 34) rfl) ?_
  refine g_callI (vs := [_, _]) (d' := d - 1) rfl (s_X8_isWord (i := 0) (by omega) hR (by omega) (by omega) rfl) dX8_wordOfPart_3 kX8_124 (by omega) (by decide) rfl (Nat.le_of_ble_eq_true rfl) (rcv_o (by first | assumption | exact hT.2.1) rfl) (fun x3 M3 h3 => ?_)
  obtain ⟨e3, f3⟩ := h3
  have f3' := f3.symm
  subst f3'
  subst e3
  try simp (disch := omega) only [rdI_e, rdI_n, rdC_i, rdC_o, rdW, rdR, rdU_e, rdU_n, rdLW, Int.add_zero, mQ_p, mQ_b, mQ_d, mQ_c, mQ_w, mQ_e, mQ_t, he, htp]
  refine x_if_eq (tgt := 11) dX8_wordOfPart_6 (by decide) (fun h6 => ?_) (fun h6 => ?_)
  · try simp only [vP_0, vP_1, vP_n0, vP_n1, Classical.not_not] at h6
    refine x_aload_n dX8_wordOfPart_11 rfl rfl ?_
    refine x_ldcs dX8_wordOfPart_12 (List.mem_of_getElem? (i := 60) rfl) ?_
    refine g_callI (vs := [_, _]) (d' := d - 1) rfl (s_X8_isWord (i := 1) (by omega) hR (by omega) (by omega) rfl) dX8_wordOfPart_14 kX8_124 (by omega) (by decide) rfl (Nat.le_of_ble_eq_true rfl) (rcv_o (by first | assumption | exact hT.2.1) rfl) (fun x14 M14 h14 => ?_)
    obtain ⟨e14, f14⟩ := h14
    have f14' := f14.symm
    subst f14'
    subst e14
    try simp (disch := omega) only [rdI_e, rdI_n, rdC_i, rdC_o, rdW, rdR, rdU_e, rdU_n, rdLW, Int.add_zero, mQ_p, mQ_b, mQ_d, mQ_c, mQ_w, mQ_e, mQ_t, he, htp]
    refine x_if_eq (tgt := 22) dX8_wordOfPart_17 (by decide) (fun h17 => ?_) (fun h17 => ?_)
    · try simp only [vP_0, vP_1, vP_n0, vP_n1, Classical.not_not] at h17
      refine x_aload_n dX8_wordOfPart_22 rfl rfl ?_
      refine x_ldcs dX8_wordOfPart_23 (List.mem_of_getElem? (i := 61) rfl) ?_
      refine g_callI (vs := [_, _]) (d' := d - 1) rfl (s_X8_isWord (i := 2) (by omega) hR (by omega) (by omega) rfl) dX8_wordOfPart_25 kX8_124 (by omega) (by decide) rfl (Nat.le_of_ble_eq_true rfl) (rcv_o (by first | assumption | exact hT.2.1) rfl) (fun x25 M25 h25 => ?_)
      obtain ⟨e25, f25⟩ := h25
      have f25' := f25.symm
      subst f25'
      subst e25
      try simp (disch := omega) only [rdI_e, rdI_n, rdC_i, rdC_o, rdW, rdR, rdU_e, rdU_n, rdLW, Int.add_zero, mQ_p, mQ_b, mQ_d, mQ_c, mQ_w, mQ_e, mQ_t, he, htp]
      refine x_if_eq (tgt := 33) dX8_wordOfPart_28 (by decide) (fun h28 => ?_) (fun h28 => ?_)
      · try simp only [vP_0, vP_1, vP_n0, vP_n1, Classical.not_not] at h28
        refine x_aload_n dX8_wordOfPart_33 rfl rfl ?_
        refine x_ldcs dX8_wordOfPart_34 (List.mem_of_getElem? (i := 62) rfl) ?_
        refine g_callI (vs := [_, _]) (d' := d - 1) rfl (s_X8_isWord (i := 3) (by omega) hR (by omega) (by omega) rfl) dX8_wordOfPart_36 kX8_124 (by omega) (by decide) rfl (Nat.le_of_ble_eq_true rfl) (rcv_o (by first | assumption | exact hT.2.1) rfl) (fun x36 M36 h36 => ?_)
        obtain ⟨e36, f36⟩ := h36
        have f36' := f36.symm
        subst f36'
        subst e36
        try simp (disch := omega) only [rdI_e, rdI_n, rdC_i, rdC_o, rdW, rdR, rdU_e, rdU_n, rdLW, Int.add_zero, mQ_p, mQ_b, mQ_d, mQ_c, mQ_w, mQ_e, mQ_t, he, htp]
        refine x_if_eq (tgt := 44) dX8_wordOfPart_39 (by decide) (fun h39 => ?_) (fun h39 => ?_)
        · try simp only [vP_0, vP_1, vP_n0, vP_n1, Classical.not_not] at h39
          refine x_aload_n dX8_wordOfPart_44 rfl rfl ?_
          refine x_ldcs dX8_wordOfPart_45 (List.mem_of_getElem? (i := 63) rfl) ?_
          refine g_callI (vs := [_, _]) (d' := d - 1) rfl (s_X8_isWord (i := 4) (by omega) hR (by omega) (by omega) rfl) dX8_wordOfPart_47 kX8_124 (by omega) (by decide) rfl (Nat.le_of_ble_eq_true rfl) (rcv_o (by first | assumption | exact hT.2.1) rfl) (fun x47 M47 h47 => ?_)
          obtain ⟨e47, f47⟩ := h47
          have f47' := f47.symm
          subst f47'
          subst e47
          try simp (disch := omega) only [rdI_e, rdI_n, rdC_i, rdC_o, rdW, rdR, rdU_e, rdU_n, rdLW, Int.add_zero, mQ_p, mQ_b, mQ_d, mQ_c, mQ_w, mQ_e, mQ_t, he, htp]
          refine x_if_eq (tgt := 55) dX8_wordOfPart_50 (by decide) (fun h50 => ?_) (fun h50 => ?_)
          · try simp only [vP_0, vP_1, vP_n0, vP_n1, Classical.not_not] at h50
            refine x_aload_n dX8_wordOfPart_55 rfl rfl ?_
            refine x_ldcs dX8_wordOfPart_56 (List.mem_of_getElem? (i := 64) rfl) ?_
            refine g_callI (vs := [_, _]) (d' := d - 1) rfl (s_X8_isWord (i := 5) (by omega) hR (by omega) (by omega) rfl) dX8_wordOfPart_58 kX8_124 (by omega) (by decide) rfl (Nat.le_of_ble_eq_true rfl) (rcv_o (by first | assumption | exact hT.2.1) rfl) (fun x58 M58 h58 => ?_)
            obtain ⟨e58, f58⟩ := h58
            have f58' := f58.symm
            subst f58'
            subst e58
            try simp (disch := omega) only [rdI_e, rdI_n, rdC_i, rdC_o, rdW, rdR, rdU_e, rdU_n, rdLW, Int.add_zero, mQ_p, mQ_b, mQ_d, mQ_c, mQ_w, mQ_e, mQ_t, he, htp]
            refine x_if_eq (tgt := 66) dX8_wordOfPart_61 (by decide) (fun h61 => ?_) (fun h61 => ?_)
            · try simp only [vP_0, vP_1, vP_n0, vP_n1, Classical.not_not] at h61
              refine x_aload_n dX8_wordOfPart_66 rfl rfl ?_
              refine x_ldcs dX8_wordOfPart_67 (List.mem_of_getElem? (i := 65) rfl) ?_
              refine g_callI (vs := [_, _]) (d' := d - 1) rfl (s_X8_isWord (i := 6) (by omega) hR (by omega) (by omega) rfl) dX8_wordOfPart_69 kX8_124 (by omega) (by decide) rfl (Nat.le_of_ble_eq_true rfl) (rcv_o (by first | assumption | exact hT.2.1) rfl) (fun x69 M69 h69 => ?_)
              obtain ⟨e69, f69⟩ := h69
              have f69' := f69.symm
              subst f69'
              subst e69
              try simp (disch := omega) only [rdI_e, rdI_n, rdC_i, rdC_o, rdW, rdR, rdU_e, rdU_n, rdLW, Int.add_zero, mQ_p, mQ_b, mQ_d, mQ_c, mQ_w, mQ_e, mQ_t, he, htp]
              refine x_if_eq (tgt := 80) dX8_wordOfPart_72 (by decide) (fun h72 => ?_) (fun h72 => ?_)
              · try simp only [vP_0, vP_1, vP_n0, vP_n1, Classical.not_not] at h72
                refine x_iconst dX8_wordOfPart_80 rfl ?_
                refine x_ireturn rfl dX8_wordOfPart_81 ?_
                refine hQ _ _ ⟨_, rfl, ?_, rfl⟩
                first
                | (rw [prtX, if_pos h6])
                | (rw [prtX, if_neg h6, if_pos h17])
                | (rw [prtX, if_neg h6, if_neg h17, if_pos h28])
                | (rw [prtX, if_neg h6, if_neg h17, if_neg h28, if_pos h39])
                | (rw [prtX, if_neg h6, if_neg h17, if_neg h28, if_neg h39, if_pos h50])
                | (rw [prtX, if_neg h6, if_neg h17, if_neg h28, if_neg h39, if_neg h50, if_pos h61])
                | (rw [prtX, if_neg h6, if_neg h17, if_neg h28, if_neg h39, if_neg h50, if_neg h61, if_pos h72])
                | (rw [prtX, if_neg h6, if_neg h17, if_neg h28, if_neg h39, if_neg h50, if_neg h61, if_neg h72])
              · try simp only [vP_0, vP_1, vP_n0, vP_n1, Classical.not_not] at h72
                refine x_bipush dX8_wordOfPart_75 rfl ?_
                refine x_goto (tgt := 81) dX8_wordOfPart_77 (by decide) ?_
                refine x_ireturn rfl dX8_wordOfPart_81 ?_
                refine hQ _ _ ⟨_, rfl, ?_, rfl⟩
                first
                | (rw [prtX, if_pos h6])
                | (rw [prtX, if_neg h6, if_pos h17])
                | (rw [prtX, if_neg h6, if_neg h17, if_pos h28])
                | (rw [prtX, if_neg h6, if_neg h17, if_neg h28, if_pos h39])
                | (rw [prtX, if_neg h6, if_neg h17, if_neg h28, if_neg h39, if_pos h50])
                | (rw [prtX, if_neg h6, if_neg h17, if_neg h28, if_neg h39, if_neg h50, if_pos h61])
                | (rw [prtX, if_neg h6, if_neg h17, if_neg h28, if_neg h39, if_neg h50, if_neg h61, if_pos h72])
                | (rw [prtX, if_neg h6, if_neg h17, if_neg h28, if_neg h39, if_neg h50, if_neg h61, if_neg h72])
            · try simp only [vP_0, vP_1, vP_n0, vP_n1, Classical.not_not] at h61
              refine x_iconst dX8_wordOfPart_64 rfl ?_
              refine x_ireturn rfl dX8_wordOfPart_65 ?_
              refine hQ _ _ ⟨_, rfl, ?_, rfl⟩
              first
              | (rw [prtX, if_pos h6])
              | (rw [prtX, if_neg h6, if_pos h17])
              | (rw [prtX, if_neg h6, if_neg h17, if_pos h28])
              | (rw [prtX, if_neg h6, if_neg h17, if_neg h28, if_pos h39])
              | (rw [prtX, if_neg h6, if_neg h17, if_neg h28, if_neg h39, if_pos h50])
              | (rw [prtX, if_neg h6, if_neg h17, if_neg h28, if_neg h39, if_neg h50, if_pos h61])
              | (rw [prtX, if_neg h6, if_neg h17, if_neg h28, if_neg h39, if_neg h50, if_neg h61, if_pos h72])
              | (rw [prtX, if_neg h6, if_neg h17, if_neg h28, if_neg h39, if_neg h50, if_neg h61, if_neg h72])
          · try simp only [vP_0, vP_1, vP_n0, vP_n1, Classical.not_not] at h50
            refine x_iconst dX8_wordOfPart_53 rfl ?_
            refine x_ireturn rfl dX8_wordOfPart_54 ?_
            refine hQ _ _ ⟨_, rfl, ?_, rfl⟩
            first
            | (rw [prtX, if_pos h6])
            | (rw [prtX, if_neg h6, if_pos h17])
            | (rw [prtX, if_neg h6, if_neg h17, if_pos h28])
            | (rw [prtX, if_neg h6, if_neg h17, if_neg h28, if_pos h39])
            | (rw [prtX, if_neg h6, if_neg h17, if_neg h28, if_neg h39, if_pos h50])
            | (rw [prtX, if_neg h6, if_neg h17, if_neg h28, if_neg h39, if_neg h50, if_pos h61])
            | (rw [prtX, if_neg h6, if_neg h17, if_neg h28, if_neg h39, if_neg h50, if_neg h61, if_pos h72])
            | (rw [prtX, if_neg h6, if_neg h17, if_neg h28, if_neg h39, if_neg h50, if_neg h61, if_neg h72])
        · try simp only [vP_0, vP_1, vP_n0, vP_n1, Classical.not_not] at h39
          refine x_iconst dX8_wordOfPart_42 rfl ?_
          refine x_ireturn rfl dX8_wordOfPart_43 ?_
          refine hQ _ _ ⟨_, rfl, ?_, rfl⟩
          first
          | (rw [prtX, if_pos h6])
          | (rw [prtX, if_neg h6, if_pos h17])
          | (rw [prtX, if_neg h6, if_neg h17, if_pos h28])
          | (rw [prtX, if_neg h6, if_neg h17, if_neg h28, if_pos h39])
          | (rw [prtX, if_neg h6, if_neg h17, if_neg h28, if_neg h39, if_pos h50])
          | (rw [prtX, if_neg h6, if_neg h17, if_neg h28, if_neg h39, if_neg h50, if_pos h61])
          | (rw [prtX, if_neg h6, if_neg h17, if_neg h28, if_neg h39, if_neg h50, if_neg h61, if_pos h72])
          | (rw [prtX, if_neg h6, if_neg h17, if_neg h28, if_neg h39, if_neg h50, if_neg h61, if_neg h72])
      · try simp only [vP_0, vP_1, vP_n0, vP_n1, Classical.not_not] at h28
        refine x_iconst dX8_wordOfPart_31 rfl ?_
        refine x_ireturn rfl dX8_wordOfPart_32 ?_
        refine hQ _ _ ⟨_, rfl, ?_, rfl⟩
        first
        | (rw [prtX, if_pos h6])
        | (rw [prtX, if_neg h6, if_pos h17])
        | (rw [prtX, if_neg h6, if_neg h17, if_pos h28])
        | (rw [prtX, if_neg h6, if_neg h17, if_neg h28, if_pos h39])
        | (rw [prtX, if_neg h6, if_neg h17, if_neg h28, if_neg h39, if_pos h50])
        | (rw [prtX, if_neg h6, if_neg h17, if_neg h28, if_neg h39, if_neg h50, if_pos h61])
        | (rw [prtX, if_neg h6, if_neg h17, if_neg h28, if_neg h39, if_neg h50, if_neg h61, if_pos h72])
        | (rw [prtX, if_neg h6, if_neg h17, if_neg h28, if_neg h39, if_neg h50, if_neg h61, if_neg h72])
    · try simp only [vP_0, vP_1, vP_n0, vP_n1, Classical.not_not] at h17
      refine x_iconst dX8_wordOfPart_20 rfl ?_
      refine x_ireturn rfl dX8_wordOfPart_21 ?_
      refine hQ _ _ ⟨_, rfl, ?_, rfl⟩
      first
      | (rw [prtX, if_pos h6])
      | (rw [prtX, if_neg h6, if_pos h17])
      | (rw [prtX, if_neg h6, if_neg h17, if_pos h28])
      | (rw [prtX, if_neg h6, if_neg h17, if_neg h28, if_pos h39])
      | (rw [prtX, if_neg h6, if_neg h17, if_neg h28, if_neg h39, if_pos h50])
      | (rw [prtX, if_neg h6, if_neg h17, if_neg h28, if_neg h39, if_neg h50, if_pos h61])
      | (rw [prtX, if_neg h6, if_neg h17, if_neg h28, if_neg h39, if_neg h50, if_neg h61, if_pos h72])
      | (rw [prtX, if_neg h6, if_neg h17, if_neg h28, if_neg h39, if_neg h50, if_neg h61, if_neg h72])
  · try simp only [vP_0, vP_1, vP_n0, vP_n1, Classical.not_not] at h6
    refine x_iconst dX8_wordOfPart_9 rfl ?_
    refine x_ireturn rfl dX8_wordOfPart_10 ?_
    refine hQ _ _ ⟨_, rfl, ?_, rfl⟩
    first
    | (rw [prtX, if_pos h6])
    | (rw [prtX, if_neg h6, if_pos h17])
    | (rw [prtX, if_neg h6, if_neg h17, if_pos h28])
    | (rw [prtX, if_neg h6, if_neg h17, if_neg h28, if_pos h39])
    | (rw [prtX, if_neg h6, if_neg h17, if_neg h28, if_neg h39, if_pos h50])
    | (rw [prtX, if_neg h6, if_neg h17, if_neg h28, if_neg h39, if_neg h50, if_pos h61])
    | (rw [prtX, if_neg h6, if_neg h17, if_neg h28, if_neg h39, if_neg h50, if_neg h61, if_pos h72])
    | (rw [prtX, if_neg h6, if_neg h17, if_neg h28, if_neg h39, if_neg h50, if_neg h61, if_neg h72])
theorem s_X8_readPart (hd : 20 ≤ d) (hR : RdH M m tp e) (hp : (0 ≤ p ∧ p ≤ e) ∧ 0 ≤ c ∧ c < p) : CS G d mX8_readPart [dR m] (mQr M m p b dp c (drf v u)) (postI fun x M1 => LOut M m dp v (rPart tp e (p, c, u)) x M1) := by
  obtain ⟨hT, he, htp, he2, hX⟩ := id hR
  have hs := skB_r (tp := tp) hp.1.2
  have hs2 := wdB_r (tp := tp) hs.2
  have hT_ := hT; obtain ⟨p0, p1, ⟨c1, c2, c3, c4, c5, c6, c7, c8, c9, c10, c11, c12, c13, c14, c15⟩, ⟨t1, t2, t3, t4, t5, t6, t7, t8, t9, t10, t11, t12, t13, t14, t15⟩⟩ := hT_
  refine CS.mkQ (by decide) (Nat.le_of_ble_eq_true rfl) fun Q hQ => ?_
  by_cases hA : wdB tp e (skB tp e p) = skB tp e p
  · rcases hn : numP tp e p 0 999 with _ | ⟨y, z⟩
    · have er : rPart tp e (p, c, u) = .inl (skB tp e p) := by
        refine (if_pos hA).trans ?_
        show (match numP tp e p 0 999 with
          | none => .inl (skB tp e p)
          | some y => .inr (em (y.1, c, u) 10 y.2)) = (.inl (skB tp e p) : LgR)
        rw [hn]
      have hn' := (numI (tp := tp) hp.1.2).trans hn
      refine x_aload_n dX8_readPart_0 rfl rfl ?_
      refine g_callN (vs := [_]) (d' := d - 1) rfl (s_X8_letters (by omega) hR (by omega)) dX8_readPart_1 kX8_121 (by omega) (by decide) rfl (Nat.le_of_ble_eq_true rfl) (rcv_o (by first | assumption | exact hT.2.1) rfl) (fun M1 h1 => ?_)
      have f1 := h1.symm
      subst f1
      rw [hA]
      refine x_aload_n dX8_readPart_4 rfl rfl ?_
      refine g_getI (kI := 10) rfl dX8_readPart_5 fX8_96_8 (by first | assumption | exact hT.2.1) ?_
      try simp (disch := omega) only [rdI_e, rdI_n, rdC_i, rdC_o, rdW, rdR, rdU_e, rdU_n, rdLW, Int.add_zero, mQ_p, mQ_b, mQ_d, mQ_c, mQ_w, mQ_e, mQ_t, he, htp]
      refine x_aload_n dX8_readPart_8 rfl rfl ?_
      refine g_getI (kI := 12) rfl dX8_readPart_9 fX8_106_8 (by first | assumption | exact hT.2.1) ?_
      try simp (disch := omega) only [rdI_e, rdI_n, rdC_i, rdC_o, rdW, rdR, rdU_e, rdU_n, rdLW, Int.add_zero, mQ_p, mQ_b, mQ_d, mQ_c, mQ_w, mQ_e, mQ_t, he, htp]
      refine x_icmp_ne (tgt := 19) dX8_readPart_12 (by decide) (fun h12 => ?_) (fun h12 => ?_)
      · omega
      · refine x_iconst dX8_readPart_15 rfl ?_
        refine x_goto (tgt := 20) dX8_readPart_16 (by decide) ?_
        refine x_istore_n (L' := [some _, some _, none]) dX8_readPart_20 rfl (by decide) rfl ?_
        refine x_iload_n dX8_readPart_21 rfl rfl ?_
        refine x_if_eq (tgt := 36) dX8_readPart_22 (by decide) (fun h22 => ?_) (fun h22 => ?_)
        · omega
        · refine x_aload_n dX8_readPart_25 rfl rfl ?_
          refine x_iconst dX8_readPart_26 rfl ?_
          refine x_sipush dX8_readPart_27 rfl ?_
          refine g_callI (vs := [_, _, _]) (d' := d - 1) rfl (s_X8_number (by omega) hR (by omega)) dX8_readPart_30 kX8_128 (by omega) (by decide) rfl (Nat.le_of_ble_eq_true rfl) (rcv_o (by first | assumption | exact hT.2.1) rfl) (fun x30 M30 h30 => ?_)
          obtain ⟨q, hM3, -, hn3'⟩ := h30
          have ex3 := hn3' hn'
          subst ex3
          subst hM3
          rw [skB_i _ rfl]
          refine x_goto (tgt := 40) dX8_readPart_33 (by decide) ?_
          refine x_istore_n (L' := [some _, some _, some _]) dX8_readPart_40 rfl (by decide) rfl ?_
          refine x_aload_n dX8_readPart_41 rfl rfl ?_
          refine x_iload_n dX8_readPart_42 rfl rfl ?_
          refine x_if_eq (tgt := 51) dX8_readPart_43 (by decide) (fun h43 => ?_) (fun h43 => ?_)
          · omega
          · refine x_bipush dX8_readPart_46 rfl ?_
            refine x_goto (tgt := 52) dX8_readPart_48 (by decide) ?_
            refine x_iload_n dX8_readPart_52 rfl rfl ?_
            refine x_if_eq (tgt := 60) dX8_readPart_53 (by decide) (fun h53 => ?_) (fun h53 => ?_)
            · omega
            · refine x_iload_n dX8_readPart_56 rfl rfl ?_
              refine x_goto (tgt := 61) dX8_readPart_57 (by decide) ?_
              refine g_callN (vs := [_, _, _]) (d' := d - 1) rfl (s_X8_emits (by omega) hR (by omega)) dX8_readPart_61 kX8_220 (by omega) (by decide) rfl (Nat.le_of_ble_eq_true rfl) (rcv_o (by first | assumption | exact hT.2.1) rfl) (fun M61 h61 => ?_)
              have f61 := h61.symm
              subst f61
              refine x_iload_n dX8_readPart_64 rfl rfl ?_
              refine x_if_lt (tgt := 72) dX8_readPart_65 (by decide) (fun h65 => ?_) (fun h65 => ?_)
              · refine x_iconst dX8_readPart_72 rfl ?_
                refine x_zreturn (by first | exact Or.inl rfl | exact Or.inr rfl | exact vB_r _ | exact vP_r _ | assumption | omega) rfl dX8_readPart_73 ?_
                exact hQ _ _ ⟨_, rfl, LOut.f er⟩
              · omega
    · have hnr := numP_r hp.1.2 hn
      have er : rPart tp e (p, c, u) = .inr (em (y, c, u) 10 z) := by
        refine (if_pos hA).trans ?_
        show (match numP tp e p 0 999 with
          | none => .inl (skB tp e p)
          | some y => .inr (em (y.1, c, u) 10 y.2)) = (.inr (em (y, c, u) 10 z) : LgR)
        rw [hn]
      have hn' := (numI (tp := tp) hp.1.2).trans hn
      refine x_aload_n dX8_readPart_0 rfl rfl ?_
      refine g_callN (vs := [_]) (d' := d - 1) rfl (s_X8_letters (by omega) hR (by omega)) dX8_readPart_1 kX8_121 (by omega) (by decide) rfl (Nat.le_of_ble_eq_true rfl) (rcv_o (by first | assumption | exact hT.2.1) rfl) (fun M1 h1 => ?_)
      have f1 := h1.symm
      subst f1
      rw [hA]
      refine x_aload_n dX8_readPart_4 rfl rfl ?_
      refine g_getI (kI := 10) rfl dX8_readPart_5 fX8_96_8 (by first | assumption | exact hT.2.1) ?_
      try simp (disch := omega) only [rdI_e, rdI_n, rdC_i, rdC_o, rdW, rdR, rdU_e, rdU_n, rdLW, Int.add_zero, mQ_p, mQ_b, mQ_d, mQ_c, mQ_w, mQ_e, mQ_t, he, htp]
      refine x_aload_n dX8_readPart_8 rfl rfl ?_
      refine g_getI (kI := 12) rfl dX8_readPart_9 fX8_106_8 (by first | assumption | exact hT.2.1) ?_
      try simp (disch := omega) only [rdI_e, rdI_n, rdC_i, rdC_o, rdW, rdR, rdU_e, rdU_n, rdLW, Int.add_zero, mQ_p, mQ_b, mQ_d, mQ_c, mQ_w, mQ_e, mQ_t, he, htp]
      refine x_icmp_ne (tgt := 19) dX8_readPart_12 (by decide) (fun h12 => ?_) (fun h12 => ?_)
      · omega
      · refine x_iconst dX8_readPart_15 rfl ?_
        refine x_goto (tgt := 20) dX8_readPart_16 (by decide) ?_
        refine x_istore_n (L' := [some _, some _, none]) dX8_readPart_20 rfl (by decide) rfl ?_
        refine x_iload_n dX8_readPart_21 rfl rfl ?_
        refine x_if_eq (tgt := 36) dX8_readPart_22 (by decide) (fun h22 => ?_) (fun h22 => ?_)
        · omega
        · refine x_aload_n dX8_readPart_25 rfl rfl ?_
          refine x_iconst dX8_readPart_26 rfl ?_
          refine x_sipush dX8_readPart_27 rfl ?_
          refine g_callI (vs := [_, _, _]) (d' := d - 1) rfl (s_X8_number (by omega) hR (by omega)) dX8_readPart_30 kX8_128 (by omega) (by decide) rfl (Nat.le_of_ble_eq_true rfl) (rcv_o (by first | assumption | exact hT.2.1) rfl) (fun x30 M30 h30 => ?_)
          obtain ⟨q, hM3, hn3', -⟩ := h30
          obtain ⟨eq3, ex3⟩ := hn3' _ _ hn'
          subst ex3
          subst eq3
          subst hM3
          rw [skB_i _ rfl]
          refine x_goto (tgt := 40) dX8_readPart_33 (by decide) ?_
          refine x_istore_n (L' := [some _, some _, some _]) dX8_readPart_40 rfl (by decide) rfl ?_
          refine x_aload_n dX8_readPart_41 rfl rfl ?_
          refine x_iload_n dX8_readPart_42 rfl rfl ?_
          refine x_if_eq (tgt := 51) dX8_readPart_43 (by decide) (fun h43 => ?_) (fun h43 => ?_)
          · omega
          · refine x_bipush dX8_readPart_46 rfl ?_
            refine x_goto (tgt := 52) dX8_readPart_48 (by decide) ?_
            refine x_iload_n dX8_readPart_52 rfl rfl ?_
            refine x_if_eq (tgt := 60) dX8_readPart_53 (by decide) (fun h53 => ?_) (fun h53 => ?_)
            · omega
            · refine x_iload_n dX8_readPart_56 rfl rfl ?_
              refine x_goto (tgt := 61) dX8_readPart_57 (by decide) ?_
              refine g_callN (vs := [_, _, _]) (d' := d - 1) rfl (s_X8_emits (by omega) hR (by omega)) dX8_readPart_61 kX8_220 (by omega) (by decide) rfl (Nat.le_of_ble_eq_true rfl) (rcv_o (by first | assumption | exact hT.2.1) rfl) (fun M61 h61 => ?_)
              have f61 := h61.symm
              subst f61
              refine x_iload_n dX8_readPart_64 rfl rfl ?_
              refine x_if_lt (tgt := 72) dX8_readPart_65 (by decide) (fun h65 => ?_) (fun h65 => ?_)
              · omega
              · refine x_iconst dX8_readPart_68 rfl ?_
                refine x_goto (tgt := 73) dX8_readPart_69 (by decide) ?_
                refine x_zreturn (by first | exact Or.inl rfl | exact Or.inr rfl | exact vB_r _ | exact vP_r _ | assumption | omega) rfl dX8_readPart_73 ?_
                exact hQ _ _ ⟨_, rfl, LOut.s er⟩
  · by_cases hk : prtW tp (skB tp e p) (wdB tp e (skB tp e p)) < 0
    · have er : rPart tp e (p, c, u) = .inl (skB tp e p) := (if_neg hA).trans (if_pos hk)
      refine x_aload_n dX8_readPart_0 rfl rfl ?_
      refine g_callN (vs := [_]) (d' := d - 1) rfl (s_X8_letters (by omega) hR (by omega)) dX8_readPart_1 kX8_121 (by omega) (by decide) rfl (Nat.le_of_ble_eq_true rfl) (rcv_o (by first | assumption | exact hT.2.1) rfl) (fun M1 h1 => ?_)
      have f1 := h1.symm
      subst f1
      refine x_aload_n dX8_readPart_4 rfl rfl ?_
      refine g_getI (kI := 10) rfl dX8_readPart_5 fX8_96_8 (by first | assumption | exact hT.2.1) ?_
      try simp (disch := omega) only [rdI_e, rdI_n, rdC_i, rdC_o, rdW, rdR, rdU_e, rdU_n, rdLW, Int.add_zero, mQ_p, mQ_b, mQ_d, mQ_c, mQ_w, mQ_e, mQ_t, he, htp]
      refine x_aload_n dX8_readPart_8 rfl rfl ?_
      refine g_getI (kI := 12) rfl dX8_readPart_9 fX8_106_8 (by first | assumption | exact hT.2.1) ?_
      try simp (disch := omega) only [rdI_e, rdI_n, rdC_i, rdC_o, rdW, rdR, rdU_e, rdU_n, rdLW, Int.add_zero, mQ_p, mQ_b, mQ_d, mQ_c, mQ_w, mQ_e, mQ_t, he, htp]
      refine x_icmp_ne (tgt := 19) dX8_readPart_12 (by decide) (fun h12 => ?_) (fun h12 => ?_)
      · refine x_iconst dX8_readPart_19 rfl ?_
        refine x_istore_n (L' := [some _, some _, none]) dX8_readPart_20 rfl (by decide) rfl ?_
        refine x_iload_n dX8_readPart_21 rfl rfl ?_
        refine x_if_eq (tgt := 36) dX8_readPart_22 (by decide) (fun h22 => ?_) (fun h22 => ?_)
        · refine x_aload_n dX8_readPart_36 rfl rfl ?_
          refine g_callI (vs := [_]) (d' := d - 1) rfl (s_X8_wordOfPart (by omega) hR (by omega)) dX8_readPart_37 kX8_217 (by omega) (by decide) rfl (Nat.le_of_ble_eq_true rfl) (rcv_o (by first | assumption | exact hT.2.1) rfl) (fun x37 M37 h37 => ?_)
          obtain ⟨e37, f37⟩ := h37
          have f37' := f37.symm
          subst f37'
          subst e37
          try simp (disch := omega) only [rdI_e, rdI_n, rdC_i, rdC_o, rdW, rdR, rdU_e, rdU_n, rdLW, Int.add_zero, mQ_p, mQ_b, mQ_d, mQ_c, mQ_w, mQ_e, mQ_t, he, htp]
          refine x_istore_n (L' := [some _, some _, some _]) dX8_readPart_40 rfl (by decide) rfl ?_
          refine x_aload_n dX8_readPart_41 rfl rfl ?_
          refine x_iload_n dX8_readPart_42 rfl rfl ?_
          refine x_if_eq (tgt := 51) dX8_readPart_43 (by decide) (fun h43 => ?_) (fun h43 => ?_)
          · refine x_iload_n dX8_readPart_51 rfl rfl ?_
            refine x_iload_n dX8_readPart_52 rfl rfl ?_
            refine x_if_eq (tgt := 60) dX8_readPart_53 (by decide) (fun h53 => ?_) (fun h53 => ?_)
            · refine x_iconst dX8_readPart_60 rfl ?_
              refine g_callN (vs := [_, _, _]) (d' := d - 1) rfl (s_X8_emits (by omega) hR (by omega)) dX8_readPart_61 kX8_220 (by omega) (by decide) rfl (Nat.le_of_ble_eq_true rfl) (rcv_o (by first | assumption | exact hT.2.1) rfl) (fun M61 h61 => ?_)
              have f61 := h61.symm
              subst f61
              refine x_iload_n dX8_readPart_64 rfl rfl ?_
              refine x_if_lt (tgt := 72) dX8_readPart_65 (by decide) (fun h65 => ?_) (fun h65 => ?_)
              · refine x_iconst dX8_readPart_72 rfl ?_
                refine x_zreturn (by first | exact Or.inl rfl | exact Or.inr rfl | exact vB_r _ | exact vP_r _ | assumption | omega) rfl dX8_readPart_73 ?_
                exact hQ _ _ ⟨_, rfl, LOut.f er⟩
              · omega
            · omega
          · omega
        · omega
      · omega
    · have er : rPart tp e (p, c, u) = .inr (em (wdB tp e (skB tp e p), c, u) (prtW tp (skB tp e p) (wdB tp e (skB tp e p))) 0) := (if_neg hA).trans (if_neg hk)
      refine x_aload_n dX8_readPart_0 rfl rfl ?_
      refine g_callN (vs := [_]) (d' := d - 1) rfl (s_X8_letters (by omega) hR (by omega)) dX8_readPart_1 kX8_121 (by omega) (by decide) rfl (Nat.le_of_ble_eq_true rfl) (rcv_o (by first | assumption | exact hT.2.1) rfl) (fun M1 h1 => ?_)
      have f1 := h1.symm
      subst f1
      refine x_aload_n dX8_readPart_4 rfl rfl ?_
      refine g_getI (kI := 10) rfl dX8_readPart_5 fX8_96_8 (by first | assumption | exact hT.2.1) ?_
      try simp (disch := omega) only [rdI_e, rdI_n, rdC_i, rdC_o, rdW, rdR, rdU_e, rdU_n, rdLW, Int.add_zero, mQ_p, mQ_b, mQ_d, mQ_c, mQ_w, mQ_e, mQ_t, he, htp]
      refine x_aload_n dX8_readPart_8 rfl rfl ?_
      refine g_getI (kI := 12) rfl dX8_readPart_9 fX8_106_8 (by first | assumption | exact hT.2.1) ?_
      try simp (disch := omega) only [rdI_e, rdI_n, rdC_i, rdC_o, rdW, rdR, rdU_e, rdU_n, rdLW, Int.add_zero, mQ_p, mQ_b, mQ_d, mQ_c, mQ_w, mQ_e, mQ_t, he, htp]
      refine x_icmp_ne (tgt := 19) dX8_readPart_12 (by decide) (fun h12 => ?_) (fun h12 => ?_)
      · refine x_iconst dX8_readPart_19 rfl ?_
        refine x_istore_n (L' := [some _, some _, none]) dX8_readPart_20 rfl (by decide) rfl ?_
        refine x_iload_n dX8_readPart_21 rfl rfl ?_
        refine x_if_eq (tgt := 36) dX8_readPart_22 (by decide) (fun h22 => ?_) (fun h22 => ?_)
        · refine x_aload_n dX8_readPart_36 rfl rfl ?_
          refine g_callI (vs := [_]) (d' := d - 1) rfl (s_X8_wordOfPart (by omega) hR (by omega)) dX8_readPart_37 kX8_217 (by omega) (by decide) rfl (Nat.le_of_ble_eq_true rfl) (rcv_o (by first | assumption | exact hT.2.1) rfl) (fun x37 M37 h37 => ?_)
          obtain ⟨e37, f37⟩ := h37
          have f37' := f37.symm
          subst f37'
          subst e37
          try simp (disch := omega) only [rdI_e, rdI_n, rdC_i, rdC_o, rdW, rdR, rdU_e, rdU_n, rdLW, Int.add_zero, mQ_p, mQ_b, mQ_d, mQ_c, mQ_w, mQ_e, mQ_t, he, htp]
          refine x_istore_n (L' := [some _, some _, some _]) dX8_readPart_40 rfl (by decide) rfl ?_
          refine x_aload_n dX8_readPart_41 rfl rfl ?_
          refine x_iload_n dX8_readPart_42 rfl rfl ?_
          refine x_if_eq (tgt := 51) dX8_readPart_43 (by decide) (fun h43 => ?_) (fun h43 => ?_)
          · refine x_iload_n dX8_readPart_51 rfl rfl ?_
            refine x_iload_n dX8_readPart_52 rfl rfl ?_
            refine x_if_eq (tgt := 60) dX8_readPart_53 (by decide) (fun h53 => ?_) (fun h53 => ?_)
            · refine x_iconst dX8_readPart_60 rfl ?_
              refine g_callN (vs := [_, _, _]) (d' := d - 1) rfl (s_X8_emits (by omega) hR (by omega)) dX8_readPart_61 kX8_220 (by omega) (by decide) rfl (Nat.le_of_ble_eq_true rfl) (rcv_o (by first | assumption | exact hT.2.1) rfl) (fun M61 h61 => ?_)
              have f61 := h61.symm
              subst f61
              refine x_iload_n dX8_readPart_64 rfl rfl ?_
              refine x_if_lt (tgt := 72) dX8_readPart_65 (by decide) (fun h65 => ?_) (fun h65 => ?_)
              · omega
              · refine x_iconst dX8_readPart_68 rfl ?_
                refine x_goto (tgt := 73) dX8_readPart_69 (by decide) ?_
                refine x_zreturn (by first | exact Or.inl rfl | exact Or.inr rfl | exact vB_r _ | exact vP_r _ | assumption | omega) rfl dX8_readPart_73 ?_
                exact hQ _ _ ⟨_, rfl, LOut.s er⟩
            · omega
          · omega
        · omega
      · omega
theorem s_X8_readSum (hd : 21 ≤ d) (hR : RdH M m tp e) (hp : (0 ≤ p ∧ p ≤ e) ∧ 0 ≤ c ∧ c < p) : CS G d mX8_readSum [dR m] (mQr M m p b dp c (drf v u)) (postI fun x M1 => LOut M m dp v (rSum tp e (p, c, u)) x M1) := by
  obtain ⟨hT, he, htp, he2, hX⟩ := id hR
  have hT_ := hT; obtain ⟨p0, p1, ⟨c1, c2, c3, c4, c5, c6, c7, c8, c9, c10, c11, c12, c13, c14, c15⟩, ⟨t1, t2, t3, t4, t5, t6, t7, t8, t9, t10, t11, t12, t13, t14, t15⟩⟩ := hT_
  refine CS.mkQ (by decide) (Nat.le_of_ble_eq_true rfl) fun Q hQ => ?_
  have hstep : ∀ (t : Nat) (s : LgS), rSumL tp e (t + 1) s = (if chP tp e 43 43 (skB tp e s.1) then
      match rPart tp e (skB tp e s.1 + 1, s.2) with
      | .inl x => .inl x
      | .inr y => rSumL tp e t (em y 11 0)
    else .inr (skB tp e s.1, s.2)) := fun _ _ => rfl
  have lp : ∀ (t : Nat) (p0 b0 c0 : Int) (u0 : Vw) (fu : Nat), ((fu : Int)).toNat = t → ((0 ≤ p0 ∧ p0 ≤ e) ∧ 0 ≤ c0 ∧ c0 < p0) → (e - p0 < fu) → (rSum tp e (p, c, u) = rSumL tp e fu (p0, c0, u0)) → WP G d mX8_readSum 9 [some (dR m)] [] (mQr M m p0 b0 dp c0 (drf v u0)) Q := by
    intro t
    induction t using Nat.strongRecOn with
    | _ t ih =>
      intro p0 b0 c0 u0 fu ht q0 hf hr
      obtain ⟨fu, rfl⟩ : ∃ f2, fu = f2 + 1 := ⟨fu - 1, by omega⟩
      have hs := skB_r (tp := tp) q0.1.2
      rw [hstep fu] at hr
      by_cases hg : chP tp e 43 43 (skB tp e p0)
      · have hg1 := hg.1
        replace hr := hr.trans (if_pos hg)
        rcases hm : rPart tp e (skB tp e p0 + 1, c0, u0) with f | ⟨y1, y2, y3⟩
        · have hr2 : rSum tp e (p, c, u) = .inl f := by
            rw [hr]
            show (match rPart tp e (skB tp e p0 + 1, c0, u0) with
              | .inl x => .inl x
              | .inr y => rSumL tp e fu (em y 11 0)) = (.inl f : LgR)
            rw [hm]
          refine x_aload_n dX8_readSum_9 rfl rfl ?_
          refine x_bipush dX8_readSum_10 rfl ?_
          refine g_callI (vs := [_, _]) (d' := d - 1) rfl (s_X8_sign (by omega) hR (by omega)) dX8_readSum_12 kX8_227 (by omega) (by decide) rfl (Nat.le_of_ble_eq_true rfl) (rcv_o (by first | assumption | exact hT.2.1) rfl) (fun x12 M12 h12 => ?_)
          obtain ⟨e12, t12, -⟩ := h12
          have hM := t12 hg
          subst hM
          rw [vP_t hg] at e12
          subst e12
          refine x_if_eq (tgt := 37) dX8_readSum_15 (by decide) (fun h15 => ?_) (fun h15 => ?_)
          · try simp only [vP_0, vP_1, vP_n0, vP_n1, Classical.not_not] at h15
            simp at h15
          · try simp only [vP_0, vP_1, vP_n0, vP_n1, Classical.not_not] at h15
            refine x_aload_n dX8_readSum_18 rfl rfl ?_
            refine g_callI (vs := [_]) (d' := d - 1) rfl (s_X8_readPart (by omega) hR (by omega)) dX8_readSum_19 kX8_224 (by omega) (by decide) rfl (Nat.le_of_ble_eq_true rfl) (rcv_o (by first | assumption | exact hT.2.1) rfl) (fun x19 M19 h19 => ?_)
            obtain ⟨eA, p1, d1, c1, u1, hM⟩ := h19.1 f hm
            subst eA
            subst hM
            refine x_if_ne (tgt := 27) dX8_readSum_22 (by decide) (fun h22 => ?_) (fun h22 => ?_)
            · try simp only [vP_0, vP_1, vP_n0, vP_n1, Classical.not_not] at h22
              simp at h22
            · try simp only [vP_0, vP_1, vP_n0, vP_n1, Classical.not_not] at h22
              refine x_iconst dX8_readSum_25 rfl ?_
              refine x_zreturn (by first | exact Or.inl rfl | exact Or.inr rfl | exact vB_r _ | exact vP_r _ | assumption | omega) rfl dX8_readSum_26 ?_
              exact hQ _ _ ⟨_, rfl, LOut.f hr2⟩
        · have hr2 : rSum tp e (p, c, u) = rSumL tp e fu (em (y1, y2, y3) 11 0) := by
            rw [hr]
            show (match rPart tp e (skB tp e p0 + 1, c0, u0) with
              | .inl x => .inl x
              | .inr y => rSumL tp e fu (em y 11 0)) = (rSumL tp e fu (em (y1, y2, y3) 11 0) : LgR)
            rw [hm]
          have gg := rPart_g _ _ (by show skB tp e p0 + 1 ≤ e; omega) hm 0
          have g1 : skB tp e p0 + 1 ≤ y1 ∧ y1 ≤ e := gg.1
          have g2 : c0 ≤ y2 := gg.2.1
          have g3 : y2 - c0 + 0 ≤ y1 - (skB tp e p0 + 1) := gg.2.2.1
          refine x_aload_n dX8_readSum_9 rfl rfl ?_
          refine x_bipush dX8_readSum_10 rfl ?_
          refine g_callI (vs := [_, _]) (d' := d - 1) rfl (s_X8_sign (by omega) hR (by omega)) dX8_readSum_12 kX8_227 (by omega) (by decide) rfl (Nat.le_of_ble_eq_true rfl) (rcv_o (by first | assumption | exact hT.2.1) rfl) (fun x12 M12 h12 => ?_)
          obtain ⟨e12, t12, -⟩ := h12
          have hM := t12 hg
          subst hM
          rw [vP_t hg] at e12
          subst e12
          refine x_if_eq (tgt := 37) dX8_readSum_15 (by decide) (fun h15 => ?_) (fun h15 => ?_)
          · try simp only [vP_0, vP_1, vP_n0, vP_n1, Classical.not_not] at h15
            simp at h15
          · try simp only [vP_0, vP_1, vP_n0, vP_n1, Classical.not_not] at h15
            refine x_aload_n dX8_readSum_18 rfl rfl ?_
            refine g_callI (vs := [_]) (d' := d - 1) rfl (s_X8_readPart (by omega) hR (by omega)) dX8_readSum_19 kX8_224 (by omega) (by decide) rfl (Nat.le_of_ble_eq_true rfl) (rcv_o (by first | assumption | exact hT.2.1) rfl) (fun x19 M19 h19 => ?_)
            obtain ⟨eA, b1, hM⟩ := h19.2 _ hm
            subst eA
            have hM2 : M19 = mQr M m y1 b1 dp y2 (drf v y3) := hM
            subst hM2
            refine x_if_ne (tgt := 27) dX8_readSum_22 (by decide) (fun h22 => ?_) (fun h22 => ?_)
            · try simp only [vP_0, vP_1, vP_n0, vP_n1, Classical.not_not] at h22
              refine x_aload_n dX8_readSum_27 rfl rfl ?_
              refine x_bipush dX8_readSum_28 rfl ?_
              refine x_iconst dX8_readSum_30 rfl ?_
              refine g_callN (vs := [_, _, _]) (d' := d - 1) rfl (s_X8_emits (by omega) hR (by omega)) dX8_readSum_31 kX8_220 (by omega) (by decide) rfl (Nat.le_of_ble_eq_true rfl) (rcv_o (by first | assumption | exact hT.2.1) rfl) (fun M31 h31 => ?_)
              have f31 := h31.symm
              subst f31
              refine x_goto (tgt := 9) dX8_readSum_34 (by decide) ?_
              exact ih _ (by omega) y1 _ (y2 + 1) _ fu rfl (by omega) (by omega) hr2
            · try simp only [vP_0, vP_1, vP_n0, vP_n1, Classical.not_not] at h22
              simp at h22
      · replace hr := hr.trans (if_neg hg)
        refine x_aload_n dX8_readSum_9 rfl rfl ?_
        refine x_bipush dX8_readSum_10 rfl ?_
        refine g_callI (vs := [_, _]) (d' := d - 1) rfl (s_X8_sign (by omega) hR (by omega)) dX8_readSum_12 kX8_227 (by omega) (by decide) rfl (Nat.le_of_ble_eq_true rfl) (rcv_o (by first | assumption | exact hT.2.1) rfl) (fun x12 M12 h12 => ?_)
        obtain ⟨e12, -, f12⟩ := h12
        have hM := f12 hg
        subst hM
        rw [vP_f hg] at e12
        subst e12
        refine x_if_eq (tgt := 37) dX8_readSum_15 (by decide) (fun h15 => ?_) (fun h15 => ?_)
        · try simp only [vP_0, vP_1, vP_n0, vP_n1, Classical.not_not] at h15
          refine x_iconst dX8_readSum_37 rfl ?_
          refine x_zreturn (by first | exact Or.inl rfl | exact Or.inr rfl | exact vB_r _ | exact vP_r _ | assumption | omega) rfl dX8_readSum_38 ?_
          exact hQ _ _ ⟨_, rfl, LOut.s hr⟩
        · try simp only [vP_0, vP_1, vP_n0, vP_n1, Classical.not_not] at h15
          simp at h15
  rcases hm : rPart tp e (p, c, u) with f | ⟨y1, y2, y3⟩
  · have hr2 : rSum tp e (p, c, u) = .inl f := by
      unfold rSum
      rw [hm]
    refine x_aload_n dX8_readSum_0 rfl rfl ?_
    refine g_callI (vs := [_]) (d' := d - 1) rfl (s_X8_readPart (by omega) hR (by omega)) dX8_readSum_1 kX8_224 (by omega) (by decide) rfl (Nat.le_of_ble_eq_true rfl) (rcv_o (by first | assumption | exact hT.2.1) rfl) (fun x1 M1 h1 => ?_)
    obtain ⟨eA, p1, d1, c1, u1, hM⟩ := h1.1 f hm
    subst eA
    subst hM
    refine x_if_ne (tgt := 9) dX8_readSum_4 (by decide) (fun h4 => ?_) (fun h4 => ?_)
    · try simp only [vP_0, vP_1, vP_n0, vP_n1, Classical.not_not] at h4
      simp at h4
    · try simp only [vP_0, vP_1, vP_n0, vP_n1, Classical.not_not] at h4
      refine x_iconst dX8_readSum_7 rfl ?_
      refine x_zreturn (by first | exact Or.inl rfl | exact Or.inr rfl | exact vB_r _ | exact vP_r _ | assumption | omega) rfl dX8_readSum_8 ?_
      exact hQ _ _ ⟨_, rfl, LOut.f hr2⟩
  · have hr2 : rSum tp e (p, c, u) = rSumL tp e (e.toNat + 1) (y1, y2, y3) := by
      unfold rSum
      rw [hm]
    have gg := rPart_g _ _ hp.1.2 hm 0
    have g1 : p ≤ y1 ∧ y1 ≤ e := gg.1
    have g2 : c ≤ y2 := gg.2.1
    have g3 : y2 - c + 0 ≤ y1 - p := gg.2.2.1
    refine x_aload_n dX8_readSum_0 rfl rfl ?_
    refine g_callI (vs := [_]) (d' := d - 1) rfl (s_X8_readPart (by omega) hR (by omega)) dX8_readSum_1 kX8_224 (by omega) (by decide) rfl (Nat.le_of_ble_eq_true rfl) (rcv_o (by first | assumption | exact hT.2.1) rfl) (fun x1 M1 h1 => ?_)
    obtain ⟨eA, b1, hM⟩ := h1.2 _ hm
    subst eA
    have hM2 : M1 = mQr M m y1 b1 dp y2 (drf v y3) := hM
    subst hM2
    refine x_if_ne (tgt := 9) dX8_readSum_4 (by decide) (fun h4 => ?_) (fun h4 => ?_)
    · try simp only [vP_0, vP_1, vP_n0, vP_n1, Classical.not_not] at h4
      exact lp _ y1 _ y2 _ (e.toNat + 1) rfl (by omega) (by omega) hr2
    · try simp only [vP_0, vP_1, vP_n0, vP_n1, Classical.not_not] at h4
      simp at h4
end X8

