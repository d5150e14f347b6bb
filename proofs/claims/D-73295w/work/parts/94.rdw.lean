/-! GuestViewModel: reading, its small steps -/
/-- the memory of a reader: place, begin, depth, codes, the bench -/
def mQr (M : Mem) (m p b dp c : Int) (w : Vw) : Mem := wI M (fun a k => if a = m + 1 then w k else if a = m ∧ k = 10 then p else if a = m ∧ k = 12 then b else if a = m ∧ k = 13 then dp else if a = m ∧ k = 16 then c else mci M a k)
section MR
variable {M : Mem} {m p b dp c x i a k : Int} {w : Vw}
theorem mQ_p : mci (mQr M m p b dp c w) m 10 = p := by
  refine (if_neg (by omega)).trans (if_pos ⟨rfl, rfl⟩)
theorem mQ_b : mci (mQr M m p b dp c w) m 12 = b := by
  refine (if_neg (by omega)).trans ((if_neg (by omega)).trans (if_pos ⟨rfl, rfl⟩))
theorem mQ_d : mci (mQr M m p b dp c w) m 13 = dp := by
  refine (if_neg (by omega)).trans ((if_neg (by omega)).trans ((if_neg (by omega)).trans (if_pos ⟨rfl, rfl⟩)))
theorem mQ_c : mci (mQr M m p b dp c w) m 16 = c := by
  refine (if_neg (by omega)).trans ((if_neg (by omega)).trans ((if_neg (by omega)).trans ((if_neg (by omega)).trans (if_pos ⟨rfl, rfl⟩))))
theorem mQ_w : mci (mQr M m p b dp c w) (m + 1) k = w k := if_pos rfl
theorem mQ_wf : mci (mQr M m p b dp c w) (m + 1) = w := funext fun _ => mQ_w
theorem mQ_o (h1 : ¬ a = m + 1) (h2 : ¬ (a = m ∧ (k = 10 ∨ k = 12 ∨ k = 13 ∨ k = 16))) : mci (mQr M m p b dp c w) a k = mci M a k :=
  (if_neg h1).trans ((if_neg (by omega)).trans ((if_neg (by omega)).trans ((if_neg (by omega)).trans (if_neg (by omega)))))
theorem mQ_e : mci (mQr M m p b dp c w) m 11 = mci M m 11 := mQ_o (by omega) (by omega)
theorem mQ_t : mci (mQr M m p b dp c w) (m + 6) k = mci M (m + 6) k := mQ_o (by omega) (by omega)
theorem mem_ext {f g : Ci} (h : ∀ a k, f a k = g a k) : wI M f = wI M g := by rw [show f = g from funext fun a => funext fun k => h a k]
theorem mQ_wp : mI (mQr M m p b dp c w) m 10 x = mQr M m x b dp c w := by
  refine mem_ext (M := M) fun a k => ?_
  show (if a = m ∧ k = 10 then x else mci (mQr M m p b dp c w) a k) = _
  by_cases h1 : a = m + 1
  · rw [if_neg (by omega)]; subst h1; rw [mQ_w]; exact (if_pos rfl).symm
  · rw [if_neg h1]
    by_cases h2 : a = m ∧ k = 10
    · rw [if_pos h2, if_pos h2]
    · rw [if_neg h2, if_neg h2]; exact (if_neg h1).trans (if_neg h2)
theorem mQ_wb : mI (mQr M m p b dp c w) m 12 x = mQr M m p x dp c w := by
  refine mem_ext (M := M) fun a k => ?_
  show (if a = m ∧ k = 12 then x else (if a = m + 1 then w k else if a = m ∧ k = 10 then p else if a = m ∧ k = 12 then b else if a = m ∧ k = 13 then dp else if a = m ∧ k = 16 then c else mci M a k)) = _
  by_cases h2 : a = m ∧ k = 12
  · rw [if_pos h2, if_neg (by omega), if_neg (by omega), if_pos h2]
  · rw [if_neg h2, if_neg h2, if_neg h2]
theorem mQ_wd : mI (mQr M m p b dp c w) m 13 x = mQr M m p b x c w := by
  refine mem_ext (M := M) fun a k => ?_
  show (if a = m ∧ k = 13 then x else (if a = m + 1 then w k else if a = m ∧ k = 10 then p else if a = m ∧ k = 12 then b else if a = m ∧ k = 13 then dp else if a = m ∧ k = 16 then c else mci M a k)) = _
  by_cases h2 : a = m ∧ k = 13
  · rw [if_pos h2, if_neg (by omega), if_neg (by omega), if_neg (by omega), if_pos h2]
  · rw [if_neg h2, if_neg h2, if_neg h2]
theorem mQ_wc : mI (mQr M m p b dp c w) m 16 x = mQr M m p b dp x w := by
  refine mem_ext (M := M) fun a k => ?_
  show (if a = m ∧ k = 16 then x else (if a = m + 1 then w k else if a = m ∧ k = 10 then p else if a = m ∧ k = 12 then b else if a = m ∧ k = 13 then dp else if a = m ∧ k = 16 then c else mci M a k)) = _
  by_cases h2 : a = m ∧ k = 16
  · rw [if_pos h2, if_neg (by omega), if_neg (by omega), if_neg (by omega), if_neg (by omega), if_pos h2]
  · rw [if_neg h2, if_neg h2, if_neg h2]
theorem mQ_ww : mI (mQr M m p b dp c w) (m + 1) i x = mQr M m p b dp c (us w i x) := by
  refine mem_ext (M := M) fun a k => ?_
  show (if a = m + 1 ∧ k = i then x else (if a = m + 1 then w k else if a = m ∧ k = 10 then p else if a = m ∧ k = 12 then b else if a = m ∧ k = 13 then dp else if a = m ∧ k = 16 then c else mci M a k)) = if a = m + 1 then (if k = i then x else w k) else _
  by_cases h1 : a = m + 1
  · rw [if_pos h1, if_pos h1]
    by_cases h2 : k = i
    · rw [if_pos ⟨h1, h2⟩, if_pos h2]
    · rw [if_neg fun q => h2 q.2, if_neg h2]
  · rw [if_neg fun q => h1 q.1, if_neg h1, if_neg h1]
theorem mQ_z : mQr M m (mci M m 10) (mci M m 12) (mci M m 13) (mci M m 16) (mci M (m + 1)) = M := by
  refine (mem_ext (M := M) (g := mci M) fun a k => ?_).trans rfl
  show (if a = m + 1 then mci M (m + 1) k else if a = m ∧ k = 10 then mci M m 10 else if a = m ∧ k = 12 then mci M m 12 else if a = m ∧ k = 13 then mci M m 13 else if a = m ∧ k = 16 then mci M m 16 else mci M a k) = _
  repeat (first | rfl | (split; rename_i h; first | (obtain ⟨rfl, rfl⟩ := h; rfl) | (subst h; rfl)))
end MR
/-- what reading finds -/
def RdH (M : Mem) (m : Int) (tp : Int → Int) (e : Int) : Prop := TwS (msh M) (mcr M) m ∧ mci M m 11 = e ∧ mci M (m + 6) = tp ∧ (0 ≤ e ∧ e ≤ 400) ∧ TxS M
theorem TxS.mQr {M : Mem} {m p b dp c : Int} {w : Vw} (h : TxS M) (h0 : 0 ≤ m) : TxS (mQr M m p b dp c w) := h.of (fun _ _ => rfl) (fun a k q => mQ_o (by omega) (by omega)) fun _ _ _ => rfl
theorem skB_i {tp : Int → Int} {e p : Int} : ∀ (t : Nat), (e - p).toNat = t → skB tp e (skB tp e p) = skB tp e p := by
  intro t
  induction t generalizing p with
  | zero =>
    intro h
    have hn : ¬ chP tp e 32 32 p := fun q => by have := q.1; omega
    have e1 : skB tp e p = p := spB_e hn
    rw [e1, e1]
  | succ t ih =>
    intro h
    by_cases q : chP tp e 32 32 p
    · have e1 : skB tp e p = skB tp e (p + 1) := spB_s q
      rw [e1]
      exact ih (by omega)
    · have e1 : skB tp e p = p := spB_e q
      rw [e1, e1]
theorem skB_r {tp : Int → Int} {e p : Int} (h : p ≤ e) : p ≤ skB tp e p ∧ skB tp e p ≤ e := ⟨spB_r.1, spB_r.2 h⟩
theorem wdB_r {tp : Int → Int} {e p : Int} (h : p ≤ e) : p ≤ wdB tp e p ∧ wdB tp e p ≤ e := ⟨spB_r.1, spB_r.2 h⟩
theorem fgB_r {tp : Int → Int} {e p : Int} (h : p ≤ e) : p ≤ fgB tp e p ∧ fgB tp e p ≤ e := ⟨spB_r.1, spB_r.2 h⟩
section X8
variable {G : GW} {d : Nat} {M : Mem} {m p b dp c e lo hi k n : Int} {w : Vw} {tp : Int → Int}
theorem s_X8_isAt (hd : 10 ≤ d) (hR : RdH M m tp e) (hp : 0 ≤ p ∧ p ≤ e) : CS G d mX8_isAt [dR m, dI lo, dI hi] (mQr M m p b dp c w) (pur (mQr M m p b dp c w) (vP (chP tp e lo hi p))) := by
  obtain ⟨hT, he, htp, he2, -⟩ := hR
  have hT_ := hT; obtain ⟨p0, p1, ⟨c1, c2, c3, c4, c5, c6, c7, c8, c9, c10, c11, c12, c13, c14, c15⟩, ⟨t1, t2, t3, t4, t5, t6, t7, t8, t9, t10, t11, t12, t13, t14, t15⟩⟩ := hT_
  have hte : ∀ k, mci M (m + 6) k = tp k := fun k => congrFun htp k
  refine CS.mkQ (by decide) (Nat.le_of_ble_eq_true rfl) fun Q hQ => ?_
  refine x_aload_n dX8_isAt_0 rfl rfl ?_
  refine g_getI (kI := 10) rfl dX8_isAt_1 fX8_96_8 (by first | assumption | exact hT.2.1) ?_
  try simp (disch := omega) only [rdI_e, rdI_n, rdC_i, rdC_o, rdW, rdR, rdU_e, rdU_n, rdLW, Int.add_zero, mQ_p, mQ_b, mQ_d, mQ_c, mQ_w, mQ_e, mQ_t, he, htp]
  refine x_aload_n dX8_isAt_4 rfl rfl ?_
  refine g_getI (kI := 11) rfl dX8_isAt_5 fX8_99_8 (by first | assumption | exact hT.2.1) ?_
  try simp (disch := omega) only [rdI_e, rdI_n, rdC_i, rdC_o, rdW, rdR, rdU_e, rdU_n, rdLW, Int.add_zero, mQ_p, mQ_b, mQ_d, mQ_c, mQ_w, mQ_e, mQ_t, he, htp]
  refine x_icmp_ge (tgt := 41) dX8_isAt_8 (by decide) (fun h8' => ?_) (fun h8' => ?_)
  · refine x_iconst dX8_isAt_41 rfl ?_
    refine x_zreturn (by first | exact Or.inl rfl | exact Or.inr rfl | exact vB_r _ | exact vP_r _ | assumption | omega) rfl dX8_isAt_42 ?_
    refine hQ _ _ ⟨_, rfl, ?_, rfl⟩
    first
    | exact (vP_t ⟨by omega, by have := hte p; omega, by have := hte p; omega⟩).symm
    | exact (vP_f fun q => by have := q.1; have := q.2.1; have := q.2.2; have := hte p; omega).symm
  · refine x_aload_n dX8_isAt_11 rfl rfl ?_
    refine g_getR (kI := 8) rfl dX8_isAt_12 fX8_29_8 (by first | assumption | exact hT.2.1) (by first | assumption | exact hT.2.1) ?_
    refine x_aload_n dX8_isAt_15 rfl rfl ?_
    refine g_getI (kI := 10) rfl dX8_isAt_16 fX8_96_8 (by first | assumption | exact hT.2.1) ?_
    try simp (disch := omega) only [rdI_e, rdI_n, rdC_i, rdC_o, rdW, rdR, rdU_e, rdU_n, rdLW, Int.add_zero, mQ_p, mQ_b, mQ_d, mQ_c, mQ_w, mQ_e, mQ_t, he, htp]
    refine x_bald dX8_isAt_19 (by first | assumption | exact hT.2.1) (by omega) (by omega) ?_
    try simp (disch := omega) only [rdI_e, rdI_n, rdC_i, rdC_o, rdW, rdR, rdU_e, rdU_n, rdLW, Int.add_zero, mQ_p, mQ_b, mQ_d, mQ_c, mQ_w, mQ_e, mQ_t, he, htp]
    refine x_iload_n dX8_isAt_20 rfl rfl ?_
    refine x_icmp_lt (tgt := 41) dX8_isAt_21 (by decide) (fun h21 => ?_) (fun h21 => ?_)
    · refine x_iconst dX8_isAt_41 rfl ?_
      refine x_zreturn (by first | exact Or.inl rfl | exact Or.inr rfl | exact vB_r _ | exact vP_r _ | assumption | omega) rfl dX8_isAt_42 ?_
      refine hQ _ _ ⟨_, rfl, ?_, rfl⟩
      first
      | exact (vP_t ⟨by omega, by have := hte p; omega, by have := hte p; omega⟩).symm
      | exact (vP_f fun q => by have := q.1; have := q.2.1; have := q.2.2; have := hte p; omega).symm
    · refine x_aload_n dX8_isAt_24 rfl rfl ?_
      refine g_getR (kI := 8) rfl dX8_isAt_25 fX8_29_8 (by first | assumption | exact hT.2.1) (by first | assumption | exact hT.2.1) ?_
      refine x_aload_n dX8_isAt_28 rfl rfl ?_
      refine g_getI (kI := 10) rfl dX8_isAt_29 fX8_96_8 (by first | assumption | exact hT.2.1) ?_
      try simp (disch := omega) only [rdI_e, rdI_n, rdC_i, rdC_o, rdW, rdR, rdU_e, rdU_n, rdLW, Int.add_zero, mQ_p, mQ_b, mQ_d, mQ_c, mQ_w, mQ_e, mQ_t, he, htp]
      refine x_bald dX8_isAt_32 (by first | assumption | exact hT.2.1) (by omega) (by omega) ?_
      try simp (disch := omega) only [rdI_e, rdI_n, rdC_i, rdC_o, rdW, rdR, rdU_e, rdU_n, rdLW, Int.add_zero, mQ_p, mQ_b, mQ_d, mQ_c, mQ_w, mQ_e, mQ_t, he, htp]
      refine x_iload_n dX8_isAt_33 rfl rfl ?_
      refine x_icmp_gt (tgt := 41) dX8_isAt_34 (by decide) (fun h34 => ?_) (fun h34 => ?_)
      · refine x_iconst dX8_isAt_41 rfl ?_
        refine x_zreturn (by first | exact Or.inl rfl | exact Or.inr rfl | exact vB_r _ | exact vP_r _ | assumption | omega) rfl dX8_isAt_42 ?_
        refine hQ _ _ ⟨_, rfl, ?_, rfl⟩
        first
        | exact (vP_t ⟨by omega, by have := hte p; omega, by have := hte p; omega⟩).symm
        | exact (vP_f fun q => by have := q.1; have := q.2.1; have := q.2.2; have := hte p; omega).symm
      · refine x_iconst dX8_isAt_37 rfl ?_
        refine x_goto (tgt := 42) dX8_isAt_38 (by decide) ?_
        refine x_zreturn (by first | exact Or.inl rfl | exact Or.inr rfl | exact vB_r _ | exact vP_r _ | assumption | omega) rfl dX8_isAt_42 ?_
        refine hQ _ _ ⟨_, rfl, ?_, rfl⟩
        first
        | exact (vP_t ⟨by omega, by have := hte p; omega, by have := hte p; omega⟩).symm
        | exact (vP_f fun q => by have := q.1; have := q.2.1; have := q.2.2; have := hte p; omega).symm
theorem s_X8_blanks (hd : 11 ≤ d) (hR : RdH M m tp e) (hp : 0 ≤ p ∧ p ≤ e) : CS G d mX8_blanks [dR m] (mQr M m p b dp c w) (postN fun M1 => M1 = mQr M m (skB tp e p) (skB tp e p) dp c w) := by
  obtain ⟨hT, he, htp, he2, -⟩ := id hR
  have hT_ := hT; obtain ⟨p0, p1, ⟨c1, c2, c3, c4, c5, c6, c7, c8, c9, c10, c11, c12, c13, c14, c15⟩, ⟨t1, t2, t3, t4, t5, t6, t7, t8, t9, t10, t11, t12, t13, t14, t15⟩⟩ := hT_
  refine CS.mkQ (by decide) (Nat.le_of_ble_eq_true rfl) fun Q hQ => ?_
  have lp : ∀ (t : Nat) (q : Int), (e - q).toNat = t → (0 ≤ q ∧ q ≤ e) → (skB tp e q = skB tp e p) → WP G d mX8_blanks 0 [some (dR m)] [] (mQr M m q b dp c w) Q := by
    intro t
    induction t using Nat.strongRecOn with
    | _ t ih =>
      intro q ht h0 hq
      by_cases h : chP tp e 32 32 q
      · have h1 := h.1
        refine x_aload_n dX8_blanks_0 rfl rfl ?_
        refine x_bipush dX8_blanks_1 rfl ?_
        refine x_bipush dX8_blanks_3 rfl ?_
        refine g_callI (vs := [_, _, _]) (d' := d - 1) rfl (s_X8_isAt (by omega) hR (by omega)) dX8_blanks_5 kX8_102 (by omega) (by decide) rfl (Nat.le_of_ble_eq_true rfl) (rcv_o (by first | assumption | exact hT.2.1) rfl) (fun x5 M5 h5 => ?_)
        obtain ⟨e5, f5⟩ := h5
        have f5' := f5.symm
        subst f5'
        subst e5
        try simp (disch := omega) only [rdI_e, rdI_n, rdC_i, rdC_o, rdW, rdR, rdU_e, rdU_n, rdLW, Int.add_zero, mQ_p, mQ_b, mQ_d, mQ_c, mQ_w, mQ_e, mQ_t, he, htp]
        refine x_if_eq (tgt := 24) dX8_blanks_8 (by decide) (fun h8' => ?_) (fun h8' => ?_)
        · try simp only [vP_0, vP_1, vP_n0, vP_n1, Classical.not_not] at h8'
          exact absurd h h8'
        · try simp only [vP_0, vP_1, vP_n0, vP_n1, Classical.not_not] at h8'
          refine x_aload_n dX8_blanks_11 rfl rfl ?_
          refine x_dup dX8_blanks_12 rfl ?_
          refine g_getI (kI := 10) rfl dX8_blanks_13 fX8_96_8 (by first | assumption | exact hT.2.1) ?_
          try simp (disch := omega) only [rdI_e, rdI_n, rdC_i, rdC_o, rdW, rdR, rdU_e, rdU_n, rdLW, Int.add_zero, mQ_p, mQ_b, mQ_d, mQ_c, mQ_w, mQ_e, mQ_t, he, htp]
          refine x_iconst dX8_blanks_16 rfl ?_
          first | refine x_iaddN dX8_blanks_17 (by unfold i32; omega) ?_ | refine x_iadd dX8_blanks_17 ?_
          refine g_putI (kI := 10) rfl dX8_blanks_18 fX8_96_8 (by first | assumption | exact hT.2.1) ?_
          try simp only [mQ_wp, mQ_wb, mQ_wd, mQ_wc, mQ_ww]
          refine x_goto (tgt := 0) dX8_blanks_21 (by decide) ?_
          exact ih _ (by omega) (q + 1) rfl (by omega) ((spB_s h).symm.trans hq)
      · have eq : skB tp e q = q := spB_e h
        rw [eq] at hq
        refine x_aload_n dX8_blanks_0 rfl rfl ?_
        refine x_bipush dX8_blanks_1 rfl ?_
        refine x_bipush dX8_blanks_3 rfl ?_
        refine g_callI (vs := [_, _, _]) (d' := d - 1) rfl (s_X8_isAt (by omega) hR (by omega)) dX8_blanks_5 kX8_102 (by omega) (by decide) rfl (Nat.le_of_ble_eq_true rfl) (rcv_o (by first | assumption | exact hT.2.1) rfl) (fun x5 M5 h5 => ?_)
        obtain ⟨e5, f5⟩ := h5
        have f5' := f5.symm
        subst f5'
        subst e5
        try simp (disch := omega) only [rdI_e, rdI_n, rdC_i, rdC_o, rdW, rdR, rdU_e, rdU_n, rdLW, Int.add_zero, mQ_p, mQ_b, mQ_d, mQ_c, mQ_w, mQ_e, mQ_t, he, htp]
        refine x_if_eq (tgt := 24) dX8_blanks_8 (by decide) (fun h8' => ?_) (fun h8' => ?_)
        · try simp only [vP_0, vP_1, vP_n0, vP_n1, Classical.not_not] at h8'
          refine x_aload_n dX8_blanks_24 rfl rfl ?_
          refine x_aload_n dX8_blanks_25 rfl rfl ?_
          refine g_getI (kI := 10) rfl dX8_blanks_26 fX8_96_8 (by first | assumption | exact hT.2.1) ?_
          try simp (disch := omega) only [rdI_e, rdI_n, rdC_i, rdC_o, rdW, rdR, rdU_e, rdU_n, rdLW, Int.add_zero, mQ_p, mQ_b, mQ_d, mQ_c, mQ_w, mQ_e, mQ_t, he, htp]
          refine g_putI (kI := 12) rfl dX8_blanks_29 fX8_106_8 (by first | assumption | exact hT.2.1) ?_
          try simp only [mQ_wp, mQ_wb, mQ_wd, mQ_wc, mQ_ww]
          refine x_vreturn rfl dX8_blanks_32 ?_
          exact hQ _ _ ⟨rfl, by rw [hq]⟩
        · try simp only [vP_0, vP_1, vP_n0, vP_n1, Classical.not_not] at h8'
          exact absurd h8' h
  exact lp _ p rfl hp rfl
theorem s_X8_letters (hd : 12 ≤ d) (hR : RdH M m tp e) (hp : 0 ≤ p ∧ p ≤ e) : CS G d mX8_letters [dR m] (mQr M m p b dp c w) (postN fun M1 => M1 = mQr M m (wdB tp e (skB tp e p)) (skB tp e p) dp c w) := by
  obtain ⟨hT, he, htp, he2, -⟩ := id hR
  have hs := skB_r (tp := tp) hp.2
  have hT_ := hT; obtain ⟨p0, p1, ⟨c1, c2, c3, c4, c5, c6, c7, c8, c9, c10, c11, c12, c13, c14, c15⟩, ⟨t1, t2, t3, t4, t5, t6, t7, t8, t9, t10, t11, t12, t13, t14, t15⟩⟩ := hT_
  refine CS.mkQ (by decide) (Nat.le_of_ble_eq_true rfl) fun Q hQ => ?_
  have lp : ∀ (t : Nat) (q : Int), (e - q).toNat = t → (0 ≤ q ∧ q ≤ e) → (wdB tp e q = wdB tp e (skB tp e p)) → WP G d mX8_letters 4 [some (dR m)] [] (mQr M m q (skB tp e p) dp c w) Q := by
    intro t
    induction t using Nat.strongRecOn with
    | _ t ih =>
      intro q ht h0 hq
      by_cases h : chP tp e 97 122 q
      · have h1 := h.1
        refine x_aload_n dX8_letters_4 rfl rfl ?_
        refine x_bipush dX8_letters_5 rfl ?_
        refine x_bipush dX8_letters_7 rfl ?_
        refine g_callI (vs := [_, _, _]) (d' := d - 1) rfl (s_X8_isAt (by omega) hR (by omega)) dX8_letters_9 kX8_102 (by omega) (by decide) rfl (Nat.le_of_ble_eq_true rfl) (rcv_o (by first | assumption | exact hT.2.1) rfl) (fun x9 M9 h9 => ?_)
        obtain ⟨e9, f9⟩ := h9
        have f9' := f9.symm
        subst f9'
        subst e9
        try simp (disch := omega) only [rdI_e, rdI_n, rdC_i, rdC_o, rdW, rdR, rdU_e, rdU_n, rdLW, Int.add_zero, mQ_p, mQ_b, mQ_d, mQ_c, mQ_w, mQ_e, mQ_t, he, htp]
        refine x_if_eq (tgt := 28) dX8_letters_12 (by decide) (fun h12 => ?_) (fun h12 => ?_)
        · try simp only [vP_0, vP_1, vP_n0, vP_n1, Classical.not_not] at h12
          exact absurd h h12
        · try simp only [vP_0, vP_1, vP_n0, vP_n1, Classical.not_not] at h12
          refine x_aload_n dX8_letters_15 rfl rfl ?_
          refine x_dup dX8_letters_16 rfl ?_
          refine g_getI (kI := 10) rfl dX8_letters_17 fX8_96_8 (by first | assumption | exact hT.2.1) ?_
          try simp (disch := omega) only [rdI_e, rdI_n, rdC_i, rdC_o, rdW, rdR, rdU_e, rdU_n, rdLW, Int.add_zero, mQ_p, mQ_b, mQ_d, mQ_c, mQ_w, mQ_e, mQ_t, he, htp]
          refine x_iconst dX8_letters_20 rfl ?_
          first | refine x_iaddN dX8_letters_21 (by unfold i32; omega) ?_ | refine x_iadd dX8_letters_21 ?_
          refine g_putI (kI := 10) rfl dX8_letters_22 fX8_96_8 (by first | assumption | exact hT.2.1) ?_
          try simp only [mQ_wp, mQ_wb, mQ_wd, mQ_wc, mQ_ww]
          refine x_goto (tgt := 4) dX8_letters_25 (by decide) ?_
          exact ih _ (by omega) (q + 1) rfl (by omega) ((spB_s h).symm.trans hq)
      · have eq : wdB tp e q = q := spB_e h
        rw [eq] at hq
        refine x_aload_n dX8_letters_4 rfl rfl ?_
        refine x_bipush dX8_letters_5 rfl ?_
        refine x_bipush dX8_letters_7 rfl ?_
        refine g_callI (vs := [_, _, _]) (d' := d - 1) rfl (s_X8_isAt (by omega) hR (by omega)) dX8_letters_9 kX8_102 (by omega) (by decide) rfl (Nat.le_of_ble_eq_true rfl) (rcv_o (by first | assumption | exact hT.2.1) rfl) (fun x9 M9 h9 => ?_)
        obtain ⟨e9, f9⟩ := h9
        have f9' := f9.symm
        subst f9'
        subst e9
        try simp (disch := omega) only [rdI_e, rdI_n, rdC_i, rdC_o, rdW, rdR, rdU_e, rdU_n, rdLW, Int.add_zero, mQ_p, mQ_b, mQ_d, mQ_c, mQ_w, mQ_e, mQ_t, he, htp]
        refine x_if_eq (tgt := 28) dX8_letters_12 (by decide) (fun h12 => ?_) (fun h12 => ?_)
        · try simp only [vP_0, vP_1, vP_n0, vP_n1, Classical.not_not] at h12
          refine x_vreturn rfl dX8_letters_28 ?_
          exact hQ _ _ ⟨rfl, by rw [hq]⟩
        · try simp only [vP_0, vP_1, vP_n0, vP_n1, Classical.not_not] at h12
          exact absurd h12 h
  refine x_aload_n dX8_letters_0 rfl rfl ?_
  refine g_callN (vs := [_]) (d' := d - 1) rfl (s_X8_blanks (by omega) hR (by omega)) dX8_letters_1 kX8_109 (by omega) (by decide) rfl (Nat.le_of_ble_eq_true rfl) (rcv_o (by first | assumption | exact hT.2.1) rfl) (fun M1 h1 => ?_)
  have f1 := h1.symm
  subst f1
  exact lp _ (skB tp e p) rfl (by omega) rfl
theorem s_X8_isWord {i : Nat} {a : Int} (hd : 18 ≤ d) (hR : RdH M m tp e) (hp : 0 ≤ b ∧ b ≤ p ∧ p ≤ e) (hi : i < 34) (ha : a = -(10 + 2 * (i : Int))) : CS G d mX8_isWord [dR m, dR a] (mQr M m p b dp c w) (pur (mQr M m p b dp c w) (vP (isW tp b p (txB i)))) := by
  obtain ⟨hT, he, htp, he2, hX⟩ := id hR
  have hx := (hX.mQr (p := p) (b := b) (dp := dp) (c := c) (w := w) hT.1) i hi
  rw [← ha] at hx
  obtain ⟨⟨hx0, hx1⟩, hx2, -⟩ := id hx
  have hT_ := hT; obtain ⟨p0, p1, ⟨c1, c2, c3, c4, c5, c6, c7, c8, c9, c10, c11, c12, c13, c14, c15⟩, ⟨t1, t2, t3, t4, t5, t6, t7, t8, t9, t10, t11, t12, t13, t14, t15⟩⟩ := hT_
  refine CS.mkQ (by decide) (Nat.le_of_ble_eq_true rfl) fun Q hQ => ?_
  have lp : ∀ (t : Nat) (k y : Int), ((txB i).length - k).toNat = t → (0 ≤ k ∧ k ≤ ((txB i).length : Int)) → (y = vP (p - b = ((txB i).length : Int) ∧ ∀ j : Nat, (j : Int) < k → tp (b + j) = (txB i).getD j 0)) → WP G d mX8_isWord 24 [some (dR m), some (dR a), some (dI y), some (dI k)] [] (mQr M m p b dp c w) Q := by
    intro t
    induction t using Nat.strongRecOn with
    | _ t ih =>
      intro k y ht k0 hy
      have hy01 : y = 0 ∨ y = 1 := by rw [hy]; exact vP_r _
      by_cases h : y = 1 ∧ k < ((txB i).length : Int)
      · have hy1 := (vP_1.mp (hy.symm.trans h.1))
        have hpb := hy1.1
        refine x_iload_n dX8_isWord_24 rfl rfl ?_
        refine x_if_eq (tgt := 67) dX8_isWord_25 (by decide) (fun h25 => ?_) (fun h25 => ?_)
        · omega
        · refine x_iload_n dX8_isWord_28 rfl rfl ?_
          refine x_aload_n dX8_isWord_29 rfl rfl ?_
          refine g_callI (vs := [_]) (d' := d - 1) rfl (s_J3_length (by omega) (by assumption)) dX8_isWord_30 kX8_112 (by omega) (by decide) rfl (Nat.le_of_ble_eq_true rfl) (rcv_s (by omega) (by first | assumption | exact hT.2.1)) (fun x30 M30 h30 => ?_)
          obtain ⟨e30, f30⟩ := h30
          have f30' := f30.symm
          subst f30'
          subst e30
          try simp (disch := omega) only [rdI_e, rdI_n, rdC_i, rdC_o, rdW, rdR, rdU_e, rdU_n, rdLW, Int.add_zero, mQ_p, mQ_b, mQ_d, mQ_c, mQ_w, mQ_e, mQ_t, he, htp]
          refine x_icmp_ge (tgt := 67) dX8_isWord_33 (by decide) (fun h33 => ?_) (fun h33 => ?_)
          · omega
          · refine x_aload_n dX8_isWord_36 rfl rfl ?_
            refine g_getR (kI := 8) rfl dX8_isWord_37 fX8_29_8 (by first | assumption | exact hT.2.1) (by first | assumption | exact hT.2.1) ?_
            refine x_aload_n dX8_isWord_40 rfl rfl ?_
            refine g_getI (kI := 12) rfl dX8_isWord_41 fX8_106_8 (by first | assumption | exact hT.2.1) ?_
            try simp (disch := omega) only [rdI_e, rdI_n, rdC_i, rdC_o, rdW, rdR, rdU_e, rdU_n, rdLW, Int.add_zero, mQ_p, mQ_b, mQ_d, mQ_c, mQ_w, mQ_e, mQ_t, he, htp]
            refine x_iload_n dX8_isWord_44 rfl rfl ?_
            first | refine x_iaddN dX8_isWord_45 (by unfold i32; omega) ?_ | refine x_iadd dX8_isWord_45 ?_
            refine x_bald dX8_isWord_46 (by first | assumption | exact hT.2.1) (by omega) (by omega) ?_
            try simp (disch := omega) only [rdI_e, rdI_n, rdC_i, rdC_o, rdW, rdR, rdU_e, rdU_n, rdLW, Int.add_zero, mQ_p, mQ_b, mQ_d, mQ_c, mQ_w, mQ_e, mQ_t, he, htp]
            refine x_aload_n dX8_isWord_47 rfl rfl ?_
            refine x_iload_n dX8_isWord_48 rfl rfl ?_
            refine g_callI (vs := [_, _]) (d' := d - 1) rfl (s_J3_charAt (by omega) (by assumption) (by omega)) dX8_isWord_49 kX8_117 (by omega) (by decide) rfl (Nat.le_of_ble_eq_true rfl) (rcv_s (by omega) (by first | assumption | exact hT.2.1)) (fun x49 M49 h49 => ?_)
            obtain ⟨e49, f49⟩ := h49
            have f49' := f49.symm
            subst f49'
            subst e49
            try simp (disch := omega) only [rdI_e, rdI_n, rdC_i, rdC_o, rdW, rdR, rdU_e, rdU_n, rdLW, Int.add_zero, mQ_p, mQ_b, mQ_d, mQ_c, mQ_w, mQ_e, mQ_t, he, htp]
            refine x_icmp_ne (tgt := 59) dX8_isWord_52 (by decide) (fun h52 => ?_) (fun h52 => ?_)
            · refine x_iconst dX8_isWord_59 rfl ?_
              refine x_istore_n (L' := [some _, some _, some _, some _]) dX8_isWord_60 rfl (by decide) rfl ?_
              first | refine x_iincN (L' := [some _, some _, some _, some _]) dX8_isWord_61 rfl (by decide) (by unfold i32; omega) rfl ?_ | refine x_iinc (L' := [some _, some _, some _, some _]) dX8_isWord_61 rfl (by decide) rfl ?_
              refine x_goto (tgt := 24) dX8_isWord_64 (by decide) ?_
              refine ih _ (by omega) (k + 1) _ rfl (by omega) ?_
              first
              | (refine (vP_t ⟨hpb, fun j hj => ?_⟩).symm
                 by_cases q : (j : Int) < k
                 · exact hy1.2 j q
                 · have ej : j = k.toNat := by omega
                   subst ej
                   rw [show ((k.toNat : Nat) : Int) = k by omega]
                   exact h52)
              | (refine (vP_f fun q => h52 ?_).symm
                 have := q.2 k.toNat (by omega)
                 rw [show ((k.toNat : Nat) : Int) = k by omega] at this
                 exact this)
            · refine x_iconst dX8_isWord_55 rfl ?_
              refine x_goto (tgt := 60) dX8_isWord_56 (by decide) ?_
              refine x_istore_n (L' := [some _, some _, some _, some _]) dX8_isWord_60 rfl (by decide) rfl ?_
              first | refine x_iincN (L' := [some _, some _, some _, some _]) dX8_isWord_61 rfl (by decide) (by unfold i32; omega) rfl ?_ | refine x_iinc (L' := [some _, some _, some _, some _]) dX8_isWord_61 rfl (by decide) rfl ?_
              refine x_goto (tgt := 24) dX8_isWord_64 (by decide) ?_
              refine ih _ (by omega) (k + 1) _ rfl (by omega) ?_
              first
              | (refine (vP_t ⟨hpb, fun j hj => ?_⟩).symm
                 by_cases q : (j : Int) < k
                 · exact hy1.2 j q
                 · have ej : j = k.toNat := by omega
                   subst ej
                   rw [show ((k.toNat : Nat) : Int) = k by omega]
                   exact h52)
              | (refine (vP_f fun q => h52 ?_).symm
                 have := q.2 k.toNat (by omega)
                 rw [show ((k.toNat : Nat) : Int) = k by omega] at this
                 exact this)
      · have fin : y = vP (isW tp b p (txB i)) := by
          rcases hy01 with q | q
          · rw [q]
            refine (vP_f fun z => ?_).symm
            rw [q] at hy
            exact (vP_0.mp hy.symm) ⟨z.1, fun j hj => z.2 j (by omega)⟩
          · rw [q]
            have hy1 := (vP_1.mp (hy.symm.trans q))
            exact (vP_t ⟨hy1.1, fun j hj => hy1.2 j (by omega)⟩).symm
        refine x_iload_n dX8_isWord_24 rfl rfl ?_
        refine x_if_eq (tgt := 67) dX8_isWord_25 (by decide) (fun h25 => ?_) (fun h25 => ?_)
        · refine x_iload_n dX8_isWord_67 rfl rfl ?_
          refine x_zreturn (by exact hy01) rfl dX8_isWord_68 ?_
          exact hQ _ _ ⟨_, rfl, fin, rfl⟩
        · refine x_iload_n dX8_isWord_28 rfl rfl ?_
          refine x_aload_n dX8_isWord_29 rfl rfl ?_
          refine g_callI (vs := [_]) (d' := d - 1) rfl (s_J3_length (by omega) (by assumption)) dX8_isWord_30 kX8_112 (by omega) (by decide) rfl (Nat.le_of_ble_eq_true rfl) (rcv_s (by omega) (by first | assumption | exact hT.2.1)) (fun x30 M30 h30 => ?_)
          obtain ⟨e30, f30⟩ := h30
          have f30' := f30.symm
          subst f30'
          subst e30
          try simp (disch := omega) only [rdI_e, rdI_n, rdC_i, rdC_o, rdW, rdR, rdU_e, rdU_n, rdLW, Int.add_zero, mQ_p, mQ_b, mQ_d, mQ_c, mQ_w, mQ_e, mQ_t, he, htp]
          refine x_icmp_ge (tgt := 67) dX8_isWord_33 (by decide) (fun h33 => ?_) (fun h33 => ?_)
          · refine x_iload_n dX8_isWord_67 rfl rfl ?_
            refine x_zreturn (by exact hy01) rfl dX8_isWord_68 ?_
            exact hQ _ _ ⟨_, rfl, fin, rfl⟩
          · omega
  refine x_aload_n dX8_isWord_0 rfl rfl ?_
  refine g_getI (kI := 10) rfl dX8_isWord_1 fX8_96_8 (by first | assumption | exact hT.2.1) ?_
  try simp (disch := omega) only [rdI_e, rdI_n, rdC_i, rdC_o, rdW, rdR, rdU_e, rdU_n, rdLW, Int.add_zero, mQ_p, mQ_b, mQ_d, mQ_c, mQ_w, mQ_e, mQ_t, he, htp]
  refine x_aload_n dX8_isWord_4 rfl rfl ?_
  refine g_getI (kI := 12) rfl dX8_isWord_5 fX8_106_8 (by first | assumption | exact hT.2.1) ?_
  try simp (disch := omega) only [rdI_e, rdI_n, rdC_i, rdC_o, rdW, rdR, rdU_e, rdU_n, rdLW, Int.add_zero, mQ_p, mQ_b, mQ_d, mQ_c, mQ_w, mQ_e, mQ_t, he, htp]
  first | refine x_isubN dX8_isWord_8 (by unfold i32; omega) ?_ | refine x_isub dX8_isWord_8 ?_
  refine x_aload_n dX8_isWord_9 rfl rfl ?_
  refine g_callI (vs := [_]) (d' := d - 1) rfl (s_J3_length (by omega) (by assumption)) dX8_isWord_10 kX8_112 (by omega) (by decide) rfl (Nat.le_of_ble_eq_true rfl) (rcv_s (by omega) (by first | assumption | exact hT.2.1)) (fun x10 M10 h10 => ?_)
  obtain ⟨e10, f10⟩ := h10
  have f10' := f10.symm
  subst f10'
  subst e10
  try simp (disch := omega) only [rdI_e, rdI_n, rdC_i, rdC_o, rdW, rdR, rdU_e, rdU_n, rdLW, Int.add_zero, mQ_p, mQ_b, mQ_d, mQ_c, mQ_w, mQ_e, mQ_t, he, htp]
  refine x_icmp_ne (tgt := 20) dX8_isWord_13 (by decide) (fun h13 => ?_) (fun h13 => ?_)
  · refine x_iconst dX8_isWord_20 rfl ?_
    refine x_istore_n (L' := [some _, some _, some _, none]) dX8_isWord_21 rfl (by decide) rfl ?_
    refine x_iconst dX8_isWord_22 rfl ?_
    refine x_istore_n (L' := [some _, some _, some _, some _]) dX8_isWord_23 rfl (by decide) rfl ?_
    first
    | exact lp _ 0 1 rfl (by omega) (vP_t ⟨h13, fun j hj => by omega⟩).symm
    | exact lp _ 0 0 rfl (by omega) (vP_f fun q => h13 q.1).symm
  · refine x_iconst dX8_isWord_16 rfl ?_
    refine x_goto (tgt := 21) dX8_isWord_17 (by decide) ?_
    refine x_istore_n (L' := [some _, some _, some _, none]) dX8_isWord_21 rfl (by decide) rfl ?_
    refine x_iconst dX8_isWord_22 rfl ?_
    refine x_istore_n (L' := [some _, some _, some _, some _]) dX8_isWord_23 rfl (by decide) rfl ?_
    first
    | exact lp _ 0 1 rfl (by omega) (vP_t ⟨h13, fun j hj => by omega⟩).symm
    | exact lp _ 0 0 rfl (by omega) (vP_f fun q => h13 q.1).symm
theorem s_X8_passes {i : Nat} {a : Int} (hd : 19 ≤ d) (hR : RdH M m tp e) (hp : 0 ≤ p ∧ p ≤ e) (hi : i < 34) (ha : a = -(10 + 2 * (i : Int))) : CS G d mX8_passes [dR m, dR a] (mQr M m p b dp c w) (postI fun x M1 => x = vP (isW tp (skB tp e p) (wdB tp e (skB tp e p)) (txB i)) ∧ (isW tp (skB tp e p) (wdB tp e (skB tp e p)) (txB i) → M1 = mQr M m (wdB tp e (skB tp e p)) (skB tp e p) dp c w) ∧ (¬ isW tp (skB tp e p) (wdB tp e (skB tp e p)) (txB i) → M1 = mQr M m (skB tp e p) (skB tp e p) dp c w)) := by
  obtain ⟨hT, he, htp, he2, hX⟩ := id hR
  have hs := skB_r (tp := tp) hp.2
  have hs2 := wdB_r (tp := tp) hs.2
  have hT_ := hT; obtain ⟨p0, p1, ⟨c1, c2, c3, c4, c5, c6, c7, c8, c9, c10, c11, c12, c13, c14, c15⟩, ⟨t1, t2, t3, t4, t5, t6, t7, t8, t9, t10, t11, t12, t13, t14, t15⟩⟩ := hT_
  refine CS.mkQ (by decide) (Nat.le_of_ble_eq_true rfl) fun Q hQ => ?_
  refine x_aload_n dX8_passes_0 rfl rfl ?_
  refine g_callN (vs := [_]) (d' := d - 1) rfl (s_X8_letters (by omega) hR (by omega)) dX8_passes_1 kX8_121 (by omega) (by decide) rfl (Nat.le_of_ble_eq_true rfl) (rcv_o (by first | assumption | exact hT.2.1) rfl) (fun M1 h1 => ?_)
  have f1 := h1.symm
  subst f1
  refine x_aload_n dX8_passes_4 rfl rfl ?_
  refine x_aload_n dX8_passes_5 rfl rfl ?_
  refine g_callI (vs := [_, _]) (d' := d - 1) rfl (s_X8_isWord (i := i) (by omega) hR (by omega) hi ha) dX8_passes_6 kX8_124 (by omega) (by decide) rfl (Nat.le_of_ble_eq_true rfl) (rcv_o (by first | assumption | exact hT.2.1) rfl) (fun x6 M6 h6 => ?_)
  obtain ⟨e6, f6⟩ := h6
  have f6' := f6.symm
  subst f6'
  subst e6
  try simp (disch := omega) only [rdI_e, rdI_n, rdC_i, rdC_o, rdW, rdR, rdU_e, rdU_n, rdLW, Int.add_zero, mQ_p, mQ_b, mQ_d, mQ_c, mQ_w, mQ_e, mQ_t, he, htp]
  refine x_if_eq (tgt := 14) dX8_passes_9 (by decide) (fun h9 => ?_) (fun h9 => ?_)
  · try simp only [vP_0, vP_1, vP_n0, vP_n1, Classical.not_not] at h9
    refine x_aload_n dX8_passes_14 rfl rfl ?_
    refine x_aload_n dX8_passes_15 rfl rfl ?_
    refine g_getI (kI := 12) rfl dX8_passes_16 fX8_106_8 (by first | assumption | exact hT.2.1) ?_
    try simp (disch := omega) only [rdI_e, rdI_n, rdC_i, rdC_o, rdW, rdR, rdU_e, rdU_n, rdLW, Int.add_zero, mQ_p, mQ_b, mQ_d, mQ_c, mQ_w, mQ_e, mQ_t, he, htp]
    refine g_putI (kI := 10) rfl dX8_passes_19 fX8_96_8 (by first | assumption | exact hT.2.1) ?_
    try simp only [mQ_wp, mQ_wb, mQ_wd, mQ_wc, mQ_ww]
    refine x_iconst dX8_passes_22 rfl ?_
    refine x_zreturn (by first | exact Or.inl rfl | exact Or.inr rfl | exact vB_r _ | exact vP_r _ | assumption | omega) rfl dX8_passes_23 ?_
    first
    | exact hQ _ _ ⟨_, rfl, (vP_t h9).symm, fun _ => rfl, fun q => absurd h9 q⟩
    | exact hQ _ _ ⟨_, rfl, (vP_f h9).symm, fun q => absurd q h9, fun _ => rfl⟩
  · try simp only [vP_0, vP_1, vP_n0, vP_n1, Classical.not_not] at h9
    refine x_iconst dX8_passes_12 rfl ?_
    refine x_zreturn (by first | exact Or.inl rfl | exact Or.inr rfl | exact vB_r _ | exact vP_r _ | assumption | omega) rfl dX8_passes_13 ?_
    first
    | exact hQ _ _ ⟨_, rfl, (vP_t h9).symm, fun _ => rfl, fun q => absurd h9 q⟩
    | exact hQ _ _ ⟨_, rfl, (vP_f h9).symm, fun q => absurd q h9, fun _ => rfl⟩
theorem s_X8_sign (hd : 12 ≤ d) (hR : RdH M m tp e) (hp : 0 ≤ p ∧ p ≤ e) : CS G d mX8_sign [dR m, dI n] (mQr M m p b dp c w) (postI fun x M1 => x = vP (chP tp e n n (skB tp e p)) ∧ (chP tp e n n (skB tp e p) → M1 = mQr M m (skB tp e p + 1) (skB tp e p) dp c w) ∧ (¬ chP tp e n n (skB tp e p) → M1 = mQr M m (skB tp e p) (skB tp e p) dp c w)) := by
  obtain ⟨hT, he, htp, he2, hX⟩ := id hR
  have hs := skB_r (tp := tp) hp.2
  have hT_ := hT; obtain ⟨p0, p1, ⟨c1, c2, c3, c4, c5, c6, c7, c8, c9, c10, c11, c12, c13, c14, c15⟩, ⟨t1, t2, t3, t4, t5, t6, t7, t8, t9, t10, t11, t12, t13, t14, t15⟩⟩ := hT_
  refine CS.mkQ (by decide) (Nat.le_of_ble_eq_true rfl) fun Q hQ => ?_
  by_cases h : chP tp e n n (skB tp e p)
  · have h1 := h.1
    refine x_aload_n dX8_sign_0 rfl rfl ?_
    refine g_callN (vs := [_]) (d' := d - 1) rfl (s_X8_blanks (by omega) hR (by omega)) dX8_sign_1 kX8_109 (by omega) (by decide) rfl (Nat.le_of_ble_eq_true rfl) (rcv_o (by first | assumption | exact hT.2.1) rfl) (fun M1 h1 => ?_)
    have f1 := h1.symm
    subst f1
    refine x_aload_n dX8_sign_4 rfl rfl ?_
    refine x_iload_n dX8_sign_5 rfl rfl ?_
    refine x_iload_n dX8_sign_6 rfl rfl ?_
    refine g_callI (vs := [_, _, _]) (d' := d - 1) rfl (s_X8_isAt (by omega) hR (by omega)) dX8_sign_7 kX8_102 (by omega) (by decide) rfl (Nat.le_of_ble_eq_true rfl) (rcv_o (by first | assumption | exact hT.2.1) rfl) (fun x7 M7 h7 => ?_)
    obtain ⟨e7, f7⟩ := h7
    have f7' := f7.symm
    subst f7'
    subst e7
    try simp (disch := omega) only [rdI_e, rdI_n, rdC_i, rdC_o, rdW, rdR, rdU_e, rdU_n, rdLW, Int.add_zero, mQ_p, mQ_b, mQ_d, mQ_c, mQ_w, mQ_e, mQ_t, he, htp]
    refine x_if_ne (tgt := 15) dX8_sign_10 (by decide) (fun h10 => ?_) (fun h10 => ?_)
    · try simp only [vP_0, vP_1, vP_n0, vP_n1, Classical.not_not] at h10
      refine x_aload_n dX8_sign_15 rfl rfl ?_
      refine x_dup dX8_sign_16 rfl ?_
      refine g_getI (kI := 10) rfl dX8_sign_17 fX8_96_8 (by first | assumption | exact hT.2.1) ?_
      try simp (disch := omega) only [rdI_e, rdI_n, rdC_i, rdC_o, rdW, rdR, rdU_e, rdU_n, rdLW, Int.add_zero, mQ_p, mQ_b, mQ_d, mQ_c, mQ_w, mQ_e, mQ_t, he, htp]
      refine x_iconst dX8_sign_20 rfl ?_
      first | refine x_iaddN dX8_sign_21 (by unfold i32; omega) ?_ | refine x_iadd dX8_sign_21 ?_
      refine g_putI (kI := 10) rfl dX8_sign_22 fX8_96_8 (by first | assumption | exact hT.2.1) ?_
      try simp only [mQ_wp, mQ_wb, mQ_wd, mQ_wc, mQ_ww]
      refine x_iconst dX8_sign_25 rfl ?_
      refine x_zreturn (by first | exact Or.inl rfl | exact Or.inr rfl | exact vB_r _ | exact vP_r _ | assumption | omega) rfl dX8_sign_26 ?_
      exact hQ _ _ ⟨_, rfl, (vP_t h).symm, fun _ => rfl, fun q => absurd h q⟩
    · try simp only [vP_0, vP_1, vP_n0, vP_n1, Classical.not_not] at h10
      exact absurd h h10
  · refine x_aload_n dX8_sign_0 rfl rfl ?_
    refine g_callN (vs := [_]) (d' := d - 1) rfl (s_X8_blanks (by omega) hR (by omega)) dX8_sign_1 kX8_109 (by omega) (by decide) rfl (Nat.le_of_ble_eq_true rfl) (rcv_o (by first | assumption | exact hT.2.1) rfl) (fun M1 h1 => ?_)
    have f1 := h1.symm
    subst f1
    refine x_aload_n dX8_sign_4 rfl rfl ?_
    refine x_iload_n dX8_sign_5 rfl rfl ?_
    refine x_iload_n dX8_sign_6 rfl rfl ?_
    refine g_callI (vs := [_, _, _]) (d' := d - 1) rfl (s_X8_isAt (by omega) hR (by omega)) dX8_sign_7 kX8_102 (by omega) (by decide) rfl (Nat.le_of_ble_eq_true rfl) (rcv_o (by first | assumption | exact hT.2.1) rfl) (fun x7 M7 h7 => ?_)
    obtain ⟨e7, f7⟩ := h7
    have f7' := f7.symm
    subst f7'
    subst e7
    try simp (disch := omega) only [rdI_e, rdI_n, rdC_i, rdC_o, rdW, rdR, rdU_e, rdU_n, rdLW, Int.add_zero, mQ_p, mQ_b, mQ_d, mQ_c, mQ_w, mQ_e, mQ_t, he, htp]
    refine x_if_ne (tgt := 15) dX8_sign_10 (by decide) (fun h10 => ?_) (fun h10 => ?_)
    · try simp only [vP_0, vP_1, vP_n0, vP_n1, Classical.not_not] at h10
      exact absurd h10 h
    · try simp only [vP_0, vP_1, vP_n0, vP_n1, Classical.not_not] at h10
      refine x_iconst dX8_sign_13 rfl ?_
      refine x_zreturn (by first | exact Or.inl rfl | exact Or.inr rfl | exact vB_r _ | exact vP_r _ | assumption | omega) rfl dX8_sign_14 ?_
      exact hQ _ _ ⟨_, rfl, (vP_f h).symm, fun q => absurd q h, fun _ => rfl⟩
theorem s_X8_isNumberNext (hd : 12 ≤ d) (hR : RdH M m tp e) (hp : 0 ≤ p ∧ p ≤ e) : CS G d mX8_isNumberNext [dR m] (mQr M m p b dp c w) (postI fun x M1 => x = vP (chP tp e 48 57 (skB tp e p)) ∧ M1 = mQr M m (skB tp e p) (skB tp e p) dp c w) := by
  obtain ⟨hT, he, htp, he2, hX⟩ := id hR
  have hs := skB_r (tp := tp) hp.2
  have hT_ := hT; obtain ⟨p0, p1, ⟨c1, c2, c3, c4, c5, c6, c7, c8, c9, c10, c11, c12, c13, c14, c15⟩, ⟨t1, t2, t3, t4, t5, t6, t7, t8, t9, t10, t11, t12, t13, t14, t15⟩⟩ := hT_
  refine CS.mkQ (by decide) (Nat.le_of_ble_eq_true rfl) fun Q hQ => ?_
  refine x_aload_n dX8_isNumberNext_0 rfl rfl ?_
  refine g_callN (vs := [_]) (d' := d - 1) rfl (s_X8_blanks (by omega) hR (by omega)) dX8_isNumberNext_1 kX8_109 (by omega) (by decide) rfl (Nat.le_of_ble_eq_true rfl) (rcv_o (by first | assumption | exact hT.2.1) rfl) (fun M1 h1 => ?_)
  have f1 := h1.symm
  subst f1
  refine x_aload_n dX8_isNumberNext_4 rfl rfl ?_
  refine x_bipush dX8_isNumberNext_5 rfl ?_
  refine x_bipush dX8_isNumberNext_7 rfl ?_
  refine g_callI (vs := [_, _, _]) (d' := d - 1) rfl (s_X8_isAt (by omega) hR (by omega)) dX8_isNumberNext_9 kX8_102 (by omega) (by decide) rfl (Nat.le_of_ble_eq_true rfl) (rcv_o (by first | assumption | exact hT.2.1) rfl) (fun x9 M9 h9 => ?_)
  obtain ⟨e9, f9⟩ := h9
  have f9' := f9.symm
  subst f9'
  subst e9
  try simp (disch := omega) only [rdI_e, rdI_n, rdC_i, rdC_o, rdW, rdR, rdU_e, rdU_n, rdLW, Int.add_zero, mQ_p, mQ_b, mQ_d, mQ_c, mQ_w, mQ_e, mQ_t, he, htp]
  refine x_zreturn (by first | exact Or.inl rfl | exact Or.inr rfl | exact vB_r _ | exact vP_r _ | assumption | omega) rfl dX8_isNumberNext_12 ?_
  exact hQ _ _ ⟨_, rfl, rfl, rfl⟩
end X8

