/-! GuestViewModel: which operation it was -/
section X8
variable {G : GW} {d : Nat} {M : Mem} {m a b c p k i what n st pc op hi sz fa : Int} {v vi : Vw} {A : Int → Vw} {tp : Int → Int}
theorem RD.mk0 {x : Int} {g l : Ci} (h0 : mci M m 0 = x) (h : TQ m (mci M) g) (hl : TM m (mcl M) l) (hK : KnOk g l m) (hs : sk01 g m) : RD M m x (wL M g l) :=
  ⟨g, l, rfl, (h _ _ (by unfold scr; omega) (by omega) (by omega) (by omega) (by omega) (by omega) (by omega)).trans h0, fun a k q p1 p2 p3 p4 p5 p6 p7 => h a k p1 p2 p3 p4 p5 p6 p7, hl, hK, hs⟩
theorem RD.t0 (h : TP M m v) : RD M m c (mI M m 0 c) := by
  have h' := h.z (x := c)
  exact ⟨mci (mI M m 0 c), mcl M, rfl, rdI_e ⟨rfl, rfl⟩, fun a k q p1 p2 p3 p4 p5 p6 p7 => rdI_n q, TM.rfl, h'.2.2.2.2.1, h'.2.2.2.2.2⟩
theorem TR.rfl : TR m M M := ⟨mci M, mcl M, _root_.rfl, fun _ _ _ => _root_.rfl, fun _ _ _ => _root_.rfl⟩
theorem TR.trans {M1 M2 : Mem} (h : TR m M M1) (h' : TR m M1 M2) : TR m M M2 := by
  obtain ⟨g, l, e, f1, f2⟩ := h
  obtain ⟨g', l', e', f1', f2'⟩ := h'
  subst e
  subst e'
  exact ⟨g', l', _root_.rfl, fun a k q => (f1' a k q).trans (f1 a k q), fun a k q => (f2' a k q).trans (f2 a k q)⟩
/-- the tape is taken -/
def mUse (M : Mem) (m sz : Int) : Mem := mI (mI (mI (mI M m 0 0) m 11 sz) m 9 0) m 10 0
theorem mUse_o {a k : Int} (h : ¬ a = m) : mci (mUse M m sz) a k = mci M a k := by
  unfold mUse
  rw [rdI_n (by omega), rdI_n (by omega), rdI_n (by omega), rdI_n (by omega)]
theorem mUse_f {k : Int} (h : ¬ k = 0 ∧ ¬ k = 11 ∧ ¬ k = 9 ∧ ¬ k = 10) : mci (mUse M m sz) m k = mci M m k := by
  unfold mUse
  rw [rdI_n (by omega), rdI_n (by omega), rdI_n (by omega), rdI_n (by omega)]
theorem mUse_11 : mci (mUse M m sz) m 11 = sz := by
  unfold mUse
  rw [rdI_n (by omega), rdI_n (by omega), rdI_e ⟨rfl, rfl⟩]
theorem mUse_10 : mci (mUse M m sz) m 10 = 0 := by
  unfold mUse
  rw [rdI_e ⟨rfl, rfl⟩]
theorem mUse_9 : mci (mUse M m sz) m 9 = 0 := by
  unfold mUse
  rw [rdI_n (by omega), rdI_e ⟨rfl, rfl⟩]
theorem mUse_0 : mci (mUse M m sz) m 0 = 0 := by
  unfold mUse
  rw [rdI_n (by omega), rdI_n (by omega), rdI_n (by omega), rdI_e ⟨rfl, rfl⟩]
theorem mUse_fun {a : Int} (h : ¬ a = m) : mci (mUse M m sz) a = mci M a := funext fun k => mUse_o h
theorem TI.use (h : TI M m v n A hi vi tp sz fa) : TI (mUse M m sz) m v n A hi vi tp 0 fa ∧ TR m M (mUse M m sz) := by
  obtain ⟨⟨p1, p2, p3, p4, p5, p6⟩, hacts, ⟨⟨a1, a2⟩, b, c, ⟨d1, d2⟩, e⟩⟩ := h
  refine ⟨⟨⟨p1, (mUse_fun (by omega)).trans p2, p3, p4, KnOk.at p5 (fun p => mUse_o (by omega)) (fun p => rfl), sk01.at p6 (mUse_f (by omega))⟩, hacts.at (mUse_f (by omega)) (fun k => mUse_o (by omega)), ⟨⟨(mUse_f (by omega)).trans a1, a2⟩, fun q k k0 k1 => (mUse_o (by omega)).trans (b q k k0 k1), (mUse_fun (by omega)).trans c, ⟨mUse_9, by omega⟩, (mUse_f (by omega)).trans e⟩⟩, ⟨mci (mUse M m sz), mcl M, rfl, fun a k q => mUse_o (by omega), fun _ _ _ => rfl⟩⟩
theorem s_X8_uses (hd : 10 ≤ d) (hT : TwS (msh M) (mcr M) m) (h9 : mci M m 9 = sz) : CS G d mX8_uses [dR m] M (postN fun M1 => M1 = mUse M m sz) := by
  have hT_ := hT; obtain ⟨p0, p1, ⟨c1, c2, c3, c4, c5, c6, c7, c8, c9, c10, c11, c12, c13, c14, c15⟩, ⟨t1, t2, t3, t4, t5, t6, t7, t8, t9, t10, t11, t12, t13, t14, t15⟩⟩ := hT_
  refine CS.mkQ (by decide) (Nat.le_of_ble_eq_true rfl) fun Q hQ => ?_
  refine x_aload_n dX8_uses_0 rfl rfl ?_
  refine x_iconst dX8_uses_1 rfl ?_
  refine g_putI (kI := 0) rfl dX8_uses_2 fX8_3_8 (by first | assumption | exact hT.2.1) ?_
  refine x_aload_n dX8_uses_5 rfl rfl ?_
  refine x_aload_n dX8_uses_6 rfl rfl ?_
  refine g_getI (kI := 9) rfl dX8_uses_7 fX8_93_8 (by first | assumption | exact hT.2.1) ?_
  try simp (disch := omega) only [rdI_e, rdI_n, rdC_i, rdC_o, rdW, rdR, rdU_e, rdU_n, rdLW, Int.add_zero, h9]
  refine g_putI (kI := 11) rfl dX8_uses_10 fX8_99_8 (by first | assumption | exact hT.2.1) ?_
  refine x_aload_n dX8_uses_13 rfl rfl ?_
  refine x_iconst dX8_uses_14 rfl ?_
  refine g_putI (kI := 9) rfl dX8_uses_15 fX8_93_8 (by first | assumption | exact hT.2.1) ?_
  refine x_aload_n dX8_uses_18 rfl rfl ?_
  refine x_iconst dX8_uses_19 rfl ?_
  refine g_putI (kI := 10) rfl dX8_uses_20 fX8_96_8 (by first | assumption | exact hT.2.1) ?_
  refine x_vreturn rfl dX8_uses_23 ?_
  exact hQ _ _ ⟨rfl, rfl⟩
theorem s_X8_areTold (hd : 11 ≤ d) (hT : TwS (msh M) (mcr M) m) (he : mci M m 11 = n) (htp : mci M (m + 6) = tp) (hn : 0 ≤ n ∧ n ≤ 400) : CS G d mX8_areTold [dR m] M (pur M (vP (toldOk tp n))) := by
  have hT_ := hT; obtain ⟨p0, p1, ⟨c1, c2, c3, c4, c5, c6, c7, c8, c9, c10, c11, c12, c13, c14, c15⟩, ⟨t1, t2, t3, t4, t5, t6, t7, t8, t9, t10, t11, t12, t13, t14, t15⟩⟩ := hT_
  refine CS.mkQ (by decide) (Nat.le_of_ble_eq_true rfl) fun Q hQ => ?_
  have loop : ∀ (t : Nat) (k y : Int), (n - k).toNat = t → (0 ≤ k) → (k ≤ n ∨ y = 0) → (k % 2 = 0) → (k ≤ 402) → (y = vP (n % 2 = 0 ∧ n ≤ 40 ∧ ∀ j, 0 ≤ j → j < k → j < n → j % 2 = 0 → (0 ≤ tp j ∧ tp j ≤ 6) ∧ 0 ≤ tp (j + 1) ∧ tp (j + 1) ≤ 10)) → WP G d mX8_areTold 26 [some (dR m), some (dI y), some (dI k)] [] (M) Q := by
    intro t
    induction t using Nat.strongRecOn with
    | _ t ih =>
      intro k y ht k0 k1 k2 k3 hy
      have hy01 : y = 0 ∨ y = 1 := by rw [hy]; exact vP_r _
      by_cases hgo : k < n ∧ y = 1
      · have hq := vP_1.mp (hy.symm.trans hgo.2)
        have step : ∀ P : Prop, (P ↔ (0 ≤ tp k ∧ tp k ≤ 6) ∧ 0 ≤ tp (k + 1) ∧ tp (k + 1) ≤ 10) → vP P = vP (n % 2 = 0 ∧ n ≤ 40 ∧ ∀ j, 0 ≤ j → j < k + 2 → j < n → j % 2 = 0 → (0 ≤ tp j ∧ tp j ≤ 6) ∧ 0 ≤ tp (j + 1) ∧ tp (j + 1) ≤ 10) := fun P hP => vP_c ⟨fun h => ⟨hq.1, hq.2.1, fun j j0 j1 j2 j3 => by
            by_cases e : j = k
            · subst e; exact hP.mp h
            · exact hq.2.2 j j0 (by omega) j2 j3⟩, fun h => hP.mpr (h.2.2 k k0 (by omega) hgo.1 k2)⟩
        have hn2 := hq.1
        refine x_iload_n dX8_areTold_26 rfl rfl ?_
        refine x_aload_n dX8_areTold_27 rfl rfl ?_
        refine g_getI (kI := 11) rfl dX8_areTold_28 fX8_99_8 (by first | assumption | exact hT.2.1) ?_
        try simp (disch := omega) only [rdI_e, rdI_n, rdC_i, rdC_o, rdW, rdR, rdU_e, rdU_n, rdLW, Int.add_zero, he, htp]
        refine x_icmp_ge (tgt := 82) dX8_areTold_31 (by decide) (fun h31 => ?_) (fun h31 => ?_)
        · omega
        · refine x_iload_n dX8_areTold_34 rfl rfl ?_
          refine x_if_eq (tgt := 82) dX8_areTold_35 (by decide) (fun h35 => ?_) (fun h35 => ?_)
          · omega
          · refine x_aload_n dX8_areTold_38 rfl rfl ?_
            refine g_getR (kI := 8) rfl dX8_areTold_39 fX8_29_8 (by first | assumption | exact hT.2.1) (by first | assumption | exact hT.2.1) ?_
            refine x_iload_n dX8_areTold_42 rfl rfl ?_
            refine x_bald dX8_areTold_43 (by first | assumption | exact hT.2.1) (by omega) (by omega) ?_
            try simp (disch := omega) only [rdI_e, rdI_n, rdC_i, rdC_o, rdW, rdR, rdU_e, rdU_n, rdLW, Int.add_zero, he, htp]
            refine x_iconst dX8_areTold_44 rfl ?_
            refine x_bipush dX8_areTold_45 rfl ?_
            refine g_callI (vs := [_, _, _]) (d' := d - 1) rfl (s_X8_in (by omega)) dX8_areTold_47 kX8_88 (by omega) (by decide) rfl (Nat.le_of_ble_eq_true rfl) (rcv_n) (fun x47 M47 h47 => ?_)
            obtain ⟨e47, f47⟩ := h47
            have f47' := f47.symm
            subst f47'
            subst e47
            try simp (disch := omega) only [rdI_e, rdI_n, rdC_i, rdC_o, rdW, rdR, rdU_e, rdU_n, rdLW, Int.add_zero, he, htp]
            refine x_if_eq (tgt := 74) dX8_areTold_50 (by decide) (fun h50 => ?_) (fun h50 => ?_)
            · try simp only [vP_0, vP_1, vP_n0, vP_n1, Classical.not_not] at h50
              refine x_iconst dX8_areTold_74 rfl ?_
              refine x_istore_n (L' := [some _, some _, some _]) dX8_areTold_75 rfl (by decide) rfl ?_
              first | refine x_iincN (L' := [some _, some _, some _]) dX8_areTold_76 rfl (by decide) (by unfold i32; omega) rfl ?_ | refine x_iinc (L' := [some _, some _, some _]) dX8_areTold_76 rfl (by decide) rfl ?_
              refine x_goto (tgt := 26) dX8_areTold_79 (by decide) ?_
              refine ih _ (by omega) (k + 2) _ rfl (by omega) (by omega) (by omega) (by omega) ?_
              rw [← step _ Iff.rfl]
              first
              | exact (vP_t ⟨h50, h67⟩).symm
              | (refine Eq.symm (vP_f ?_)
                 rintro ⟨q1, q2⟩
                 first | exact h50 q1 | exact h67 q2)
            · try simp only [vP_0, vP_1, vP_n0, vP_n1, Classical.not_not] at h50
              refine x_aload_n dX8_areTold_53 rfl rfl ?_
              refine g_getR (kI := 8) rfl dX8_areTold_54 fX8_29_8 (by first | assumption | exact hT.2.1) (by first | assumption | exact hT.2.1) ?_
              refine x_iload_n dX8_areTold_57 rfl rfl ?_
              refine x_iconst dX8_areTold_58 rfl ?_
              first | refine x_iaddN dX8_areTold_59 (by unfold i32; omega) ?_ | refine x_iadd dX8_areTold_59 ?_
              refine x_bald dX8_areTold_60 (by first | assumption | exact hT.2.1) (by omega) (by omega) ?_
              try simp (disch := omega) only [rdI_e, rdI_n, rdC_i, rdC_o, rdW, rdR, rdU_e, rdU_n, rdLW, Int.add_zero, he, htp]
              refine x_iconst dX8_areTold_61 rfl ?_
              refine x_bipush dX8_areTold_62 rfl ?_
              refine g_callI (vs := [_, _, _]) (d' := d - 1) rfl (s_X8_in (by omega)) dX8_areTold_64 kX8_88 (by omega) (by decide) rfl (Nat.le_of_ble_eq_true rfl) (rcv_n) (fun x64 M64 h64 => ?_)
              obtain ⟨e64, f64⟩ := h64
              have f64' := f64.symm
              subst f64'
              subst e64
              try simp (disch := omega) only [rdI_e, rdI_n, rdC_i, rdC_o, rdW, rdR, rdU_e, rdU_n, rdLW, Int.add_zero, he, htp]
              refine x_if_eq (tgt := 74) dX8_areTold_67 (by decide) (fun h67 => ?_) (fun h67 => ?_)
              · try simp only [vP_0, vP_1, vP_n0, vP_n1, Classical.not_not] at h67
                refine x_iconst dX8_areTold_74 rfl ?_
                refine x_istore_n (L' := [some _, some _, some _]) dX8_areTold_75 rfl (by decide) rfl ?_
                first | refine x_iincN (L' := [some _, some _, some _]) dX8_areTold_76 rfl (by decide) (by unfold i32; omega) rfl ?_ | refine x_iinc (L' := [some _, some _, some _]) dX8_areTold_76 rfl (by decide) rfl ?_
                refine x_goto (tgt := 26) dX8_areTold_79 (by decide) ?_
                refine ih _ (by omega) (k + 2) _ rfl (by omega) (by omega) (by omega) (by omega) ?_
                rw [← step _ Iff.rfl]
                first
                | exact (vP_t ⟨h50, h67⟩).symm
                | (refine Eq.symm (vP_f ?_)
                   rintro ⟨q1, q2⟩
                   first | exact h50 q1 | exact h67 q2)
              · try simp only [vP_0, vP_1, vP_n0, vP_n1, Classical.not_not] at h67
                refine x_iconst dX8_areTold_70 rfl ?_
                refine x_goto (tgt := 75) dX8_areTold_71 (by decide) ?_
                refine x_istore_n (L' := [some _, some _, some _]) dX8_areTold_75 rfl (by decide) rfl ?_
                first | refine x_iincN (L' := [some _, some _, some _]) dX8_areTold_76 rfl (by decide) (by unfold i32; omega) rfl ?_ | refine x_iinc (L' := [some _, some _, some _]) dX8_areTold_76 rfl (by decide) rfl ?_
                refine x_goto (tgt := 26) dX8_areTold_79 (by decide) ?_
                refine ih _ (by omega) (k + 2) _ rfl (by omega) (by omega) (by omega) (by omega) ?_
                rw [← step _ Iff.rfl]
                first
                | exact (vP_t ⟨h50, h67⟩).symm
                | (refine Eq.symm (vP_f ?_)
                   rintro ⟨q1, q2⟩
                   first | exact h50 q1 | exact h67 q2)
      · refine x_iload_n dX8_areTold_26 rfl rfl ?_
        refine x_aload_n dX8_areTold_27 rfl rfl ?_
        refine g_getI (kI := 11) rfl dX8_areTold_28 fX8_99_8 (by first | assumption | exact hT.2.1) ?_
        try simp (disch := omega) only [rdI_e, rdI_n, rdC_i, rdC_o, rdW, rdR, rdU_e, rdU_n, rdLW, Int.add_zero, he, htp]
        refine x_icmp_ge (tgt := 82) dX8_areTold_31 (by decide) (fun h31 => ?_) (fun h31 => ?_)
        · refine x_iload_n dX8_areTold_82 rfl rfl ?_
          refine x_zreturn (by exact hy01) rfl dX8_areTold_83 ?_
          refine hQ _ _ ⟨_, rfl, ?_, rfl⟩
          rw [hy]
          rcases hy01 with y0 | y1
          · rw [y0] at hy
            have hq := vP_0.mp hy.symm
            rw [vP_f hq]
            exact (vP_f fun q => hq ⟨q.1, q.2.1, fun j j0 _ j2 j3 => q.2.2 j j0 j2 j3⟩).symm
          · exact vP_c ⟨fun q => ⟨q.1, q.2.1, fun j j0 j1 j3 => q.2.2 j j0 (by omega) j1 j3⟩, fun q => ⟨q.1, q.2.1, fun j j0 _ j2 j3 => q.2.2 j j0 j2 j3⟩⟩
        · refine x_iload_n dX8_areTold_34 rfl rfl ?_
          refine x_if_eq (tgt := 82) dX8_areTold_35 (by decide) (fun h35 => ?_) (fun h35 => ?_)
          · refine x_iload_n dX8_areTold_82 rfl rfl ?_
            refine x_zreturn (by exact hy01) rfl dX8_areTold_83 ?_
            refine hQ _ _ ⟨_, rfl, ?_, rfl⟩
            rw [hy]
            rcases hy01 with y0 | y1
            · rw [y0] at hy
              have hq := vP_0.mp hy.symm
              rw [vP_f hq]
              exact (vP_f fun q => hq ⟨q.1, q.2.1, fun j j0 _ j2 j3 => q.2.2 j j0 j2 j3⟩).symm
            · exact vP_c ⟨fun q => ⟨q.1, q.2.1, fun j j0 j1 j3 => q.2.2 j j0 (by omega) j1 j3⟩, fun q => ⟨q.1, q.2.1, fun j j0 _ j2 j3 => q.2.2 j j0 j2 j3⟩⟩
          · omega
  refine x_aload_n dX8_areTold_0 rfl rfl ?_
  refine g_getI (kI := 11) rfl dX8_areTold_1 fX8_99_8 (by first | assumption | exact hT.2.1) ?_
  try simp (disch := omega) only [rdI_e, rdI_n, rdC_i, rdC_o, rdW, rdR, rdU_e, rdU_n, rdLW, Int.add_zero, he]
  refine x_iconst dX8_areTold_4 rfl ?_
  first | refine x_iremN dX8_areTold_5 (by omega) (by omega) ?_ | refine x_irem dX8_areTold_5 (by omega) ?_
  refine x_if_ne (tgt := 22) dX8_areTold_6 (by decide) (fun h6 => ?_) (fun h6 => ?_)
  · refine x_iconst dX8_areTold_22 rfl ?_
    refine x_istore_n (L' := [some _, some _, none]) dX8_areTold_23 rfl (by decide) rfl ?_
    refine x_iconst dX8_areTold_24 rfl ?_
    refine x_istore_n (L' := [some _, some _, some _]) dX8_areTold_25 rfl (by decide) rfl ?_
    refine loop _ 0 _ rfl (by omega) (by omega) (by omega) (by omega) ?_
    first
    | exact (vP_t ⟨h6, Int.not_lt.mp h15, fun j _ _ => by omega⟩).symm
    | (refine Eq.symm (vP_f ?_)
       rintro ⟨q1, q2, -⟩
       first | exact h6 q1 | omega)
  · refine x_aload_n dX8_areTold_9 rfl rfl ?_
    refine g_getI (kI := 11) rfl dX8_areTold_10 fX8_99_8 (by first | assumption | exact hT.2.1) ?_
    try simp (disch := omega) only [rdI_e, rdI_n, rdC_i, rdC_o, rdW, rdR, rdU_e, rdU_n, rdLW, Int.add_zero, he]
    refine x_bipush dX8_areTold_13 rfl ?_
    refine x_icmp_gt (tgt := 22) dX8_areTold_15 (by decide) (fun h15 => ?_) (fun h15 => ?_)
    · refine x_iconst dX8_areTold_22 rfl ?_
      refine x_istore_n (L' := [some _, some _, none]) dX8_areTold_23 rfl (by decide) rfl ?_
      refine x_iconst dX8_areTold_24 rfl ?_
      refine x_istore_n (L' := [some _, some _, some _]) dX8_areTold_25 rfl (by decide) rfl ?_
      refine loop _ 0 _ rfl (by omega) (by omega) (by omega) (by omega) ?_
      first
      | exact (vP_t ⟨h6, Int.not_lt.mp h15, fun j _ _ => by omega⟩).symm
      | (refine Eq.symm (vP_f ?_)
         rintro ⟨q1, q2, -⟩
         first | exact h6 q1 | omega)
    · refine x_iconst dX8_areTold_18 rfl ?_
      refine x_goto (tgt := 23) dX8_areTold_19 (by decide) ?_
      refine x_istore_n (L' := [some _, some _, none]) dX8_areTold_23 rfl (by decide) rfl ?_
      refine x_iconst dX8_areTold_24 rfl ?_
      refine x_istore_n (L' := [some _, some _, some _]) dX8_areTold_25 rfl (by decide) rfl ?_
      refine loop _ 0 _ rfl (by omega) (by omega) (by omega) (by omega) ?_
      first
      | exact (vP_t ⟨h6, Int.not_lt.mp h15, fun j _ _ => by omega⟩).symm
      | (refine Eq.symm (vP_f ?_)
         rintro ⟨q1, q2, -⟩
         first | exact h6 q1 | omega)
theorem s_X8_whatOf (hd : 13 ≤ d) (hT : TwS (msh M) (mcr M) m) (hw : mci M (m + 1) = v) (hp : 0 ≤ p ∧ p < 8) (ht : mci M (m + 10) p = traV v p) (hwh : 0 ≤ what ∧ what ≤ 6) : CS G d mX8_whatOf [dR m, dI p, dI what] M (pur M (toldV v p what)) := by
  have hT_ := hT; obtain ⟨p0, p1, ⟨c1, c2, c3, c4, c5, c6, c7, c8, c9, c10, c11, c12, c13, c14, c15⟩, ⟨t1, t2, t3, t4, t5, t6, t7, t8, t9, t10, t11, t12, t13, t14, t15⟩⟩ := hT_
  refine CS.mkQ (by decide) (Nat.le_of_ble_eq_true rfl) fun Q hQ => ?_
  refine x_iload_n dX8_whatOf_0 rfl rfl ?_
  refine x_iconst dX8_whatOf_1 rfl ?_
  refine x_icmp_ge (tgt := 14) dX8_whatOf_2 (by decide) (fun h2 => ?_) (fun h2 => ?_)
  · refine x_iload_n dX8_whatOf_14 rfl rfl ?_
    refine x_bipush dX8_whatOf_15 rfl ?_
    refine x_icmp_ne (tgt := 29) dX8_whatOf_17 (by decide) (fun h17 => ?_) (fun h17 => ?_)
    · refine x_aload_n dX8_whatOf_29 rfl rfl ?_
      refine g_getR (kI := 26) rfl dX8_whatOf_30 fX8_45_8 (by first | assumption | exact hT.2.1) (by first | assumption | exact hT.2.1) ?_
      refine x_iload_n dX8_whatOf_33 rfl rfl ?_
      refine x_iald dX8_whatOf_34 (by first | assumption | exact hT.2.1) (by omega) (by omega) ?_
      try simp (disch := omega) only [rdI_e, rdI_n, rdC_i, rdC_o, rdW, rdR, rdU_e, rdU_n, rdLW, Int.add_zero, ht]
      refine x_iload_n dX8_whatOf_35 rfl rfl ?_
      refine x_iconst dX8_whatOf_36 rfl ?_
      first | refine x_isubN dX8_whatOf_37 (by unfold i32; omega) ?_ | refine x_isub dX8_whatOf_37 ?_
      refine x_ishr dX8_whatOf_38 ?_
      refine x_iconst dX8_whatOf_39 rfl ?_
      refine x_iand dX8_whatOf_40 ?_
      try rw [tra_h (k := what - 2) (by omega)]
      refine x_ireturn rfl dX8_whatOf_41 ?_
      refine hQ _ _ ⟨_, rfl, ?_, rfl⟩
      rcases (show what = 0 ∨ what = 1 ∨ what = 2 ∨ what = 3 ∨ what = 4 ∨ what = 5 ∨ what = 6 by omega) with rfl | rfl | rfl | rfl | rfl | rfl | rfl
      all_goals first | omega | rfl | exact congrArg v (by omega)
    · refine x_aload_n dX8_whatOf_20 rfl rfl ?_
      refine x_iload_n dX8_whatOf_21 rfl rfl ?_
      refine x_iconst dX8_whatOf_22 rfl ?_
      refine g_callI (vs := [_, _, _]) (d' := d - 1) rfl (s_X8_kindOf (by omega) hT (by first | exact hw | exact mciI (by omega) hw | exact mciI (by omega) (mciI (by omega) hw) | exact mciI (by omega) (mciI (by omega) (mciI (by omega) hw)) | exact mciI (by omega) (mciI (by omega) (mciI (by omega) (mciI (by omega) hw))) | exact mciC (by omega) hw) (by omega) (by omega)) dX8_whatOf_23 kX8_298 (by omega) (by decide) rfl (Nat.le_of_ble_eq_true rfl) (rcv_o (by first | assumption | exact hT.2.1) rfl) (fun x23 M23 h23 => ?_)
      obtain ⟨e23, f23⟩ := h23
      have f23' := f23.symm
      subst f23'
      subst e23
      try simp (disch := omega) only [rdI_e, rdI_n, rdC_i, rdC_o, rdW, rdR, rdU_e, rdU_n, rdLW, Int.add_zero, ht]
      refine x_goto (tgt := 41) dX8_whatOf_26 (by decide) ?_
      try rw [tra_h (k := what - 2) (by omega)]
      refine x_ireturn rfl dX8_whatOf_41 ?_
      refine hQ _ _ ⟨_, rfl, ?_, rfl⟩
      rcases (show what = 0 ∨ what = 1 ∨ what = 2 ∨ what = 3 ∨ what = 4 ∨ what = 5 ∨ what = 6 by omega) with rfl | rfl | rfl | rfl | rfl | rfl | rfl
      all_goals first | omega | rfl | exact congrArg v (by omega)
  · refine x_aload_n dX8_whatOf_5 rfl rfl ?_
    refine x_iload_n dX8_whatOf_6 rfl rfl ?_
    refine x_iload_n dX8_whatOf_7 rfl rfl ?_
    refine g_callI (vs := [_, _, _]) (d' := d - 1) rfl (s_X8_of (by omega) hT (by first | exact hw | exact mciI (by omega) hw | exact mciI (by omega) (mciI (by omega) hw) | exact mciI (by omega) (mciI (by omega) (mciI (by omega) hw)) | exact mciI (by omega) (mciI (by omega) (mciI (by omega) (mciI (by omega) hw))) | exact mciC (by omega) hw) (by omega) (by omega)) dX8_whatOf_8 kX8_78 (by omega) (by decide) rfl (Nat.le_of_ble_eq_true rfl) (rcv_o (by first | assumption | exact hT.2.1) rfl) (fun x8 M8 h8 => ?_)
    obtain ⟨e8, f8⟩ := h8
    have f8' := f8.symm
    subst f8'
    subst e8
    try simp (disch := omega) only [rdI_e, rdI_n, rdC_i, rdC_o, rdW, rdR, rdU_e, rdU_n, rdLW, Int.add_zero, ht]
    refine x_goto (tgt := 41) dX8_whatOf_11 (by decide) ?_
    try rw [tra_h (k := what - 2) (by omega)]
    refine x_ireturn rfl dX8_whatOf_41 ?_
    refine hQ _ _ ⟨_, rfl, ?_, rfl⟩
    rcases (show what = 0 ∨ what = 1 ∨ what = 2 ∨ what = 3 ∨ what = 4 ∨ what = 5 ∨ what = 6 by omega) with rfl | rfl | rfl | rfl | rfl | rfl | rfl
    all_goals first | omega | rfl | exact congrArg v (by omega)
theorem s_X8_wrongRows (hd : 14 ≤ d) (hT : TwS (msh M) (mcr M) m) (hw : mci M (m + 1) = v) (hp : 0 ≤ p ∧ p < 8) (htr : mci M (m + 10) p = traV v p) (he : mci M m 11 = n) (htp : mci M (m + 6) = tp) (hok : toldOk tp n) (hn : 0 ≤ n) : CS G d mX8_wrongRows [dR m, dI p] M (pur M (wrgV v tp n p)) := by
  have hT_ := hT; obtain ⟨p0, p1, ⟨c1, c2, c3, c4, c5, c6, c7, c8, c9, c10, c11, c12, c13, c14, c15⟩, ⟨t1, t2, t3, t4, t5, t6, t7, t8, t9, t10, t11, t12, t13, t14, t15⟩⟩ := hT_
  obtain ⟨o1, o2, o3⟩ := hok
  refine CS.mkQ (by decide) (Nat.le_of_ble_eq_true rfl) fun Q hQ => ?_
  have loop : ∀ (t : Nat) (k x : Int), (n - k).toNat = t → (0 ≤ k) → (k ≤ n) → (k % 2 = 0) → (x = wrgR v tp p (k / 2).toNat) → WP G d mX8_wrongRows 4 [some (dR m), some (dI p), some (dI x), some (dI k)] [] (M) Q := by
    intro t
    induction t using Nat.strongRecOn with
    | _ t ih =>
      intro k x ht k0 k1 k2 hx
      have hr := wrgR_r v tp p (k / 2).toNat
      rw [← hx] at hr
      have es : wrgR v tp p ((k + 2) / 2).toNat = x + (if toldV v p (tp k) = tp (k + 1) then 0 else 1) := by
        rw [show ((k + 2) / 2).toNat = (k / 2).toNat + 1 by omega, hx]
        show wrgR v tp p (k / 2).toNat + (if toldV v p (tp (2 * (((k / 2).toNat : Nat) : Int))) = tp (2 * (((k / 2).toNat : Nat) : Int) + 1) then 0 else 1) = _
        rw [show 2 * (((k / 2).toNat : Nat) : Int) = k by omega]
      by_cases hk : k < n
      · have ot := o3 k k0 hk k2
        refine x_iload_n dX8_wrongRows_4 rfl rfl ?_
        refine x_aload_n dX8_wrongRows_5 rfl rfl ?_
        refine g_getI (kI := 11) rfl dX8_wrongRows_6 fX8_99_8 (by first | assumption | exact hT.2.1) ?_
        try simp (disch := omega) only [rdI_e, rdI_n, rdC_i, rdC_o, rdW, rdR, rdU_e, rdU_n, rdLW, Int.add_zero, he, htp]
        refine x_icmp_ge (tgt := 48) dX8_wrongRows_9 (by decide) (fun h9 => ?_) (fun h9 => ?_)
        · omega
        · refine x_iload_n dX8_wrongRows_12 rfl rfl ?_
          refine x_aload_n dX8_wrongRows_13 rfl rfl ?_
          refine x_iload_n dX8_wrongRows_14 rfl rfl ?_
          refine x_aload_n dX8_wrongRows_15 rfl rfl ?_
          refine g_getR (kI := 8) rfl dX8_wrongRows_16 fX8_29_8 (by first | assumption | exact hT.2.1) (by first | assumption | exact hT.2.1) ?_
          refine x_iload_n dX8_wrongRows_19 rfl rfl ?_
          refine x_bald dX8_wrongRows_20 (by first | assumption | exact hT.2.1) (by omega) (by omega) ?_
          try simp (disch := omega) only [rdI_e, rdI_n, rdC_i, rdC_o, rdW, rdR, rdU_e, rdU_n, rdLW, Int.add_zero, he, htp]
          refine g_callI (vs := [_, _, _]) (d' := d - 1) rfl (s_X8_whatOf (by omega) hT hw hp htr ot.1) dX8_wrongRows_21 kX8_491 (by omega) (by decide) rfl (Nat.le_of_ble_eq_true rfl) (rcv_o (by first | assumption | exact hT.2.1) rfl) (fun x21 M21 h21 => ?_)
          obtain ⟨e21, f21⟩ := h21
          have f21' := f21.symm
          subst f21'
          subst e21
          try simp (disch := omega) only [rdI_e, rdI_n, rdC_i, rdC_o, rdW, rdR, rdU_e, rdU_n, rdLW, Int.add_zero, he, htp]
          refine x_aload_n dX8_wrongRows_24 rfl rfl ?_
          refine g_getR (kI := 8) rfl dX8_wrongRows_25 fX8_29_8 (by first | assumption | exact hT.2.1) (by first | assumption | exact hT.2.1) ?_
          refine x_iload_n dX8_wrongRows_28 rfl rfl ?_
          refine x_iconst dX8_wrongRows_29 rfl ?_
          first | refine x_iaddN dX8_wrongRows_30 (by unfold i32; omega) ?_ | refine x_iadd dX8_wrongRows_30 ?_
          refine x_bald dX8_wrongRows_31 (by first | assumption | exact hT.2.1) (by omega) (by omega) ?_
          try simp (disch := omega) only [rdI_e, rdI_n, rdC_i, rdC_o, rdW, rdR, rdU_e, rdU_n, rdLW, Int.add_zero, he, htp]
          refine x_icmp_ne (tgt := 39) dX8_wrongRows_32 (by decide) (fun h32 => ?_) (fun h32 => ?_)
          · refine x_iconst dX8_wrongRows_39 rfl ?_
            first | refine x_iaddN dX8_wrongRows_40 (by unfold i32; omega) ?_ | refine x_iadd dX8_wrongRows_40 ?_
            refine x_istore_n (L' := [some _, some _, some _, some _]) dX8_wrongRows_41 rfl (by decide) rfl ?_
            first | refine x_iincN (L' := [some _, some _, some _, some _]) dX8_wrongRows_42 rfl (by decide) (by unfold i32; omega) rfl ?_ | refine x_iinc (L' := [some _, some _, some _, some _]) dX8_wrongRows_42 rfl (by decide) rfl ?_
            refine x_goto (tgt := 4) dX8_wrongRows_45 (by decide) ?_
            first
            | (rw [if_pos h32] at es; exact ih _ (by omega) (k + 2) _ rfl (by omega) (by omega) (by omega) (by omega))
            | (rw [if_neg h32] at es; exact ih _ (by omega) (k + 2) _ rfl (by omega) (by omega) (by omega) (by omega))
          · refine x_iconst dX8_wrongRows_35 rfl ?_
            refine x_goto (tgt := 40) dX8_wrongRows_36 (by decide) ?_
            first | refine x_iaddN dX8_wrongRows_40 (by unfold i32; omega) ?_ | refine x_iadd dX8_wrongRows_40 ?_
            refine x_istore_n (L' := [some _, some _, some _, some _]) dX8_wrongRows_41 rfl (by decide) rfl ?_
            first | refine x_iincN (L' := [some _, some _, some _, some _]) dX8_wrongRows_42 rfl (by decide) (by unfold i32; omega) rfl ?_ | refine x_iinc (L' := [some _, some _, some _, some _]) dX8_wrongRows_42 rfl (by decide) rfl ?_
            refine x_goto (tgt := 4) dX8_wrongRows_45 (by decide) ?_
            first
            | (rw [if_pos h32] at es; exact ih _ (by omega) (k + 2) _ rfl (by omega) (by omega) (by omega) (by omega))
            | (rw [if_neg h32] at es; exact ih _ (by omega) (k + 2) _ rfl (by omega) (by omega) (by omega) (by omega))
      · refine x_iload_n dX8_wrongRows_4 rfl rfl ?_
        refine x_aload_n dX8_wrongRows_5 rfl rfl ?_
        refine g_getI (kI := 11) rfl dX8_wrongRows_6 fX8_99_8 (by first | assumption | exact hT.2.1) ?_
        try simp (disch := omega) only [rdI_e, rdI_n, rdC_i, rdC_o, rdW, rdR, rdU_e, rdU_n, rdLW, Int.add_zero, he, htp]
        refine x_icmp_ge (tgt := 48) dX8_wrongRows_9 (by decide) (fun h9 => ?_) (fun h9 => ?_)
        · refine x_iload_n dX8_wrongRows_48 rfl rfl ?_
          refine x_ireturn rfl dX8_wrongRows_49 ?_
          refine hQ _ _ ⟨_, rfl, ?_, rfl⟩
          unfold wrgV
          rw [hx, show k = n by omega]
        · omega
  refine x_iconst dX8_wrongRows_0 rfl ?_
  refine x_istore_n (L' := [some _, some _, some _, none]) dX8_wrongRows_1 rfl (by decide) rfl ?_
  refine x_iconst dX8_wrongRows_2 rfl ?_
  refine x_istore_n (L' := [some _, some _, some _, some _]) dX8_wrongRows_3 rfl (by decide) rfl ?_
  exact loop _ 0 0 rfl (by omega) (by omega) (by omega) rfl
theorem s_X8_thatFit {w : Int} (hd : 15 ≤ d) (hT : TwS (msh M) (mcr M) m) (hw : mci M (m + 1) = v) (hv : okB v) (hTr : TrOk (mci M) m v) (he : mci M m 11 = n) (htp : mci M (m + 6) = tp) (hok : toldOk tp n) (hn : 0 ≤ n) : CS G d mX8_thatFit [dR m, dI w] M (pur M (fitV v tp n w)) := by
  have hv0 := hv.1
  refine CS.mkQ (by decide) (Nat.le_of_ble_eq_true rfl) fun Q hQ => ?_
  have loop : ∀ (t : Nat) (p x : Int), (v 0 - p).toNat = t → (0 ≤ p) → (p ≤ v 0) → (x = numR (fun p => wrgV v tp n p ≤ w) p.toNat) → WP G d mX8_thatFit 4 [some (dR m), some (dI w), some (dI x), some (dI p)] [] (M) Q := by
    intro t
    induction t using Nat.strongRecOn with
    | _ t ih =>
      intro p x ht h0 h1 hx
      have hr := num_r (fun p => wrgV v tp n p ≤ w) p.toNat
      have h8 := pw_le8 (t := p.toNat) (by omega)
      rw [show ((p.toNat : Nat) : Int) = p by omega] at hr h8
      have hs : numR (fun p => wrgV v tp n p ≤ w) (p + 1).toNat = numR (fun p => wrgV v tp n p ≤ w) p.toNat + (@ite Int (wrgV v tp n p ≤ w) (Classical.propDecidable _) (pw p) 0) := by
        rw [show (p + 1).toNat = p.toNat + 1 by omega, num_s, show ((p.toNat : Nat) : Int) = p by omega]
      refine x_iload_n dX8_thatFit_4 rfl rfl ?_
      refine x_aload_n dX8_thatFit_5 rfl rfl ?_
      refine g_callI (vs := [_]) (d' := d - 1) rfl (s_X8_ops (by omega) hT (by first | exact hw | exact mciI (by omega) hw | exact mciI (by omega) (mciI (by omega) hw) | exact mciI (by omega) (mciI (by omega) (mciI (by omega) hw)) | exact mciI (by omega) (mciI (by omega) (mciI (by omega) (mciI (by omega) hw))) | exact mciC (by omega) hw)) dX8_thatFit_6 kX8_84 (by omega) (by decide) rfl (Nat.le_of_ble_eq_true rfl) (rcv_o (by first | assumption | exact hT.2.1) rfl) (fun x6 M6 h6 => ?_)
      obtain ⟨e6, f6⟩ := h6
      have f6' := f6.symm
      subst f6'
      subst e6
      refine x_icmp_ge (tgt := 37) dX8_thatFit_9 (by decide) (fun h9 => ?_) (fun h9 => ?_)
      · refine x_iload_n dX8_thatFit_37 rfl rfl ?_
        refine x_ireturn rfl dX8_thatFit_38 ?_
        refine hQ _ _ ⟨_, rfl, ?_, rfl⟩
        unfold fitV
        rw [hx, show p = v 0 by omega]
      · refine x_iload_n dX8_thatFit_12 rfl rfl ?_
        refine x_aload_n dX8_thatFit_13 rfl rfl ?_
        refine x_iload_n dX8_thatFit_14 rfl rfl ?_
        refine g_callI (vs := [_, _]) (d' := d - 1) rfl (s_X8_wrongRows (by omega) hT hw (by omega) (hTr p h0 (by omega)) he htp hok hn) dX8_thatFit_15 kX8_494 (by omega) (by decide) rfl (Nat.le_of_ble_eq_true rfl) (rcv_o (by first | assumption | exact hT.2.1) rfl) (fun x15 M15 h15 => ?_)
        obtain ⟨e15, f15⟩ := h15
        have f15' := f15.symm
        subst f15'
        subst e15
        refine x_iload_n dX8_thatFit_18 rfl rfl ?_
        refine x_icmp_gt (tgt := 28) dX8_thatFit_19 (by decide) (fun h19 => ?_) (fun h19 => ?_)
        · refine x_iconst dX8_thatFit_28 rfl ?_
          refine x_ior dX8_thatFit_29 ?_
          first
          | rw [jshl_1 (by omega), hx, jor_lt (by omega) hr]
          | rw [hx, jor_z (by omega)]
          refine x_istore_n (L' := [some _, some _, some _, some _]) dX8_thatFit_30 rfl (by decide) rfl ?_
          first | refine x_iincN (L' := [some _, some _, some _, some _]) dX8_thatFit_31 rfl (by decide) (by unfold i32; omega) rfl ?_ | refine x_iinc (L' := [some _, some _, some _, some _]) dX8_thatFit_31 rfl (by decide) rfl ?_
          refine x_goto (tgt := 4) dX8_thatFit_34 (by decide) ?_
          first
          | (rw [if_pos (show wrgV v tp n p ≤ w by omega)] at hs
             exact ih _ (by omega) (p + 1) _ rfl (by omega) (by omega) hs.symm)
          | (rw [if_neg (show ¬ wrgV v tp n p ≤ w by omega), Int.add_zero] at hs
             exact ih _ (by omega) (p + 1) _ rfl (by omega) (by omega) hs.symm)
        · refine x_iconst dX8_thatFit_22 rfl ?_
          refine x_iload_n dX8_thatFit_23 rfl rfl ?_
          refine x_ishl dX8_thatFit_24 ?_
          refine x_goto (tgt := 29) dX8_thatFit_25 (by decide) ?_
          refine x_ior dX8_thatFit_29 ?_
          first
          | rw [jshl_1 (by omega), hx, jor_lt (by omega) hr]
          | rw [hx, jor_z (by omega)]
          refine x_istore_n (L' := [some _, some _, some _, some _]) dX8_thatFit_30 rfl (by decide) rfl ?_
          first | refine x_iincN (L' := [some _, some _, some _, some _]) dX8_thatFit_31 rfl (by decide) (by unfold i32; omega) rfl ?_ | refine x_iinc (L' := [some _, some _, some _, some _]) dX8_thatFit_31 rfl (by decide) rfl ?_
          refine x_goto (tgt := 4) dX8_thatFit_34 (by decide) ?_
          first
          | (rw [if_pos (show wrgV v tp n p ≤ w by omega)] at hs
             exact ih _ (by omega) (p + 1) _ rfl (by omega) (by omega) hs.symm)
          | (rw [if_neg (show ¬ wrgV v tp n p ≤ w by omega), Int.add_zero] at hs
             exact ih _ (by omega) (p + 1) _ rfl (by omega) (by omega) hs.symm)
  refine x_iconst dX8_thatFit_0 rfl ?_
  refine x_istore_n (L' := [some _, some _, some _, none]) dX8_thatFit_1 rfl (by decide) rfl ?_
  refine x_iconst dX8_thatFit_2 rfl ?_
  refine x_istore_n (L' := [some _, some _, some _, some _]) dX8_thatFit_3 rfl (by decide) rfl ?_
  exact loop _ 0 0 rfl (by omega) (by omega) rfl
theorem fitV_r {w : Int} (hv : okB v) : 0 ≤ fitV v tp n w ∧ fitV v tp n w < 256 := by
  have h := num_r (fun p => wrgV v tp n p ≤ w) (v 0).toNat
  have h8 := pw_le8 (t := (v 0).toNat) (by have := hv.1; omega)
  unfold fitV
  omega
theorem TI.fin {M1 : Mem} (hI : TI M m v n A hi vi tp sz fa) (hr : RD (mUse M m sz) m c M1) : TI M1 m v n A hi vi tp 0 fa ∧ TR m M M1 ∧ mci M1 m 0 = c := by
  have h := hI.use
  have h2 := h.1.rd hr
  exact ⟨h2.1, h.2.trans h2.2.1, h2.2.2⟩
theorem s_X8_which (hd : 18 ≤ d) (hI : TI M m v n A hi vi tp sz fa) : CS G d mX8_which [dR m] M (postI fun x M1 => (toldOk tp sz → x = fitV v tp sz 1 ∧ TI M1 m v n A hi vi tp 0 fa ∧ TR m M M1 ∧ mci M1 m 0 = 0) ∧ (¬ toldOk tp sz → TI M1 m v n A hi vi tp 0 fa ∧ TR m M M1 ∧ mci M1 m 0 = 1)) := by
  have hT := hI.1.1
  have h9 := hI.2.2.2.2.2.1.1
  have hsz := hI.2.2.2.2.2.1.2
  obtain ⟨hP, -, -, -, htp, -⟩ := hI.use.1
  obtain ⟨-, hw, hA, hL, hK, hsk⟩ := id hP
  have hv := hA.1
  have hT_ := hT; obtain ⟨p0, p1, ⟨c1, c2, c3, c4, c5, c6, c7, c8, c9, c10, c11, c12, c13, c14, c15⟩, ⟨t1, t2, t3, t4, t5, t6, t7, t8, t9, t10, t11, t12, t13, t14, t15⟩⟩ := hT_
  refine CS.mkQ (by decide) (Nat.le_of_ble_eq_true rfl) fun Q hQ => ?_
  refine x_aload_n dX8_which_0 rfl rfl ?_
  refine g_callN (vs := [_]) (d' := d - 1) rfl (s_X8_uses (by omega) hT h9) dX8_which_1 kX8_270 (by omega) (by decide) rfl (Nat.le_of_ble_eq_true rfl) (rcv_o (by first | assumption | exact hT.2.1) rfl) (fun M1 h1 => ?_)
  subst h1
  refine x_aload_n dX8_which_4 rfl rfl ?_
  refine x_aload_n dX8_which_5 rfl rfl ?_
  refine g_callI (vs := [_]) (d' := d - 1) rfl (s_X8_areTold (M := mUse M m sz) (by omega) hT mUse_11 htp hsz) dX8_which_6 kX8_497 (by omega) (by decide) rfl (Nat.le_of_ble_eq_true rfl) (rcv_o (by first | assumption | exact hT.2.1) rfl) (fun x6 M6 h6 => ?_)
  obtain ⟨e6, f6⟩ := h6
  have f6' := f6.symm
  subst f6'
  subst e6
  refine x_if_ne (tgt := 16) dX8_which_9 (by decide) (fun h9 => ?_) (fun h9 => ?_)
  · try simp only [vP_0, vP_1, vP_n0, vP_n1, Classical.not_not] at h9
    refine x_iconst dX8_which_16 rfl ?_
    refine x_iconst dX8_which_17 rfl ?_
    refine g_callI (vs := [_, _, _]) (d' := d - 1) rfl (s_X8_throwsIf (by omega) hT (by first | omega | exact vP_r _)) dX8_which_18 kX8_280 (by omega) (by decide) rfl (Nat.le_of_ble_eq_true rfl) (rcv_o (by first | assumption | exact hT.2.1) rfl) (fun x18 M18 h18 => ?_)
    obtain ⟨e18, r18, f18⟩ := h18
    have f18' := (f18.1 (by omega)).symm
    subst f18'
    subst e18
    refine x_if_eq (tgt := 26) dX8_which_21 (by decide) (fun h21 => ?_) (fun h21 => ?_)
    · try simp only [vP_0, vP_1, vP_n0, vP_n1, Classical.not_not] at h21
      refine x_aload_n dX8_which_26 rfl rfl ?_
      refine g_callN (vs := [_]) (d' := d - 1) rfl (s_X8_laysTraits (M := mUse M m sz) (by omega) hT hw hv hK hsk) dX8_which_27 kX8_423 (by omega) (by decide) rfl (Nat.le_of_ble_eq_true rfl) (rcv_o (by first | assumption | exact hT.2.1) rfl) (fun M27 h27 => ?_)
      obtain ⟨g27, l27, hM27, q27, y27, hK27, hTr27, hsk27⟩ := h27
      subst hM27
      refine x_aload_n dX8_which_30 rfl rfl ?_
      refine x_iconst dX8_which_31 rfl ?_
      refine g_callI (vs := [_, _]) (d' := d - 1) rfl (s_X8_thatFit (M := wL (mUse M m sz) g27 l27) (by omega) hT (q27.w hw) hv hTr27 ((q27 _ _ (by unfold scr; omega) (by omega)).trans mUse_11) ((funext fun k => q27 _ _ (by unfold scr; omega) (by omega)).trans htp) h9 hsz.1) dX8_which_32 kX8_500 (by omega) (by decide) rfl (Nat.le_of_ble_eq_true rfl) (rcv_o (by first | assumption | exact hT.2.1) rfl) (fun x32 M32 h32 => ?_)
      obtain ⟨e32, f32⟩ := h32
      have f32' := f32.symm
      subst f32'
      subst e32
      refine x_ireturn rfl dX8_which_35 ?_
      first
      | exact hQ _ _ ⟨_, rfl, fun q => absurd q h9, fun _ => hI.fin (RD.t0 hP)⟩
      | exact hQ _ _ ⟨_, rfl, fun _ => ⟨rfl, hI.fin (RD.mk0 mUse_0 q27.tq y27.tm hK27 hsk27)⟩, fun q => absurd h9 q⟩
    · exact absurd h21 (by decide)
  · try simp only [vP_0, vP_1, vP_n0, vP_n1, Classical.not_not] at h9
    refine x_iconst dX8_which_12 rfl ?_
    refine x_goto (tgt := 17) dX8_which_13 (by decide) ?_
    refine x_iconst dX8_which_17 rfl ?_
    refine g_callI (vs := [_, _, _]) (d' := d - 1) rfl (s_X8_throwsIf (by omega) hT (by first | omega | exact vP_r _)) dX8_which_18 kX8_280 (by omega) (by decide) rfl (Nat.le_of_ble_eq_true rfl) (rcv_o (by first | assumption | exact hT.2.1) rfl) (fun x18 M18 h18 => ?_)
    obtain ⟨e18, r18, f18⟩ := h18
    have f18' := (f18.2 (by omega)).symm
    subst f18'
    subst e18
    refine x_if_eq (tgt := 26) dX8_which_21 (by decide) (fun h21 => ?_) (fun h21 => ?_)
    · exact absurd h21 (by decide)
    · try simp only [vP_0, vP_1, vP_n0, vP_n1, Classical.not_not] at h21
      refine x_iconst dX8_which_24 rfl ?_
      refine x_ireturn rfl dX8_which_25 ?_
      first
      | exact hQ _ _ ⟨_, rfl, fun q => absurd q h9, fun _ => hI.fin (RD.t0 hP)⟩
      | exact hQ _ _ ⟨_, rfl, fun _ => ⟨rfl, hI.fin (RD.mk0 mUse_0 q27.tq y27.tm hK27 hsk27)⟩, fun q => absurd h9 q⟩
end X8

