/-! GuestViewModel: calls that only ask -/
/-- what is kept: all but what computations leave behind; what was thrown is as it was -/
def TQ (m : Int) (f g : Ci) : Prop := ∀ a k, ¬ scr m a k → ¬ a = m + 3 → ¬ a = m + 4 → ¬ a = m + 10 → ¬ a = m + 13 → ¬ a = m + 14 → ¬ (a = m ∧ 10 ≤ k ∧ k ≤ 13) → g a k = f a k
theorem TQ.rfl {m : Int} {f : Ci} : TQ m f f := fun _ _ _ _ _ _ _ _ _ => _root_.rfl
theorem TQ.trans {m : Int} {f g h : Ci} (a : TQ m f g) (b : TQ m g h) : TQ m f h := fun x k p q r s t u w => (b x k p q r s t u w).trans (a x k p q r s t u w)
theorem TE.tq {m : Int} {f g : Ci} (h : TE m f g) : TQ m f g := fun a k p _ _ _ _ _ _ => h a k p
theorem TV.tq {m : Int} {f g : Ci} (h : TV m f g) : TQ m f g := h.te.tq
theorem TA.tq {m : Int} {f g : Ci} (h : TA m f g) : TQ m f g := h.te.tq
theorem TG.tq {m : Int} {f g : Ci} (h : TG m f g) : TQ m f g := fun a k p _ _ q _ _ _ => h a k p q
def TM (m : Int) (l l' : Ci) : Prop := ∀ a k, ¬ a = m + 11 → ¬ a = m + 15 → l' a k = l a k
theorem TLl.tm {m : Int} {l l' : Ci} (h : TLl m l l') : TM m l l' := fun a k p _ => h a k p
theorem TM.rfl {m : Int} {l : Ci} : TM m l l := fun _ _ _ _ => _root_.rfl
theorem TM.trans {m : Int} {f g h : Ci} (a : TM m f g) (b : TM m g h) : TM m f h := fun x k p q => (b x k p q).trans (a x k p q)
/-- what a call of the reference finds -/
def TP (M : Mem) (m : Int) (v : Vw) : Prop := TwS (msh M) (mcr M) m ∧ mci M (m + 1) = v ∧ okA v ∧ lawOK v ∧ KnOk (mci M) (mcl M) m ∧ sk01 (mci M) m
theorem KnOk.at {m : Int} {f g l l' : Ci} (h : KnOk f l m) (hf : ∀ p, g (m + 10) p = f (m + 10) p) (hl : ∀ p, l' (m + 11) p = l (m + 11) p) : KnOk g l' m := fun p a b => by
  rw [hl p, hf p]
  exact h p a b
theorem TP.z {M : Mem} {m x : Int} {v : Vw} (h : TP M m v) : TP (mI M m 0 x) m v := by
  obtain ⟨h1, h2, h3, h4, h5, h6⟩ := h
  refine ⟨h1, mciI (by omega) h2, h3, h4, KnOk.at h5 (fun p => rdI_n (by omega)) (fun p => _root_.rfl), ?_⟩
  unfold sk01 at h6 ⊢
  rw [rdI_n (by omega)]
  exact h6
/-- what a call that only asks leaves: what it threw, and all as it was -/
def RD (M : Mem) (m code : Int) (M1 : Mem) : Prop := ∃ g l, M1 = wL M g l ∧ g m 0 = code ∧ (∀ a k, ¬ (a = m ∧ k = 0) → ¬ scr m a k → ¬ a = m + 3 → ¬ a = m + 4 → ¬ a = m + 10 → ¬ a = m + 13 → ¬ a = m + 14 → ¬ (a = m ∧ 10 ≤ k ∧ k ≤ 13) → g a k = mci M a k) ∧ TM m (mcl M) l ∧ KnOk g l m ∧ sk01 g m
theorem RD.mk {M : Mem} {m x : Int} {g l : Ci} (h : TQ m (mci (mI M m 0 x)) g) (hl : TM m (mcl M) l) (hK : KnOk g l m) (hs : sk01 g m) : RD M m x (wL M g l) :=
  ⟨g, l, rfl, (h _ _ (by unfold scr; omega) (by omega) (by omega) (by omega) (by omega) (by omega) (by omega)).trans (rdI_e ⟨rfl, rfl⟩), fun a k q p1 p2 p3 p4 p5 p6 p7 => (h a k p1 p2 p3 p4 p5 p6 p7).trans (rdI_n q), hl, hK, hs⟩
theorem RD.t {M : Mem} {m c : Int} {v : Vw} (h : TP M m v) : RD M m c (mI (mI M m 0 0) m 0 c) := by
  have h' := (h.z (x := 0)).z (x := c)
  refine ⟨mci (mI (mI M m 0 0) m 0 c), mcl M, rfl, rdI_e ⟨rfl, rfl⟩, fun a k q p1 p2 p3 p4 p5 p6 p7 => ?_, TM.rfl, h'.2.2.2.2.1, h'.2.2.2.2.2⟩
  rw [rdI_n q, rdI_n q]
theorem RD.r {M : Mem} {m : Int} {v : Vw} (h : TP M m v) : RD M m 0 (mI M m 0 0) := by
  have h' := h.z (x := 0)
  exact ⟨mci (mI M m 0 0), mcl M, rfl, rdI_e ⟨rfl, rfl⟩, fun a k q p1 p2 p3 p4 p5 p6 p7 => rdI_n q, TM.rfl, h'.2.2.2.2.1, h'.2.2.2.2.2⟩
section X8
variable {G : GW} {d : Nat} {M : Mem} {m a b c p k i what n st pc op : Int} {v : Vw}
theorem s_X8_thrown (hd : 10 ≤ d) (hT : TwS (msh M) (mcr M) m) : CS G d mX8_thrown [dR m] M (pur M (mci M m 0)) := by
  have hT_ := hT; obtain ⟨p0, p1, ⟨c1, c2, c3, c4, c5, c6, c7, c8, c9, c10, c11, c12, c13, c14, c15⟩, ⟨t1, t2, t3, t4, t5, t6, t7, t8, t9, t10, t11, t12, t13, t14, t15⟩⟩ := hT_
  refine CS.mkQ (by decide) (Nat.le_of_ble_eq_true rfl) fun Q hQ => ?_
  refine x_aload_n dX8_thrown_0 rfl rfl ?_
  refine g_getI (kI := 0) rfl dX8_thrown_1 fX8_3_8 (by first | assumption | exact hT.2.1) ?_
  refine x_ireturn rfl dX8_thrown_4 ?_
  exact hQ _ _ ⟨_, rfl, (by first | rfl | omega | exact (vP_t (by omega)).symm | exact (vP_f (by omega)).symm), rfl⟩
theorem s_X8_fault (hd : 10 ≤ d) (hp : TP M m v) : CS G d mX8_fault [dR m] M (postI fun x M1 => RD M m 0 M1 ∧ x = mci M m 14) := by
  obtain ⟨hT, hw, hA, hL, hK, hsk⟩ := id hp
  have hT_ := hT; obtain ⟨p0, p1, ⟨c1, c2, c3, c4, c5, c6, c7, c8, c9, c10, c11, c12, c13, c14, c15⟩, ⟨t1, t2, t3, t4, t5, t6, t7, t8, t9, t10, t11, t12, t13, t14, t15⟩⟩ := hT_
  refine CS.mkQ (by decide) (Nat.le_of_ble_eq_true rfl) fun Q hQ => ?_
  refine x_aload_n dX8_fault_0 rfl rfl ?_
  refine x_iconst dX8_fault_1 rfl ?_
  refine g_putI (kI := 0) rfl dX8_fault_2 fX8_3_8 (by first | assumption | exact hT.2.1) ?_
  refine x_aload_n dX8_fault_5 rfl rfl ?_
  refine g_getI (kI := 14) rfl dX8_fault_6 fX8_33_8 (by first | assumption | exact hT.2.1) ?_
  try simp (disch := omega) only [rdI_e, rdI_n, rdC_i, rdC_o, rdW, rdR, rdU_e, rdU_n, rdLW, Int.add_zero, hw]
  refine x_ireturn rfl dX8_fault_9 ?_
  exact hQ _ _ ⟨_, rfl, RD.r ⟨hT, hw, hA, hL, hK, hsk⟩, rfl⟩
theorem s_X8_micro (hd : 14 ≤ d) (hP : TP M m v) : CS G d mX8_micro [dR m, dI p, dI k, dI n] M (postI fun x M1 => RD M m (if 0 ≤ p ∧ p < v 0 then 0 else 1) M1 ∧ (0 ≤ p ∧ p < v 0 → x = microAns v p k n)) := by
  obtain ⟨hT, hw, hA, hL, hK, hsk⟩ := id hP
  have hv := hA.1
  have hv0 := hv.1
  have hv8 := hv.n8
  have en : v (30 + 9 * p) = opN v p := rfl
  have hT_ := hT; obtain ⟨p0, p1, ⟨c1, c2, c3, c4, c5, c6, c7, c8, c9, c10, c11, c12, c13, c14, c15⟩, ⟨t1, t2, t3, t4, t5, t6, t7, t8, t9, t10, t11, t12, t13, t14, t15⟩⟩ := hT_
  refine CS.mkQ (by decide) (Nat.le_of_ble_eq_true rfl) fun Q hQ => ?_
  refine x_aload_n dX8_micro_0 rfl rfl ?_
  refine x_iconst dX8_micro_1 rfl ?_
  refine g_putI (kI := 0) rfl dX8_micro_2 fX8_3_8 (by first | assumption | exact hT.2.1) ?_
  obtain ⟨hT, hw, hA, hL, hK, hsk⟩ := TP.z (x := 0) hP
  refine x_aload_n dX8_micro_5 rfl rfl ?_
  refine x_aload_n dX8_micro_6 rfl rfl ?_
  refine x_iload_n dX8_micro_7 rfl rfl ?_
  refine g_callI (vs := [_, _]) (d' := d - 1) rfl (s_X8_noOp (by omega) hT (by first | exact hw | exact mciI (by omega) hw | exact mciI (by omega) (mciI (by omega) hw) | exact mciI (by omega) (mciI (by omega) (mciI (by omega) hw)) | exact mciI (by omega) (mciI (by omega) (mciI (by omega) (mciI (by omega) hw))) | exact mciC (by omega) hw) (by omega)) dX8_micro_8 kX8_433 (by omega) (by decide) rfl (Nat.le_of_ble_eq_true rfl) (rcv_o (by first | assumption | exact hT.2.1) rfl) (fun x8 M8 h8 => ?_)
  obtain ⟨e8, f8⟩ := h8
  have f8' := f8.symm
  subst f8'
  subst e8
  try simp (disch := omega) only [rdI_e, rdI_n, rdC_i, rdC_o, rdW, rdR, rdU_e, rdU_n, rdLW, Int.add_zero, hw]
  refine x_iconst dX8_micro_11 rfl ?_
  refine g_callI (vs := [_, _, _]) (d' := d - 1) rfl (s_X8_throwsIf (by omega) hT (by first | omega | exact vP_r _)) dX8_micro_12 kX8_280 (by omega) (by decide) rfl (Nat.le_of_ble_eq_true rfl) (rcv_o (by first | assumption | exact hT.2.1) rfl) (fun x12 M12 h12 => ?_)
  obtain ⟨e12, r12, f12⟩ := h12
  refine x_if_eq (tgt := 20) dX8_micro_15 (by decide) (fun h15 => ?_) (fun h15 => ?_)
  · first | have f12' := (f12.1 (by omega)).symm | have f12' := (f12.2 (by omega)).symm
    subst f12'
    rw [e12] at h15
    try simp only [vP_0, vP_1, vP_n0, vP_n1, Classical.not_not] at h15
    have hop := hv.op p (by omega) (by omega)
    have hop1 := hop.1
    refine x_iload_n dX8_micro_20 rfl rfl ?_
    refine x_iconst dX8_micro_21 rfl ?_
    refine x_aload_n dX8_micro_22 rfl rfl ?_
    refine x_iload_n dX8_micro_23 rfl rfl ?_
    refine x_iconst dX8_micro_24 rfl ?_
    refine g_callI (vs := [_, _, _]) (d' := d - 1) rfl (s_X8_of (by omega) hT (by first | exact hw | exact mciI (by omega) hw | exact mciI (by omega) (mciI (by omega) hw) | exact mciI (by omega) (mciI (by omega) (mciI (by omega) hw)) | exact mciI (by omega) (mciI (by omega) (mciI (by omega) (mciI (by omega) hw))) | exact mciC (by omega) hw) (by omega) (by omega)) dX8_micro_25 kX8_78 (by omega) (by decide) rfl (Nat.le_of_ble_eq_true rfl) (rcv_o (by first | assumption | exact hT.2.1) rfl) (fun x25 M25 h25 => ?_)
    obtain ⟨e25, f25⟩ := h25
    have f25' := f25.symm
    subst f25'
    subst e25
    try simp (disch := omega) only [rdI_e, rdI_n, rdC_i, rdC_o, rdW, rdR, rdU_e, rdU_n, rdLW, Int.add_zero, hw]
    rw [en]
    refine x_iconst dX8_micro_28 rfl ?_
    first | refine x_isubN dX8_micro_29 (by unfold i32; omega) ?_ | refine x_isub dX8_micro_29 ?_
    refine g_callI (vs := [_, _, _]) (d' := d - 1) rfl (s_X8_in (by omega)) dX8_micro_30 kX8_88 (by omega) (by decide) rfl (Nat.le_of_ble_eq_true rfl) (rcv_n) (fun x30 M30 h30 => ?_)
    obtain ⟨e30, f30⟩ := h30
    have f30' := f30.symm
    subst f30'
    subst e30
    try simp (disch := omega) only [rdI_e, rdI_n, rdC_i, rdC_o, rdW, rdR, rdU_e, rdU_n, rdLW, Int.add_zero, hw]
    refine x_if_ne (tgt := 40) dX8_micro_33 (by decide) (fun h33 => ?_) (fun h33 => ?_)
    · try simp only [vP_0, vP_1, vP_n0, vP_n1, Classical.not_not] at h33
      refine x_iload_n dX8_micro_40 rfl rfl ?_
      refine x_if_eq (tgt := 53) dX8_micro_41 (by decide) (fun h41 => ?_) (fun h41 => ?_)
      · refine x_aload_n dX8_micro_53 rfl rfl ?_
        refine x_iload_n dX8_micro_54 rfl rfl ?_
        refine x_iload_n dX8_micro_55 rfl rfl ?_
        refine g_callI (vs := [_, _, _]) (d' := d - 1) rfl (s_X8_kindOf (by omega) hT (by first | exact hw | exact mciI (by omega) hw | exact mciI (by omega) (mciI (by omega) hw) | exact mciI (by omega) (mciI (by omega) (mciI (by omega) hw)) | exact mciI (by omega) (mciI (by omega) (mciI (by omega) (mciI (by omega) hw))) | exact mciC (by omega) hw) (by omega) (by omega)) dX8_micro_56 kX8_298 (by omega) (by decide) rfl (Nat.le_of_ble_eq_true rfl) (rcv_o (by first | assumption | exact hT.2.1) rfl) (fun x56 M56 h56 => ?_)
        obtain ⟨e56, f56⟩ := h56
        have f56' := f56.symm
        subst f56'
        subst e56
        try simp (disch := omega) only [rdI_e, rdI_n, rdC_i, rdC_o, rdW, rdR, rdU_e, rdU_n, rdLW, Int.add_zero, hw]
        refine x_ireturn rfl dX8_micro_59 ?_
        refine hQ _ _ ⟨_, rfl, by rw [if_pos (by omega)]; exact RD.r hP, fun q => ?_⟩
        unfold microAns
        first
        | rw [if_neg (by omega)]
        | (rw [if_pos (by omega), if_pos (by omega)])
        | (rw [if_pos (by omega), if_neg (by omega)])
      · refine x_aload_n dX8_micro_44 rfl rfl ?_
        refine x_iload_n dX8_micro_45 rfl rfl ?_
        refine x_iload_n dX8_micro_46 rfl rfl ?_
        refine g_callI (vs := [_, _, _]) (d' := d - 1) rfl (s_X8_numberOf (by omega) hT (by first | exact hw | exact mciI (by omega) hw | exact mciI (by omega) (mciI (by omega) hw) | exact mciI (by omega) (mciI (by omega) (mciI (by omega) hw)) | exact mciI (by omega) (mciI (by omega) (mciI (by omega) (mciI (by omega) hw))) | exact mciC (by omega) hw) (by omega) (by omega)) dX8_micro_47 kX8_301 (by omega) (by decide) rfl (Nat.le_of_ble_eq_true rfl) (rcv_o (by first | assumption | exact hT.2.1) rfl) (fun x47 M47 h47 => ?_)
        obtain ⟨e47, f47⟩ := h47
        have f47' := f47.symm
        subst f47'
        subst e47
        try simp (disch := omega) only [rdI_e, rdI_n, rdC_i, rdC_o, rdW, rdR, rdU_e, rdU_n, rdLW, Int.add_zero, hw]
        refine x_goto (tgt := 59) dX8_micro_50 (by decide) ?_
        refine x_ireturn rfl dX8_micro_59 ?_
        refine hQ _ _ ⟨_, rfl, by rw [if_pos (by omega)]; exact RD.r hP, fun q => ?_⟩
        unfold microAns
        first
        | rw [if_neg (by omega)]
        | (rw [if_pos (by omega), if_pos (by omega)])
        | (rw [if_pos (by omega), if_neg (by omega)])
    · try simp only [vP_0, vP_1, vP_n0, vP_n1, Classical.not_not] at h33
      refine x_iconst dX8_micro_36 rfl ?_
      refine x_goto (tgt := 59) dX8_micro_37 (by decide) ?_
      refine x_ireturn rfl dX8_micro_59 ?_
      refine hQ _ _ ⟨_, rfl, by rw [if_pos (by omega)]; exact RD.r hP, fun q => ?_⟩
      unfold microAns
      first
      | rw [if_neg (by omega)]
      | (rw [if_pos (by omega), if_pos (by omega)])
      | (rw [if_pos (by omega), if_neg (by omega)])
  · first | have f12' := (f12.1 (by omega)).symm | have f12' := (f12.2 (by omega)).symm
    subst f12'
    rw [e12] at h15
    try simp only [vP_0, vP_1, vP_n0, vP_n1, Classical.not_not] at h15
    refine x_iconst dX8_micro_18 rfl ?_
    refine x_ireturn rfl dX8_micro_19 ?_
    exact hQ _ _ ⟨_, rfl, by rw [if_neg (by omega)]; exact RD.t hP, fun q => by omega⟩
theorem s_X8_witness (hd : 18 ≤ d) (hP : TP M m v) : CS G d mX8_witness [dR m, dI p, dI what] M (postI fun x M1 => RD M m (if 0 ≤ p ∧ p < v 0 then (if 0 ≤ what ∧ what ≤ 3 then 0 else 2) else 1) M1 ∧ ((0 ≤ p ∧ p < v 0) ∧ 0 ≤ what ∧ what ≤ 3 → x = witV v p what)) := by
  obtain ⟨hT, hw, hA, hL, hK, hsk⟩ := id hP
  have hv := hA.1
  have hv0 := hv.1
  have hv8 := hv.n8
  have hT_ := hT; obtain ⟨p0, p1, ⟨c1, c2, c3, c4, c5, c6, c7, c8, c9, c10, c11, c12, c13, c14, c15⟩, ⟨t1, t2, t3, t4, t5, t6, t7, t8, t9, t10, t11, t12, t13, t14, t15⟩⟩ := hT_
  refine CS.mkQ (by decide) (Nat.le_of_ble_eq_true rfl) fun Q hQ => ?_
  refine x_aload_n dX8_witness_0 rfl rfl ?_
  refine x_iconst dX8_witness_1 rfl ?_
  refine g_putI (kI := 0) rfl dX8_witness_2 fX8_3_8 (by first | assumption | exact hT.2.1) ?_
  obtain ⟨hT, hw, hA, hL, hK, hsk⟩ := TP.z (x := 0) hP
  refine x_aload_n dX8_witness_5 rfl rfl ?_
  refine x_aload_n dX8_witness_6 rfl rfl ?_
  refine x_iload_n dX8_witness_7 rfl rfl ?_
  refine g_callI (vs := [_, _]) (d' := d - 1) rfl (s_X8_noOp (by omega) hT (by first | exact hw | exact mciI (by omega) hw | exact mciI (by omega) (mciI (by omega) hw) | exact mciI (by omega) (mciI (by omega) (mciI (by omega) hw)) | exact mciI (by omega) (mciI (by omega) (mciI (by omega) (mciI (by omega) hw))) | exact mciC (by omega) hw) (by omega)) dX8_witness_8 kX8_433 (by omega) (by decide) rfl (Nat.le_of_ble_eq_true rfl) (rcv_o (by first | assumption | exact hT.2.1) rfl) (fun x8 M8 h8 => ?_)
  obtain ⟨e8, f8⟩ := h8
  have f8' := f8.symm
  subst f8'
  subst e8
  try simp (disch := omega) only [rdI_e, rdI_n, rdC_i, rdC_o, rdW, rdR, rdU_e, rdU_n, rdLW, Int.add_zero, hw]
  refine x_iconst dX8_witness_11 rfl ?_
  refine g_callI (vs := [_, _, _]) (d' := d - 1) rfl (s_X8_throwsIf (by omega) hT (by first | omega | exact vP_r _)) dX8_witness_12 kX8_280 (by omega) (by decide) rfl (Nat.le_of_ble_eq_true rfl) (rcv_o (by first | assumption | exact hT.2.1) rfl) (fun x12 M12 h12 => ?_)
  obtain ⟨e12, r12, f12⟩ := h12
  refine x_if_ne (tgt := 40) dX8_witness_15 (by decide) (fun h15 => ?_) (fun h15 => ?_)
  · first | have f12' := (f12.1 (by omega)).symm | have f12' := (f12.2 (by omega)).symm
    subst f12'
    rw [e12] at h15
    try simp only [vP_0, vP_1, vP_n0, vP_n1, Classical.not_not] at h15
    refine x_iconst dX8_witness_40 rfl ?_
    refine x_goto (tgt := 50) dX8_witness_41 (by decide) ?_
    refine x_ireturn rfl dX8_witness_50 ?_
    first
    | exact hQ _ _ ⟨_, rfl, by rw [if_neg (by omega)]; exact RD.t hP, fun q => by omega⟩
    | exact hQ _ _ ⟨_, rfl, by rw [if_pos (by omega), if_neg (by omega)]; exact RD.t hP, fun q => by omega⟩
    | exact hQ _ _ ⟨_, rfl, by rw [if_pos (by omega), if_pos (by omega), hM47]; exact RD.mk q47.tq TM.rfl (hK.te q47) z47, fun q => e47⟩
  · first | have f12' := (f12.1 (by omega)).symm | have f12' := (f12.2 (by omega)).symm
    subst f12'
    rw [e12] at h15
    try simp only [vP_0, vP_1, vP_n0, vP_n1, Classical.not_not] at h15
    refine x_aload_n dX8_witness_18 rfl rfl ?_
    refine x_iload_n dX8_witness_19 rfl rfl ?_
    refine x_iconst dX8_witness_20 rfl ?_
    refine x_iconst dX8_witness_21 rfl ?_
    refine g_callI (vs := [_, _, _]) (d' := d - 1) rfl (s_X8_in (by omega)) dX8_witness_22 kX8_88 (by omega) (by decide) rfl (Nat.le_of_ble_eq_true rfl) (rcv_n) (fun x22 M22 h22 => ?_)
    obtain ⟨e22, f22⟩ := h22
    have f22' := f22.symm
    subst f22'
    subst e22
    try simp (disch := omega) only [rdI_e, rdI_n, rdC_i, rdC_o, rdW, rdR, rdU_e, rdU_n, rdLW, Int.add_zero, hw]
    refine x_if_ne (tgt := 32) dX8_witness_25 (by decide) (fun h25 => ?_) (fun h25 => ?_)
    · try simp only [vP_0, vP_1, vP_n0, vP_n1, Classical.not_not] at h25
      refine x_iconst dX8_witness_32 rfl ?_
      refine x_iconst dX8_witness_33 rfl ?_
      refine g_callI (vs := [_, _, _]) (d' := d - 1) rfl (s_X8_throwsIf (by omega) hT (by first | omega | exact vP_r _)) dX8_witness_34 kX8_280 (by omega) (by decide) rfl (Nat.le_of_ble_eq_true rfl) (rcv_o (by first | assumption | exact hT.2.1) rfl) (fun x34 M34 h34 => ?_)
      obtain ⟨e34, r34, f34⟩ := h34
      have f34' := (f34.1 (by omega)).symm
      subst f34'
      subst e34
      refine x_if_eq (tgt := 44) dX8_witness_37 (by decide) (fun h37 => ?_) (fun h37 => ?_)
      · try simp only [vP_0, vP_1, vP_n0, vP_n1, Classical.not_not] at h37
        have hop := hv.op p (by omega) (by omega)
        refine x_aload_n dX8_witness_44 rfl rfl ?_
        refine x_iload_n dX8_witness_45 rfl rfl ?_
        refine x_iload_n dX8_witness_46 rfl rfl ?_
        refine g_callI (vs := [_, _, _]) (d' := d - 1) rfl (s_X8_witnessOf (by omega) hT hw hop (by omega) (by omega) hsk) dX8_witness_47 kX8_365 (by omega) (by decide) rfl (Nat.le_of_ble_eq_true rfl) (rcv_o (by first | assumption | exact hT.2.1) rfl) (fun x47 M47 h47 => ?_)
        obtain ⟨e47, g47, hM47, q47, z47⟩ := h47
        refine x_ireturn rfl dX8_witness_50 ?_
        first
        | exact hQ _ _ ⟨_, rfl, by rw [if_neg (by omega)]; exact RD.t hP, fun q => by omega⟩
        | exact hQ _ _ ⟨_, rfl, by rw [if_pos (by omega), if_neg (by omega)]; exact RD.t hP, fun q => by omega⟩
        | exact hQ _ _ ⟨_, rfl, by rw [if_pos (by omega), if_pos (by omega), hM47]; exact RD.mk q47.tq TM.rfl (hK.te q47) z47, fun q => e47⟩
      · exact absurd h37 (by decide)
    · try simp only [vP_0, vP_1, vP_n0, vP_n1, Classical.not_not] at h25
      refine x_iconst dX8_witness_28 rfl ?_
      refine x_goto (tgt := 33) dX8_witness_29 (by decide) ?_
      refine x_iconst dX8_witness_33 rfl ?_
      refine g_callI (vs := [_, _, _]) (d' := d - 1) rfl (s_X8_throwsIf (by omega) hT (by first | omega | exact vP_r _)) dX8_witness_34 kX8_280 (by omega) (by decide) rfl (Nat.le_of_ble_eq_true rfl) (rcv_o (by first | assumption | exact hT.2.1) rfl) (fun x34 M34 h34 => ?_)
      obtain ⟨e34, r34, f34⟩ := h34
      have f34' := (f34.2 (by omega)).symm
      subst f34'
      subst e34
      refine x_if_eq (tgt := 44) dX8_witness_37 (by decide) (fun h37 => ?_) (fun h37 => ?_)
      · exact absurd h37 (by decide)
      · try simp only [vP_0, vP_1, vP_n0, vP_n1, Classical.not_not] at h37
        refine x_iconst dX8_witness_40 rfl ?_
        refine x_goto (tgt := 50) dX8_witness_41 (by decide) ?_
        refine x_ireturn rfl dX8_witness_50 ?_
        first
        | exact hQ _ _ ⟨_, rfl, by rw [if_neg (by omega)]; exact RD.t hP, fun q => by omega⟩
        | exact hQ _ _ ⟨_, rfl, by rw [if_pos (by omega), if_neg (by omega)]; exact RD.t hP, fun q => by omega⟩
        | exact hQ _ _ ⟨_, rfl, by rw [if_pos (by omega), if_pos (by omega), hM47]; exact RD.mk q47.tq TM.rfl (hK.te q47) z47, fun q => e47⟩
theorem s_X8_op (hd : 19 ≤ d) (hP : TP M m v) : CS G d mX8_op [dR m, dI p, dI what] M (postI fun x M1 => RD M m (if 0 ≤ p ∧ p < v 0 then (if 0 ≤ what ∧ what ≤ 12 then 0 else 2) else 1) M1 ∧ ((0 ≤ p ∧ p < v 0) ∧ 0 ≤ what ∧ what ≤ 12 → x = opAns v p what)) := by
  obtain ⟨hT, hw, hA, hL, hK, hsk⟩ := id hP
  have hv := hA.1
  have hv0 := hv.1
  have hv8 := hv.n8
  have hv3 := hv.2.2.2.1
  have hT_ := hT; obtain ⟨p0, p1, ⟨c1, c2, c3, c4, c5, c6, c7, c8, c9, c10, c11, c12, c13, c14, c15⟩, ⟨t1, t2, t3, t4, t5, t6, t7, t8, t9, t10, t11, t12, t13, t14, t15⟩⟩ := hT_
  refine CS.mkQ (by decide) (Nat.le_of_ble_eq_true rfl) fun Q hQ => ?_
  by_cases hp : 0 ≤ p ∧ p < v 0
  · by_cases hwh : 0 ≤ what ∧ what ≤ 12
    · have hop := hv.op p hp.1 hp.2
      rw [if_pos hp, if_pos hwh] at hQ
      have fin : ∀ (x : Int) (g l : Ci), TQ m (mci (mI M m 0 0)) g → TM m (mcl M) l → KnOk g l m → sk01 g m → x = opAns v p what → Q (rV (dI x)) (wL M g l) := fun x g l f1 f2 f3 f4 f5 => hQ _ _ ⟨_, rfl, RD.mk f1 f2 f3 f4, fun _ => f5⟩
      refine x_aload_n dX8_op_0 rfl rfl ?_
      refine x_iconst dX8_op_1 rfl ?_
      refine g_putI (kI := 0) rfl dX8_op_2 fX8_3_8 (by first | assumption | exact hT.2.1) ?_
      obtain ⟨hT, hw, hA, hL, hK, hsk⟩ := TP.z (x := 0) hP
      refine x_aload_n dX8_op_5 rfl rfl ?_
      refine x_aload_n dX8_op_6 rfl rfl ?_
      refine x_iload_n dX8_op_7 rfl rfl ?_
      refine g_callI (vs := [_, _]) (d' := d - 1) rfl (s_X8_noOp (by omega) hT (by first | exact hw | exact mciI (by omega) hw | exact mciI (by omega) (mciI (by omega) hw) | exact mciI (by omega) (mciI (by omega) (mciI (by omega) hw)) | exact mciI (by omega) (mciI (by omega) (mciI (by omega) (mciI (by omega) hw))) | exact mciC (by omega) hw) (by omega)) dX8_op_8 kX8_433 (by omega) (by decide) rfl (Nat.le_of_ble_eq_true rfl) (rcv_o (by first | assumption | exact hT.2.1) rfl) (fun x8 M8 h8 => ?_)
      obtain ⟨e8, f8⟩ := h8
      have f8' := f8.symm
      subst f8'
      subst e8
      try simp (disch := omega) only [rdI_e, rdI_n, rdC_i, rdC_o, rdW, rdR, rdU_e, rdU_n, rdLW, Int.add_zero, hw, ht]
      refine x_iconst dX8_op_11 rfl ?_
      refine g_callI (vs := [_, _, _]) (d' := d - 1) rfl (s_X8_throwsIf (by omega) hT (by first | omega | exact vP_r _)) dX8_op_12 kX8_280 (by omega) (by decide) rfl (Nat.le_of_ble_eq_true rfl) (rcv_o (by first | assumption | exact hT.2.1) rfl) (fun x12 M12 h12 => ?_)
      obtain ⟨e12, r12, f12⟩ := h12
      refine x_if_ne (tgt := 41) dX8_op_15 (by decide) (fun h15 => ?_) (fun h15 => ?_)
      · rw [e12] at h15
        try simp only [vP_0, vP_1, vP_n0, vP_n1, Classical.not_not] at h15
        omega
      · first | have f12' := (f12.1 (by omega)).symm | have f12' := (f12.2 (by omega)).symm
        subst f12'
        rw [e12] at h15
        try simp only [vP_0, vP_1, vP_n0, vP_n1, Classical.not_not] at h15
        refine x_aload_n dX8_op_18 rfl rfl ?_
        refine x_iload_n dX8_op_19 rfl rfl ?_
        refine x_iconst dX8_op_20 rfl ?_
        refine x_bipush dX8_op_21 rfl ?_
        refine g_callI (vs := [_, _, _]) (d' := d - 1) rfl (s_X8_in (by omega)) dX8_op_23 kX8_88 (by omega) (by decide) rfl (Nat.le_of_ble_eq_true rfl) (rcv_n) (fun x23 M23 h23 => ?_)
        obtain ⟨e23, f23⟩ := h23
        have f23' := f23.symm
        subst f23'
        subst e23
        try simp (disch := omega) only [rdI_e, rdI_n, rdC_i, rdC_o, rdW, rdR, rdU_e, rdU_n, rdLW, Int.add_zero, hw, ht]
        refine x_if_ne (tgt := 33) dX8_op_26 (by decide) (fun h26 => ?_) (fun h26 => ?_)
        · try simp only [vP_0, vP_1, vP_n0, vP_n1, Classical.not_not] at h26
          refine x_iconst dX8_op_33 rfl ?_
          refine x_iconst dX8_op_34 rfl ?_
          refine g_callI (vs := [_, _, _]) (d' := d - 1) rfl (s_X8_throwsIf (by omega) hT (by first | omega | exact vP_r _)) dX8_op_35 kX8_280 (by omega) (by decide) rfl (Nat.le_of_ble_eq_true rfl) (rcv_o (by first | assumption | exact hT.2.1) rfl) (fun x35 M35 h35 => ?_)
          obtain ⟨e35, r35, f35⟩ := h35
          have f35' := (f35.1 (by omega)).symm
          subst f35'
          subst e35
          refine x_if_eq (tgt := 43) dX8_op_38 (by decide) (fun h38 => ?_) (fun h38 => ?_)
          · try simp only [vP_0, vP_1, vP_n0, vP_n1, Classical.not_not] at h38
            refine x_aload_n dX8_op_43 rfl rfl ?_
            refine g_callN (vs := [_]) (d' := d - 1) rfl (s_X8_laysTraits (by omega) hT (by first | exact hw | exact mciI (by omega) hw | exact mciI (by omega) (mciI (by omega) hw) | exact mciI (by omega) (mciI (by omega) (mciI (by omega) hw)) | exact mciI (by omega) (mciI (by omega) (mciI (by omega) (mciI (by omega) hw))) | exact mciC (by omega) hw) hv hK hsk) dX8_op_44 kX8_423 (by omega) (by decide) rfl (Nat.le_of_ble_eq_true rfl) (rcv_o (by first | assumption | exact hT.2.1) rfl) (fun M44 h44 => ?_)
            obtain ⟨g44, l44, hM44, q44, y44, hK, hTr, hsk⟩ := h44
            subst hM44
            have hw := TG.w q44 (by first | exact hw | exact mciI (by omega) hw | exact mciI (by omega) (mciI (by omega) hw) | exact mciI (by omega) (mciI (by omega) (mciI (by omega) hw)) | exact mciI (by omega) (mciI (by omega) (mciI (by omega) (mciI (by omega) hw))) | exact mciC (by omega) hw)
            have ht := hTr p hp.1 hp.2
            have hb := tra_b v p
            refine x_iload_n dX8_op_47 rfl rfl ?_
            rcases (show what = 7 ∨ what = 8 ∨ what = 9 ∨ what = 10 ∨ what = 11 ∨ what = 12 ∨ (what < 7 ∨ 12 < what) by omega) with hs48 | hs48 | hs48 | hs48 | hs48 | hs48 | hs48
            · refine x_tab_in (tgt := 88) (off := 40) dX8_op_48 (by omega) (by omega) (by rw [hs48]; rfl) (by decide) ?_
              refine x_aload_n dX8_op_88 rfl rfl ?_
              refine x_iload_n dX8_op_89 rfl rfl ?_
              refine g_callI (vs := [_, _]) (d' := d - 1) rfl (s_X8_isSensitive (v := v) (by omega) hT (by omega) ht) dX8_op_90 kX8_371 (by omega) (by decide) rfl (Nat.le_of_ble_eq_true rfl) (rcv_o (by first | assumption | exact hT.2.1) rfl) (fun x90 M90 h90 => ?_)
              obtain ⟨e90, f90⟩ := h90
              have f90' := f90.symm
              subst f90'
              subst e90
              try simp (disch := omega) only [rdI_e, rdI_n, rdC_i, rdC_o, rdW, rdR, rdU_e, rdU_n, rdLW, Int.add_zero, hw, ht]
              refine x_if_eq (tgt := 100) dX8_op_93 (by decide) (fun h93 => ?_) (fun h93 => ?_)
              · try simp only [vP_0, vP_1, vP_n0, vP_n1, Classical.not_not] at h93
                refine x_iconst dX8_op_100 rfl ?_
                refine x_ireturn rfl dX8_op_101 ?_
                refine fin _ g44 l44 q44.tq y44.tm hK hsk ?_
                subst hs48
                first | exact (vP_t h93).symm | exact (vP_f h93).symm
              · try simp only [vP_0, vP_1, vP_n0, vP_n1, Classical.not_not] at h93
                refine x_iconst dX8_op_96 rfl ?_
                refine x_goto (tgt := 101) dX8_op_97 (by decide) ?_
                refine x_ireturn rfl dX8_op_101 ?_
                refine fin _ g44 l44 q44.tq y44.tm hK hsk ?_
                subst hs48
                first | exact (vP_t h93).symm | exact (vP_f h93).symm
            · refine x_tab_in (tgt := 102) (off := 54) dX8_op_48 (by omega) (by omega) (by rw [hs48]; rfl) (by decide) ?_
              refine x_aload_n dX8_op_102 rfl rfl ?_
              refine x_iload_n dX8_op_103 rfl rfl ?_
              refine g_callI (vs := [_, _]) (d' := d - 1) rfl (s_X8_emulationOf (by omega) hT (by first | exact hw | exact mciI (by omega) hw | exact mciI (by omega) (mciI (by omega) hw) | exact mciI (by omega) (mciI (by omega) (mciI (by omega) hw)) | exact mciI (by omega) (mciI (by omega) (mciI (by omega) (mciI (by omega) hw))) | exact mciC (by omega) hw) hv hp hTr hL) dX8_op_104 kX8_405 (by omega) (by decide) rfl (Nat.le_of_ble_eq_true rfl) (rcv_o (by first | assumption | exact hT.2.1) rfl) (fun x104 M104 h104 => ?_)
              obtain ⟨⟨e104, r104⟩, g104, hM104, q104⟩ := h104
              subst hM104
              have hw := TV.w q104 (by first | exact hw | exact mciI (by omega) hw | exact mciI (by omega) (mciI (by omega) hw) | exact mciI (by omega) (mciI (by omega) (mciI (by omega) hw)) | exact mciI (by omega) (mciI (by omega) (mciI (by omega) (mciI (by omega) hw))) | exact mciC (by omega) hw)
              refine x_ireturn rfl dX8_op_107 ?_
              refine fin _ g104 l44 (TQ.trans q44.tq q104.tq) y44.tm (hK.te q104.te) (q104.sk hsk) ?_
              subst hs48
              exact e104
            · refine x_tab_in (tgt := 108) (off := 60) dX8_op_48 (by omega) (by omega) (by rw [hs48]; rfl) (by decide) ?_
              refine x_aload_n dX8_op_108 rfl rfl ?_
              refine x_iconst dX8_op_109 rfl ?_
              refine x_iload_n dX8_op_110 rfl rfl ?_
              refine g_callI (vs := [_, _, _]) (d' := d - 1) rfl (s_X8_sumOf (by omega) hT (by first | exact hw | exact mciI (by omega) hw | exact mciI (by omega) (mciI (by omega) hw) | exact mciI (by omega) (mciI (by omega) (mciI (by omega) hw)) | exact mciI (by omega) (mciI (by omega) (mciI (by omega) (mciI (by omega) hw))) | exact mciC (by omega) hw) hv hp hTr hL) dX8_op_111 kX8_381 (by omega) (by decide) rfl (Nat.le_of_ble_eq_true rfl) (rcv_o (by first | assumption | exact hT.2.1) rfl) (fun x111 M111 h111 => ?_)
              obtain ⟨⟨e111, r111⟩, g111, hM111, q111⟩ := h111
              subst hM111
              have hw := TV.w q111 (by first | exact hw | exact mciI (by omega) hw | exact mciI (by omega) (mciI (by omega) hw) | exact mciI (by omega) (mciI (by omega) (mciI (by omega) hw)) | exact mciI (by omega) (mciI (by omega) (mciI (by omega) (mciI (by omega) hw))) | exact mciC (by omega) hw)
              refine x_ireturn rfl dX8_op_114 ?_
              refine fin _ g111 l44 (TQ.trans q44.tq q111.tq) y44.tm (hK.te q111.te) (q111.sk hsk) ?_
              subst hs48
              exact e111
            · refine x_tab_in (tgt := 115) (off := 67) dX8_op_48 (by omega) (by omega) (by rw [hs48]; rfl) (by decide) ?_
              refine x_aload_n dX8_op_115 rfl rfl ?_
              refine x_iload_n dX8_op_116 rfl rfl ?_
              refine g_callI (vs := [_, _]) (d' := d - 1) rfl (s_X8_worthOf (by omega) hT (by first | exact hw | exact mciI (by omega) hw | exact mciI (by omega) (mciI (by omega) hw) | exact mciI (by omega) (mciI (by omega) (mciI (by omega) hw)) | exact mciI (by omega) (mciI (by omega) (mciI (by omega) (mciI (by omega) hw))) | exact mciC (by omega) hw) hv hp hTr hL) dX8_op_117 kX8_420 (by omega) (by decide) rfl (Nat.le_of_ble_eq_true rfl) (rcv_o (by first | assumption | exact hT.2.1) rfl) (fun x117 M117 h117 => ?_)
              obtain ⟨⟨e117, r117⟩, g117, hM117, q117⟩ := h117
              subst hM117
              have hw := TV.w q117 (by first | exact hw | exact mciI (by omega) hw | exact mciI (by omega) (mciI (by omega) hw) | exact mciI (by omega) (mciI (by omega) (mciI (by omega) hw)) | exact mciI (by omega) (mciI (by omega) (mciI (by omega) (mciI (by omega) hw))) | exact mciC (by omega) hw)
              refine x_ireturn rfl dX8_op_120 ?_
              refine fin _ g117 l44 (TQ.trans q44.tq q117.tq) y44.tm (hK.te q117.te) (q117.sk hsk) ?_
              subst hs48
              exact e117
            · refine x_tab_in (tgt := 121) (off := 73) dX8_op_48 (by omega) (by omega) (by rw [hs48]; rfl) (by decide) ?_
              refine x_aload_n dX8_op_121 rfl rfl ?_
              refine x_iload_n dX8_op_122 rfl rfl ?_
              refine g_callI (vs := [_, _]) (d' := d - 1) rfl (s_X8_usesOf (by omega) hT (by first | exact hw | exact mciI (by omega) hw | exact mciI (by omega) (mciI (by omega) hw) | exact mciI (by omega) (mciI (by omega) (mciI (by omega) hw)) | exact mciI (by omega) (mciI (by omega) (mciI (by omega) (mciI (by omega) hw))) | exact mciC (by omega) hw) hv) dX8_op_123 kX8_368 (by omega) (by decide) rfl (Nat.le_of_ble_eq_true rfl) (rcv_o (by first | assumption | exact hT.2.1) rfl) (fun x123 M123 h123 => ?_)
              obtain ⟨e123, r123, f123⟩ := h123
              have f123' := f123.symm
              subst f123'
              refine x_ireturn rfl dX8_op_126 ?_
              refine fin _ g44 l44 q44.tq y44.tm hK hsk ?_
              subst hs48
              exact e123
            · refine x_tab_in (tgt := 127) (off := 79) dX8_op_48 (by omega) (by omega) (by rw [hs48]; rfl) (by decide) ?_
              refine x_aload_n dX8_op_127 rfl rfl ?_
              refine g_getR (kI := 1) rfl dX8_op_128 fX8_13_8 (by first | assumption | exact hT.2.1) (by first | assumption | exact hT.2.1) ?_
              refine x_iconst dX8_op_131 rfl ?_
              refine x_iald dX8_op_132 (by first | assumption | exact hT.2.1) (by omega) (by omega) ?_
              try simp (disch := omega) only [rdI_e, rdI_n, rdC_i, rdC_o, rdW, rdR, rdU_e, rdU_n, rdLW, Int.add_zero, hw, ht]
              refine x_if_ne (tgt := 140) dX8_op_133 (by decide) (fun h133 => ?_) (fun h133 => ?_)
              · refine x_bipush dX8_op_140 rfl ?_
                refine x_aload_n dX8_op_142 rfl rfl ?_
                refine x_iload_n dX8_op_143 rfl rfl ?_
                refine g_callI (vs := [_, _]) (d' := d - 1) rfl (s_X8_usesOf (by omega) hT (by first | exact hw | exact mciI (by omega) hw | exact mciI (by omega) (mciI (by omega) hw) | exact mciI (by omega) (mciI (by omega) (mciI (by omega) hw)) | exact mciI (by omega) (mciI (by omega) (mciI (by omega) (mciI (by omega) hw))) | exact mciC (by omega) hw) hv) dX8_op_144 kX8_368 (by omega) (by decide) rfl (Nat.le_of_ble_eq_true rfl) (rcv_o (by first | assumption | exact hT.2.1) rfl) (fun x144 M144 h144 => ?_)
                obtain ⟨e144, r144, f144⟩ := h144
                have f144' := f144.symm
                subst f144'
                first | refine x_imulN dX8_op_147 (by unfold i32; omega) ?_ | refine x_imul dX8_op_147 ?_
                refine x_aload_n dX8_op_148 rfl rfl ?_
                refine g_getR (kI := 1) rfl dX8_op_149 fX8_13_8 (by first | assumption | exact hT.2.1) (by first | assumption | exact hT.2.1) ?_
                refine x_iconst dX8_op_152 rfl ?_
                refine x_iald dX8_op_153 (by first | assumption | exact hT.2.1) (by omega) (by omega) ?_
                try simp (disch := omega) only [rdI_e, rdI_n, rdC_i, rdC_o, rdW, rdR, rdU_e, rdU_n, rdLW, Int.add_zero, hw, ht]
                first | refine x_idivN dX8_op_154 (by omega) (by omega) ?_ | refine x_idiv dX8_op_154 (by omega) ?_
                refine x_ireturn rfl dX8_op_155 ?_
                refine fin _ g44 l44 q44.tq y44.tm hK hsk ?_
                subst hs48
                first
                | exact (if_pos h133).symm
                | (show _ = (if v 3 = 0 then 0 else 100 * usesV v p / v 3)
                   rw [if_neg h133, e144])
              · refine x_iconst dX8_op_136 rfl ?_
                refine x_goto (tgt := 155) dX8_op_137 (by decide) ?_
                refine x_ireturn rfl dX8_op_155 ?_
                refine fin _ g44 l44 q44.tq y44.tm hK hsk ?_
                subst hs48
                first
                | exact (if_pos h133).symm
                | (show _ = (if v 3 = 0 then 0 else 100 * usesV v p / v 3)
                   rw [if_neg h133, e144])
            · refine x_tab_out (tgt := 156) dX8_op_48 hs48 (by decide) ?_
              refine x_iload_n dX8_op_156 rfl rfl ?_
              refine x_iconst dX8_op_157 rfl ?_
              refine x_icmp_ge (tgt := 170) dX8_op_158 (by decide) (fun h158 => ?_) (fun h158 => ?_)
              · refine x_aload_n dX8_op_170 rfl rfl ?_
                refine g_getR (kI := 26) rfl dX8_op_171 fX8_45_8 (by first | assumption | exact hT.2.1) (by first | assumption | exact hT.2.1) ?_
                refine x_iload_n dX8_op_174 rfl rfl ?_
                refine x_iald dX8_op_175 (by first | assumption | exact hT.2.1) (by omega) (by omega) ?_
                try simp (disch := omega) only [rdI_e, rdI_n, rdC_i, rdC_o, rdW, rdR, rdU_e, rdU_n, rdLW, Int.add_zero, hw, ht]
                refine x_iload_n dX8_op_176 rfl rfl ?_
                refine x_iconst dX8_op_177 rfl ?_
                first | refine x_isubN dX8_op_178 (by unfold i32; omega) ?_ | refine x_isub dX8_op_178 ?_
                refine x_ishr dX8_op_179 ?_
                refine x_iconst dX8_op_180 rfl ?_
                refine x_iand dX8_op_181 ?_
                try rw [tra_h (k := what - 3) (by omega)]
                refine x_ireturn rfl dX8_op_182 ?_
                refine fin _ g44 l44 q44.tq y44.tm hK hsk ?_
                unfold opAns
                first
                | (rcases (show what = 0 ∨ what = 1 ∨ what = 2 by omega) with rfl | rfl | rfl <;> first | rfl | exact congrArg v (by omega))
                | rw [if_neg (by omega), if_neg (by omega), if_neg (by omega), if_pos (by omega)]
              · refine x_aload_n dX8_op_161 rfl rfl ?_
                refine x_iload_n dX8_op_162 rfl rfl ?_
                refine x_iload_n dX8_op_163 rfl rfl ?_
                refine g_callI (vs := [_, _, _]) (d' := d - 1) rfl (s_X8_of (by omega) hT (by first | exact hw | exact mciI (by omega) hw | exact mciI (by omega) (mciI (by omega) hw) | exact mciI (by omega) (mciI (by omega) (mciI (by omega) hw)) | exact mciI (by omega) (mciI (by omega) (mciI (by omega) (mciI (by omega) hw))) | exact mciC (by omega) hw) (by omega) (by omega)) dX8_op_164 kX8_78 (by omega) (by decide) rfl (Nat.le_of_ble_eq_true rfl) (rcv_o (by first | assumption | exact hT.2.1) rfl) (fun x164 M164 h164 => ?_)
                obtain ⟨e164, f164⟩ := h164
                have f164' := f164.symm
                subst f164'
                subst e164
                try simp (disch := omega) only [rdI_e, rdI_n, rdC_i, rdC_o, rdW, rdR, rdU_e, rdU_n, rdLW, Int.add_zero, hw, ht]
                refine x_goto (tgt := 182) dX8_op_167 (by decide) ?_
                try rw [tra_h (k := what - 3) (by omega)]
                refine x_ireturn rfl dX8_op_182 ?_
                refine fin _ g44 l44 q44.tq y44.tm hK hsk ?_
                unfold opAns
                first
                | (rcases (show what = 0 ∨ what = 1 ∨ what = 2 by omega) with rfl | rfl | rfl <;> first | rfl | exact congrArg v (by omega))
                | rw [if_neg (by omega), if_neg (by omega), if_neg (by omega), if_pos (by omega)]
          · omega
        · try simp only [vP_0, vP_1, vP_n0, vP_n1, Classical.not_not] at h26
          omega
    · rw [if_pos hp, if_neg hwh] at hQ
      refine x_aload_n dX8_op_0 rfl rfl ?_
      refine x_iconst dX8_op_1 rfl ?_
      refine g_putI (kI := 0) rfl dX8_op_2 fX8_3_8 (by first | assumption | exact hT.2.1) ?_
      obtain ⟨hT, hw, hA, hL, hK, hsk⟩ := TP.z (x := 0) hP
      refine x_aload_n dX8_op_5 rfl rfl ?_
      refine x_aload_n dX8_op_6 rfl rfl ?_
      refine x_iload_n dX8_op_7 rfl rfl ?_
      refine g_callI (vs := [_, _]) (d' := d - 1) rfl (s_X8_noOp (by omega) hT (by first | exact hw | exact mciI (by omega) hw | exact mciI (by omega) (mciI (by omega) hw) | exact mciI (by omega) (mciI (by omega) (mciI (by omega) hw)) | exact mciI (by omega) (mciI (by omega) (mciI (by omega) (mciI (by omega) hw))) | exact mciC (by omega) hw) (by omega)) dX8_op_8 kX8_433 (by omega) (by decide) rfl (Nat.le_of_ble_eq_true rfl) (rcv_o (by first | assumption | exact hT.2.1) rfl) (fun x8 M8 h8 => ?_)
      obtain ⟨e8, f8⟩ := h8
      have f8' := f8.symm
      subst f8'
      subst e8
      try simp (disch := omega) only [rdI_e, rdI_n, rdC_i, rdC_o, rdW, rdR, rdU_e, rdU_n, rdLW, Int.add_zero, hw]
      refine x_iconst dX8_op_11 rfl ?_
      refine g_callI (vs := [_, _, _]) (d' := d - 1) rfl (s_X8_throwsIf (by omega) hT (by first | omega | exact vP_r _)) dX8_op_12 kX8_280 (by omega) (by decide) rfl (Nat.le_of_ble_eq_true rfl) (rcv_o (by first | assumption | exact hT.2.1) rfl) (fun x12 M12 h12 => ?_)
      obtain ⟨e12, r12, f12⟩ := h12
      refine x_if_ne (tgt := 41) dX8_op_15 (by decide) (fun h15 => ?_) (fun h15 => ?_)
      · rw [e12] at h15
        try simp only [vP_0, vP_1, vP_n0, vP_n1, Classical.not_not] at h15
        omega
      · first | have f12' := (f12.1 (by omega)).symm | have f12' := (f12.2 (by omega)).symm
        subst f12'
        rw [e12] at h15
        try simp only [vP_0, vP_1, vP_n0, vP_n1, Classical.not_not] at h15
        refine x_aload_n dX8_op_18 rfl rfl ?_
        refine x_iload_n dX8_op_19 rfl rfl ?_
        refine x_iconst dX8_op_20 rfl ?_
        refine x_bipush dX8_op_21 rfl ?_
        refine g_callI (vs := [_, _, _]) (d' := d - 1) rfl (s_X8_in (by omega)) dX8_op_23 kX8_88 (by omega) (by decide) rfl (Nat.le_of_ble_eq_true rfl) (rcv_n) (fun x23 M23 h23 => ?_)
        obtain ⟨e23, f23⟩ := h23
        have f23' := f23.symm
        subst f23'
        subst e23
        try simp (disch := omega) only [rdI_e, rdI_n, rdC_i, rdC_o, rdW, rdR, rdU_e, rdU_n, rdLW, Int.add_zero, hw]
        refine x_if_ne (tgt := 33) dX8_op_26 (by decide) (fun h26 => ?_) (fun h26 => ?_)
        · try simp only [vP_0, vP_1, vP_n0, vP_n1, Classical.not_not] at h26
          omega
        · try simp only [vP_0, vP_1, vP_n0, vP_n1, Classical.not_not] at h26
          refine x_iconst dX8_op_29 rfl ?_
          refine x_goto (tgt := 34) dX8_op_30 (by decide) ?_
          refine x_iconst dX8_op_34 rfl ?_
          refine g_callI (vs := [_, _, _]) (d' := d - 1) rfl (s_X8_throwsIf (by omega) hT (by first | omega | exact vP_r _)) dX8_op_35 kX8_280 (by omega) (by decide) rfl (Nat.le_of_ble_eq_true rfl) (rcv_o (by first | assumption | exact hT.2.1) rfl) (fun x35 M35 h35 => ?_)
          obtain ⟨e35, r35, f35⟩ := h35
          have f35' := (f35.2 (by omega)).symm
          subst f35'
          subst e35
          refine x_if_eq (tgt := 43) dX8_op_38 (by decide) (fun h38 => ?_) (fun h38 => ?_)
          · omega
          · try simp only [vP_0, vP_1, vP_n0, vP_n1, Classical.not_not] at h38
            refine x_iconst dX8_op_41 rfl ?_
            refine x_ireturn rfl dX8_op_42 ?_
            exact hQ _ _ ⟨_, rfl, RD.t hP, fun q => absurd q.2 hwh⟩
  · rw [if_neg hp] at hQ
    refine x_aload_n dX8_op_0 rfl rfl ?_
    refine x_iconst dX8_op_1 rfl ?_
    refine g_putI (kI := 0) rfl dX8_op_2 fX8_3_8 (by first | assumption | exact hT.2.1) ?_
    obtain ⟨hT, hw, hA, hL, hK, hsk⟩ := TP.z (x := 0) hP
    refine x_aload_n dX8_op_5 rfl rfl ?_
    refine x_aload_n dX8_op_6 rfl rfl ?_
    refine x_iload_n dX8_op_7 rfl rfl ?_
    refine g_callI (vs := [_, _]) (d' := d - 1) rfl (s_X8_noOp (by omega) hT (by first | exact hw | exact mciI (by omega) hw | exact mciI (by omega) (mciI (by omega) hw) | exact mciI (by omega) (mciI (by omega) (mciI (by omega) hw)) | exact mciI (by omega) (mciI (by omega) (mciI (by omega) (mciI (by omega) hw))) | exact mciC (by omega) hw) (by omega)) dX8_op_8 kX8_433 (by omega) (by decide) rfl (Nat.le_of_ble_eq_true rfl) (rcv_o (by first | assumption | exact hT.2.1) rfl) (fun x8 M8 h8 => ?_)
    obtain ⟨e8, f8⟩ := h8
    have f8' := f8.symm
    subst f8'
    subst e8
    try simp (disch := omega) only [rdI_e, rdI_n, rdC_i, rdC_o, rdW, rdR, rdU_e, rdU_n, rdLW, Int.add_zero, hw]
    refine x_iconst dX8_op_11 rfl ?_
    refine g_callI (vs := [_, _, _]) (d' := d - 1) rfl (s_X8_throwsIf (by omega) hT (by first | omega | exact vP_r _)) dX8_op_12 kX8_280 (by omega) (by decide) rfl (Nat.le_of_ble_eq_true rfl) (rcv_o (by first | assumption | exact hT.2.1) rfl) (fun x12 M12 h12 => ?_)
    obtain ⟨e12, r12, f12⟩ := h12
    refine x_if_ne (tgt := 41) dX8_op_15 (by decide) (fun h15 => ?_) (fun h15 => ?_)
    · first | have f12' := (f12.1 (by omega)).symm | have f12' := (f12.2 (by omega)).symm
      subst f12'
      rw [e12] at h15
      try simp only [vP_0, vP_1, vP_n0, vP_n1, Classical.not_not] at h15
      refine x_iconst dX8_op_41 rfl ?_
      refine x_ireturn rfl dX8_op_42 ?_
      exact hQ _ _ ⟨_, rfl, RD.t hP, fun q => absurd q.1 hp⟩
    · rw [e12] at h15
      try simp only [vP_0, vP_1, vP_n0, vP_n1, Classical.not_not] at h15
      omega
theorem s_X8_program (hd : 12 ≤ d) (hP : TP M m v) : CS G d mX8_program [dR m, dI k] M (postI fun x M1 => RD M m 0 M1 ∧ x = progAns v k) := by
  obtain ⟨hT, hw, hA, hL, hK, hsk⟩ := id hP
  have hv := hA.1
  have hv3 := hv.2.2.2.1
  have hT_ := hT; obtain ⟨p0, p1, ⟨c1, c2, c3, c4, c5, c6, c7, c8, c9, c10, c11, c12, c13, c14, c15⟩, ⟨t1, t2, t3, t4, t5, t6, t7, t8, t9, t10, t11, t12, t13, t14, t15⟩⟩ := hT_
  refine CS.mkQ (by decide) (Nat.le_of_ble_eq_true rfl) fun Q hQ => ?_
  refine x_aload_n dX8_program_0 rfl rfl ?_
  refine x_iconst dX8_program_1 rfl ?_
  refine g_putI (kI := 0) rfl dX8_program_2 fX8_3_8 (by first | assumption | exact hT.2.1) ?_
  refine x_iload_n dX8_program_5 rfl rfl ?_
  refine x_iconst dX8_program_6 rfl ?_
  refine x_aload_n dX8_program_7 rfl rfl ?_
  refine g_getR (kI := 1) rfl dX8_program_8 fX8_13_8 (by first | assumption | exact hT.2.1) (by first | assumption | exact hT.2.1) ?_
  refine x_iconst dX8_program_11 rfl ?_
  refine x_iald dX8_program_12 (by first | assumption | exact hT.2.1) (by omega) (by omega) ?_
  try simp (disch := omega) only [rdI_e, rdI_n, rdC_i, rdC_o, rdW, rdR, rdU_e, rdU_n, rdLW, Int.add_zero, hw]
  refine x_iconst dX8_program_13 rfl ?_
  first | refine x_isubN dX8_program_14 (by unfold i32; omega) ?_ | refine x_isub dX8_program_14 ?_
  refine g_callI (vs := [_, _, _]) (d' := d - 1) rfl (s_X8_in (by omega)) dX8_program_15 kX8_88 (by omega) (by decide) rfl (Nat.le_of_ble_eq_true rfl) (rcv_n) (fun x15 M15 h15 => ?_)
  obtain ⟨e15, f15⟩ := h15
  have f15' := f15.symm
  subst f15'
  subst e15
  try simp (disch := omega) only [rdI_e, rdI_n, rdC_i, rdC_o, rdW, rdR, rdU_e, rdU_n, rdLW, Int.add_zero, hw]
  refine x_if_eq (tgt := 33) dX8_program_18 (by decide) (fun h18 => ?_) (fun h18 => ?_)
  · try simp only [vP_0, vP_1, vP_n0, vP_n1, Classical.not_not] at h18
    refine x_iconst dX8_program_33 rfl ?_
    refine x_ireturn rfl dX8_program_34 ?_
    refine hQ _ _ ⟨_, rfl, RD.r hP, ?_⟩
    unfold progAns
    first
    | rw [if_pos (by omega)]
    | rw [if_neg (by omega)]
  · try simp only [vP_0, vP_1, vP_n0, vP_n1, Classical.not_not] at h18
    refine x_aload_n dX8_program_21 rfl rfl ?_
    refine g_getR (kI := 1) rfl dX8_program_22 fX8_13_8 (by first | assumption | exact hT.2.1) (by first | assumption | exact hT.2.1) ?_
    refine x_bipush dX8_program_25 rfl ?_
    refine x_iload_n dX8_program_27 rfl rfl ?_
    first | refine x_iaddN dX8_program_28 (by unfold i32; omega) ?_ | refine x_iadd dX8_program_28 ?_
    refine x_iald dX8_program_29 (by first | assumption | exact hT.2.1) (by omega) (by omega) ?_
    try simp (disch := omega) only [rdI_e, rdI_n, rdC_i, rdC_o, rdW, rdR, rdU_e, rdU_n, rdLW, Int.add_zero, hw]
    refine x_goto (tgt := 34) dX8_program_30 (by decide) ?_
    refine x_ireturn rfl dX8_program_34 ?_
    refine hQ _ _ ⟨_, rfl, RD.r hP, ?_⟩
    unfold progAns
    first
    | rw [if_pos (by omega)]
    | rw [if_neg (by omega)]
theorem s_X8_cell (hd : 12 ≤ d) (hP : TP M m v) : CS G d mX8_cell [dR m, dI k] M (postI fun x M1 => RD M m (if 0 ≤ k ∧ k ≤ 7 then 0 else 1) M1 ∧ (0 ≤ k ∧ k ≤ 7 → x = v (22 + k))) := by
  obtain ⟨hT, hw, hA, hL, hK, hsk⟩ := id hP
  have hT_ := hT; obtain ⟨p0, p1, ⟨c1, c2, c3, c4, c5, c6, c7, c8, c9, c10, c11, c12, c13, c14, c15⟩, ⟨t1, t2, t3, t4, t5, t6, t7, t8, t9, t10, t11, t12, t13, t14, t15⟩⟩ := hT_
  refine CS.mkQ (by decide) (Nat.le_of_ble_eq_true rfl) fun Q hQ => ?_
  refine x_aload_n dX8_cell_0 rfl rfl ?_
  refine x_iconst dX8_cell_1 rfl ?_
  refine g_putI (kI := 0) rfl dX8_cell_2 fX8_3_8 (by first | assumption | exact hT.2.1) ?_
  refine x_aload_n dX8_cell_5 rfl rfl ?_
  refine x_aload_n dX8_cell_6 rfl rfl ?_
  refine x_iload_n dX8_cell_7 rfl rfl ?_
  refine g_callI (vs := [_, _]) (d' := d - 1) rfl (s_X8_noCell (by omega) hT) dX8_cell_8 kX8_436 (by omega) (by decide) rfl (Nat.le_of_ble_eq_true rfl) (rcv_o (by first | assumption | exact hT.2.1) rfl) (fun x8 M8 h8 => ?_)
  obtain ⟨e8, f8⟩ := h8
  have f8' := f8.symm
  subst f8'
  subst e8
  try simp (disch := omega) only [rdI_e, rdI_n, rdC_i, rdC_o, rdW, rdR, rdU_e, rdU_n, rdLW, Int.add_zero, hw]
  refine x_iconst dX8_cell_11 rfl ?_
  refine g_callI (vs := [_, _, _]) (d' := d - 1) rfl (s_X8_throwsIf (by omega) hT (by first | omega | exact vP_r _)) dX8_cell_12 kX8_280 (by omega) (by decide) rfl (Nat.le_of_ble_eq_true rfl) (rcv_o (by first | assumption | exact hT.2.1) rfl) (fun x12 M12 h12 => ?_)
  obtain ⟨e12, r12, f12⟩ := h12
  refine x_if_eq (tgt := 22) dX8_cell_15 (by decide) (fun h15 => ?_) (fun h15 => ?_)
  · first | have f12' := (f12.1 (by omega)).symm | have f12' := (f12.2 (by omega)).symm
    subst f12'
    rw [e12] at h15
    try simp only [vP_0, vP_1, vP_n0, vP_n1, Classical.not_not] at h15
    refine x_aload_n dX8_cell_22 rfl rfl ?_
    refine g_getR (kI := 1) rfl dX8_cell_23 fX8_13_8 (by first | assumption | exact hT.2.1) (by first | assumption | exact hT.2.1) ?_
    refine x_bipush dX8_cell_26 rfl ?_
    refine x_iload_n dX8_cell_28 rfl rfl ?_
    first | refine x_iaddN dX8_cell_29 (by unfold i32; omega) ?_ | refine x_iadd dX8_cell_29 ?_
    refine x_iald dX8_cell_30 (by first | assumption | exact hT.2.1) (by omega) (by omega) ?_
    try simp (disch := omega) only [rdI_e, rdI_n, rdC_i, rdC_o, rdW, rdR, rdU_e, rdU_n, rdLW, Int.add_zero, hw]
    refine x_ireturn rfl dX8_cell_31 ?_
    first
    | exact hQ _ _ ⟨_, rfl, by rw [if_neg (by omega)]; exact RD.t hP, fun q => by omega⟩
    | exact hQ _ _ ⟨_, rfl, by rw [if_pos (by omega)]; exact RD.r hP, fun q => rfl⟩
  · first | have f12' := (f12.1 (by omega)).symm | have f12' := (f12.2 (by omega)).symm
    subst f12'
    rw [e12] at h15
    try simp only [vP_0, vP_1, vP_n0, vP_n1, Classical.not_not] at h15
    refine x_iconst dX8_cell_18 rfl ?_
    refine x_goto (tgt := 31) dX8_cell_19 (by decide) ?_
    refine x_ireturn rfl dX8_cell_31 ?_
    first
    | exact hQ _ _ ⟨_, rfl, by rw [if_neg (by omega)]; exact RD.t hP, fun q => by omega⟩
    | exact hQ _ _ ⟨_, rfl, by rw [if_pos (by omega)]; exact RD.r hP, fun q => rfl⟩
theorem s_X8_guest (hd : 13 ≤ d) (hP : TP M m v) : CS G d mX8_guest [dR m, dI b, dI what] M (postI fun x M1 => RD M m (if 0 ≤ what ∧ what ≤ 13 then 0 else 1) M1 ∧ (0 ≤ what ∧ what ≤ 13 → x = guestAns v (if b = 0 then 0 else 1) what)) := by
  obtain ⟨hT, hw, hA, hL, hK, hsk⟩ := id hP
  have hT_ := hT; obtain ⟨p0, p1, ⟨c1, c2, c3, c4, c5, c6, c7, c8, c9, c10, c11, c12, c13, c14, c15⟩, ⟨t1, t2, t3, t4, t5, t6, t7, t8, t9, t10, t11, t12, t13, t14, t15⟩⟩ := hT_
  refine CS.mkQ (by decide) (Nat.le_of_ble_eq_true rfl) fun Q hQ => ?_
  refine x_aload_n dX8_guest_0 rfl rfl ?_
  refine x_iconst dX8_guest_1 rfl ?_
  refine g_putI (kI := 0) rfl dX8_guest_2 fX8_3_8 (by first | assumption | exact hT.2.1) ?_
  refine x_aload_n dX8_guest_5 rfl rfl ?_
  refine x_iload_n dX8_guest_6 rfl rfl ?_
  refine x_iconst dX8_guest_7 rfl ?_
  refine x_bipush dX8_guest_8 rfl ?_
  refine g_callI (vs := [_, _, _]) (d' := d - 1) rfl (s_X8_in (by omega)) dX8_guest_10 kX8_88 (by omega) (by decide) rfl (Nat.le_of_ble_eq_true rfl) (rcv_n) (fun x10 M10 h10 => ?_)
  obtain ⟨e10, f10⟩ := h10
  have f10' := f10.symm
  subst f10'
  subst e10
  try simp (disch := omega) only [rdI_e, rdI_n, rdC_i, rdC_o, rdW, rdR, rdU_e, rdU_n, rdLW, Int.add_zero, hw]
  refine x_if_ne (tgt := 20) dX8_guest_13 (by decide) (fun h13 => ?_) (fun h13 => ?_)
  · try simp only [vP_0, vP_1, vP_n0, vP_n1, Classical.not_not] at h13
    refine x_iconst dX8_guest_20 rfl ?_
    refine x_iconst dX8_guest_21 rfl ?_
    refine g_callI (vs := [_, _, _]) (d' := d - 1) rfl (s_X8_throwsIf (by omega) hT (by first | omega | exact vP_r _)) dX8_guest_22 kX8_280 (by omega) (by decide) rfl (Nat.le_of_ble_eq_true rfl) (rcv_o (by first | assumption | exact hT.2.1) rfl) (fun x22 M22 h22 => ?_)
    obtain ⟨e22, r22, f22⟩ := h22
    have f22' := (f22.1 (by omega)).symm
    subst f22'
    subst e22
    refine x_if_eq (tgt := 30) dX8_guest_25 (by decide) (fun h25 => ?_) (fun h25 => ?_)
    · try simp only [vP_0, vP_1, vP_n0, vP_n1, Classical.not_not] at h25
      refine x_iload_n dX8_guest_30 rfl rfl ?_
      refine x_if_eq (tgt := 38) dX8_guest_31 (by decide) (fun h31 => ?_) (fun h31 => ?_)
      · refine x_iconst dX8_guest_38 rfl ?_
        refine x_istore_n (L' := [some _, some _, some _, some _]) dX8_guest_39 rfl (by decide) rfl ?_
        refine x_iload_n dX8_guest_40 rfl rfl ?_
        refine x_iconst dX8_guest_41 rfl ?_
        refine x_icmp_ne (tgt := 61) dX8_guest_42 (by decide) (fun h42 => ?_) (fun h42 => ?_)
        · refine x_aload_n dX8_guest_61 rfl rfl ?_
          refine x_iload_n dX8_guest_62 rfl rfl ?_
          refine x_iload_n dX8_guest_63 rfl rfl ?_
          refine x_iconst dX8_guest_64 rfl ?_
          refine x_icmp_ge (tgt := 72) dX8_guest_65 (by decide) (fun h65 => ?_) (fun h65 => ?_)
          · refine x_iload_n dX8_guest_72 rfl rfl ?_
            refine x_iconst dX8_guest_73 rfl ?_
            first | refine x_isubN dX8_guest_74 (by unfold i32; omega) ?_ | refine x_isub dX8_guest_74 ?_
            refine g_callI (vs := [_, _, _]) (d' := d - 1) rfl (s_X8_ofGuest (by omega) hT (by first | exact hw | exact mciI (by omega) hw | exact mciI (by omega) (mciI (by omega) hw) | exact mciI (by omega) (mciI (by omega) (mciI (by omega) hw)) | exact mciI (by omega) (mciI (by omega) (mciI (by omega) (mciI (by omega) hw))) | exact mciC (by omega) hw) (by omega) (by omega)) dX8_guest_75 kX8_384 (by omega) (by decide) rfl (Nat.le_of_ble_eq_true rfl) (rcv_o (by first | assumption | exact hT.2.1) rfl) (fun x75 M75 h75 => ?_)
            obtain ⟨e75, f75⟩ := h75
            have f75' := f75.symm
            subst f75'
            subst e75
            try simp (disch := omega) only [rdI_e, rdI_n, rdC_i, rdC_o, rdW, rdR, rdU_e, rdU_n, rdLW, Int.add_zero, hw]
            refine x_ireturn rfl dX8_guest_78 ?_
            refine hQ _ _ ⟨_, rfl, by rw [if_pos (by omega)]; exact RD.r hP, fun q => ?_⟩
            first | rw [if_pos h31] | rw [if_neg h31]
            unfold guestAns
            first
            | (rw [if_pos h42]
               first | rw [if_pos h50] | rw [if_neg h50])
            | (rw [if_neg h42]
               first
               | rw [if_pos (by omega)]
               | (rw [if_neg (by omega)]
                  exact congrArg v (by omega)))
          · refine x_iload_n dX8_guest_68 rfl rfl ?_
            refine x_goto (tgt := 75) dX8_guest_69 (by decide) ?_
            refine g_callI (vs := [_, _, _]) (d' := d - 1) rfl (s_X8_ofGuest (by omega) hT (by first | exact hw | exact mciI (by omega) hw | exact mciI (by omega) (mciI (by omega) hw) | exact mciI (by omega) (mciI (by omega) (mciI (by omega) hw)) | exact mciI (by omega) (mciI (by omega) (mciI (by omega) (mciI (by omega) hw))) | exact mciC (by omega) hw) (by omega) (by omega)) dX8_guest_75 kX8_384 (by omega) (by decide) rfl (Nat.le_of_ble_eq_true rfl) (rcv_o (by first | assumption | exact hT.2.1) rfl) (fun x75 M75 h75 => ?_)
            obtain ⟨e75, f75⟩ := h75
            have f75' := f75.symm
            subst f75'
            subst e75
            try simp (disch := omega) only [rdI_e, rdI_n, rdC_i, rdC_o, rdW, rdR, rdU_e, rdU_n, rdLW, Int.add_zero, hw]
            refine x_ireturn rfl dX8_guest_78 ?_
            refine hQ _ _ ⟨_, rfl, by rw [if_pos (by omega)]; exact RD.r hP, fun q => ?_⟩
            first | rw [if_pos h31] | rw [if_neg h31]
            unfold guestAns
            first
            | (rw [if_pos h42]
               first | rw [if_pos h50] | rw [if_neg h50])
            | (rw [if_neg h42]
               first
               | rw [if_pos (by omega)]
               | (rw [if_neg (by omega)]
                  exact congrArg v (by omega)))
        · refine x_aload_n dX8_guest_45 rfl rfl ?_
          refine x_iload_n dX8_guest_46 rfl rfl ?_
          refine g_callI (vs := [_, _]) (d' := d - 1) rfl (s_X8_isHalted (by omega) hT (by first | exact hw | exact mciI (by omega) hw | exact mciI (by omega) (mciI (by omega) hw) | exact mciI (by omega) (mciI (by omega) (mciI (by omega) hw)) | exact mciI (by omega) (mciI (by omega) (mciI (by omega) (mciI (by omega) hw))) | exact mciC (by omega) hw) (by omega)) dX8_guest_47 kX8_392 (by omega) (by decide) rfl (Nat.le_of_ble_eq_true rfl) (rcv_o (by first | assumption | exact hT.2.1) rfl) (fun x47 M47 h47 => ?_)
          obtain ⟨e47, f47⟩ := h47
          have f47' := f47.symm
          subst f47'
          subst e47
          try simp (disch := omega) only [rdI_e, rdI_n, rdC_i, rdC_o, rdW, rdR, rdU_e, rdU_n, rdLW, Int.add_zero, hw]
          refine x_if_eq (tgt := 57) dX8_guest_50 (by decide) (fun h50 => ?_) (fun h50 => ?_)
          · try simp only [vP_0, vP_1, vP_n0, vP_n1, Classical.not_not] at h50
            refine x_iconst dX8_guest_57 rfl ?_
            refine x_goto (tgt := 78) dX8_guest_58 (by decide) ?_
            refine x_ireturn rfl dX8_guest_78 ?_
            refine hQ _ _ ⟨_, rfl, by rw [if_pos (by omega)]; exact RD.r hP, fun q => ?_⟩
            first | rw [if_pos h31] | rw [if_neg h31]
            unfold guestAns
            first
            | (rw [if_pos h42]
               first | rw [if_pos h50] | rw [if_neg h50])
            | (rw [if_neg h42]
               first
               | rw [if_pos (by omega)]
               | (rw [if_neg (by omega)]
                  exact congrArg v (by omega)))
          · try simp only [vP_0, vP_1, vP_n0, vP_n1, Classical.not_not] at h50
            refine x_iconst dX8_guest_53 rfl ?_
            refine x_goto (tgt := 78) dX8_guest_54 (by decide) ?_
            refine x_ireturn rfl dX8_guest_78 ?_
            refine hQ _ _ ⟨_, rfl, by rw [if_pos (by omega)]; exact RD.r hP, fun q => ?_⟩
            first | rw [if_pos h31] | rw [if_neg h31]
            unfold guestAns
            first
            | (rw [if_pos h42]
               first | rw [if_pos h50] | rw [if_neg h50])
            | (rw [if_neg h42]
               first
               | rw [if_pos (by omega)]
               | (rw [if_neg (by omega)]
                  exact congrArg v (by omega)))
      · refine x_iconst dX8_guest_34 rfl ?_
        refine x_goto (tgt := 39) dX8_guest_35 (by decide) ?_
        refine x_istore_n (L' := [some _, some _, some _, some _]) dX8_guest_39 rfl (by decide) rfl ?_
        refine x_iload_n dX8_guest_40 rfl rfl ?_
        refine x_iconst dX8_guest_41 rfl ?_
        refine x_icmp_ne (tgt := 61) dX8_guest_42 (by decide) (fun h42 => ?_) (fun h42 => ?_)
        · refine x_aload_n dX8_guest_61 rfl rfl ?_
          refine x_iload_n dX8_guest_62 rfl rfl ?_
          refine x_iload_n dX8_guest_63 rfl rfl ?_
          refine x_iconst dX8_guest_64 rfl ?_
          refine x_icmp_ge (tgt := 72) dX8_guest_65 (by decide) (fun h65 => ?_) (fun h65 => ?_)
          · refine x_iload_n dX8_guest_72 rfl rfl ?_
            refine x_iconst dX8_guest_73 rfl ?_
            first | refine x_isubN dX8_guest_74 (by unfold i32; omega) ?_ | refine x_isub dX8_guest_74 ?_
            refine g_callI (vs := [_, _, _]) (d' := d - 1) rfl (s_X8_ofGuest (by omega) hT (by first | exact hw | exact mciI (by omega) hw | exact mciI (by omega) (mciI (by omega) hw) | exact mciI (by omega) (mciI (by omega) (mciI (by omega) hw)) | exact mciI (by omega) (mciI (by omega) (mciI (by omega) (mciI (by omega) hw))) | exact mciC (by omega) hw) (by omega) (by omega)) dX8_guest_75 kX8_384 (by omega) (by decide) rfl (Nat.le_of_ble_eq_true rfl) (rcv_o (by first | assumption | exact hT.2.1) rfl) (fun x75 M75 h75 => ?_)
            obtain ⟨e75, f75⟩ := h75
            have f75' := f75.symm
            subst f75'
            subst e75
            try simp (disch := omega) only [rdI_e, rdI_n, rdC_i, rdC_o, rdW, rdR, rdU_e, rdU_n, rdLW, Int.add_zero, hw]
            refine x_ireturn rfl dX8_guest_78 ?_
            refine hQ _ _ ⟨_, rfl, by rw [if_pos (by omega)]; exact RD.r hP, fun q => ?_⟩
            first | rw [if_pos h31] | rw [if_neg h31]
            unfold guestAns
            first
            | (rw [if_pos h42]
               first | rw [if_pos h50] | rw [if_neg h50])
            | (rw [if_neg h42]
               first
               | rw [if_pos (by omega)]
               | (rw [if_neg (by omega)]
                  exact congrArg v (by omega)))
          · refine x_iload_n dX8_guest_68 rfl rfl ?_
            refine x_goto (tgt := 75) dX8_guest_69 (by decide) ?_
            refine g_callI (vs := [_, _, _]) (d' := d - 1) rfl (s_X8_ofGuest (by omega) hT (by first | exact hw | exact mciI (by omega) hw | exact mciI (by omega) (mciI (by omega) hw) | exact mciI (by omega) (mciI (by omega) (mciI (by omega) hw)) | exact mciI (by omega) (mciI (by omega) (mciI (by omega) (mciI (by omega) hw))) | exact mciC (by omega) hw) (by omega) (by omega)) dX8_guest_75 kX8_384 (by omega) (by decide) rfl (Nat.le_of_ble_eq_true rfl) (rcv_o (by first | assumption | exact hT.2.1) rfl) (fun x75 M75 h75 => ?_)
            obtain ⟨e75, f75⟩ := h75
            have f75' := f75.symm
            subst f75'
            subst e75
            try simp (disch := omega) only [rdI_e, rdI_n, rdC_i, rdC_o, rdW, rdR, rdU_e, rdU_n, rdLW, Int.add_zero, hw]
            refine x_ireturn rfl dX8_guest_78 ?_
            refine hQ _ _ ⟨_, rfl, by rw [if_pos (by omega)]; exact RD.r hP, fun q => ?_⟩
            first | rw [if_pos h31] | rw [if_neg h31]
            unfold guestAns
            first
            | (rw [if_pos h42]
               first | rw [if_pos h50] | rw [if_neg h50])
            | (rw [if_neg h42]
               first
               | rw [if_pos (by omega)]
               | (rw [if_neg (by omega)]
                  exact congrArg v (by omega)))
        · refine x_aload_n dX8_guest_45 rfl rfl ?_
          refine x_iload_n dX8_guest_46 rfl rfl ?_
          refine g_callI (vs := [_, _]) (d' := d - 1) rfl (s_X8_isHalted (by omega) hT (by first | exact hw | exact mciI (by omega) hw | exact mciI (by omega) (mciI (by omega) hw) | exact mciI (by omega) (mciI (by omega) (mciI (by omega) hw)) | exact mciI (by omega) (mciI (by omega) (mciI (by omega) (mciI (by omega) hw))) | exact mciC (by omega) hw) (by omega)) dX8_guest_47 kX8_392 (by omega) (by decide) rfl (Nat.le_of_ble_eq_true rfl) (rcv_o (by first | assumption | exact hT.2.1) rfl) (fun x47 M47 h47 => ?_)
          obtain ⟨e47, f47⟩ := h47
          have f47' := f47.symm
          subst f47'
          subst e47
          try simp (disch := omega) only [rdI_e, rdI_n, rdC_i, rdC_o, rdW, rdR, rdU_e, rdU_n, rdLW, Int.add_zero, hw]
          refine x_if_eq (tgt := 57) dX8_guest_50 (by decide) (fun h50 => ?_) (fun h50 => ?_)
          · try simp only [vP_0, vP_1, vP_n0, vP_n1, Classical.not_not] at h50
            refine x_iconst dX8_guest_57 rfl ?_
            refine x_goto (tgt := 78) dX8_guest_58 (by decide) ?_
            refine x_ireturn rfl dX8_guest_78 ?_
            refine hQ _ _ ⟨_, rfl, by rw [if_pos (by omega)]; exact RD.r hP, fun q => ?_⟩
            first | rw [if_pos h31] | rw [if_neg h31]
            unfold guestAns
            first
            | (rw [if_pos h42]
               first | rw [if_pos h50] | rw [if_neg h50])
            | (rw [if_neg h42]
               first
               | rw [if_pos (by omega)]
               | (rw [if_neg (by omega)]
                  exact congrArg v (by omega)))
          · try simp only [vP_0, vP_1, vP_n0, vP_n1, Classical.not_not] at h50
            refine x_iconst dX8_guest_53 rfl ?_
            refine x_goto (tgt := 78) dX8_guest_54 (by decide) ?_
            refine x_ireturn rfl dX8_guest_78 ?_
            refine hQ _ _ ⟨_, rfl, by rw [if_pos (by omega)]; exact RD.r hP, fun q => ?_⟩
            first | rw [if_pos h31] | rw [if_neg h31]
            unfold guestAns
            first
            | (rw [if_pos h42]
               first | rw [if_pos h50] | rw [if_neg h50])
            | (rw [if_neg h42]
               first
               | rw [if_pos (by omega)]
               | (rw [if_neg (by omega)]
                  exact congrArg v (by omega)))
    · exact absurd h25 (by decide)
  · try simp only [vP_0, vP_1, vP_n0, vP_n1, Classical.not_not] at h13
    refine x_iconst dX8_guest_16 rfl ?_
    refine x_goto (tgt := 21) dX8_guest_17 (by decide) ?_
    refine x_iconst dX8_guest_21 rfl ?_
    refine g_callI (vs := [_, _, _]) (d' := d - 1) rfl (s_X8_throwsIf (by omega) hT (by first | omega | exact vP_r _)) dX8_guest_22 kX8_280 (by omega) (by decide) rfl (Nat.le_of_ble_eq_true rfl) (rcv_o (by first | assumption | exact hT.2.1) rfl) (fun x22 M22 h22 => ?_)
    obtain ⟨e22, r22, f22⟩ := h22
    have f22' := (f22.2 (by omega)).symm
    subst f22'
    subst e22
    refine x_if_eq (tgt := 30) dX8_guest_25 (by decide) (fun h25 => ?_) (fun h25 => ?_)
    · exact absurd h25 (by decide)
    · try simp only [vP_0, vP_1, vP_n0, vP_n1, Classical.not_not] at h25
      refine x_iconst dX8_guest_28 rfl ?_
      refine x_ireturn rfl dX8_guest_29 ?_
      exact hQ _ _ ⟨_, rfl, by rw [if_neg (by omega)]; exact RD.t hP, fun q => by omega⟩
theorem s_X8_log (hd : 12 ≤ d) (hP : TP M m v) : CS G d mX8_log [dR m, dI k, dI what] M (postI fun x M1 => RD M m (if 0 ≤ what ∧ what ≤ 3 then 0 else 1) M1 ∧ (0 ≤ what ∧ what ≤ 3 → x = logAns v k what)) := by
  obtain ⟨hT, hw, hA, hL, hK, hsk⟩ := id hP
  have hv := hA.1
  have hv10 := hv.l60
  have hT_ := hT; obtain ⟨p0, p1, ⟨c1, c2, c3, c4, c5, c6, c7, c8, c9, c10, c11, c12, c13, c14, c15⟩, ⟨t1, t2, t3, t4, t5, t6, t7, t8, t9, t10, t11, t12, t13, t14, t15⟩⟩ := hT_
  refine CS.mkQ (by decide) (Nat.le_of_ble_eq_true rfl) fun Q hQ => ?_
  refine x_aload_n dX8_log_0 rfl rfl ?_
  refine x_iconst dX8_log_1 rfl ?_
  refine g_putI (kI := 0) rfl dX8_log_2 fX8_3_8 (by first | assumption | exact hT.2.1) ?_
  refine x_aload_n dX8_log_5 rfl rfl ?_
  refine x_iload_n dX8_log_6 rfl rfl ?_
  refine x_iconst dX8_log_7 rfl ?_
  refine x_iconst dX8_log_8 rfl ?_
  refine g_callI (vs := [_, _, _]) (d' := d - 1) rfl (s_X8_in (by omega)) dX8_log_9 kX8_88 (by omega) (by decide) rfl (Nat.le_of_ble_eq_true rfl) (rcv_n) (fun x9 M9 h9 => ?_)
  obtain ⟨e9, f9⟩ := h9
  have f9' := f9.symm
  subst f9'
  subst e9
  try simp (disch := omega) only [rdI_e, rdI_n, rdC_i, rdC_o, rdW, rdR, rdU_e, rdU_n, rdLW, Int.add_zero, hw]
  refine x_if_ne (tgt := 19) dX8_log_12 (by decide) (fun h12 => ?_) (fun h12 => ?_)
  · try simp only [vP_0, vP_1, vP_n0, vP_n1, Classical.not_not] at h12
    refine x_iconst dX8_log_19 rfl ?_
    refine x_iconst dX8_log_20 rfl ?_
    refine g_callI (vs := [_, _, _]) (d' := d - 1) rfl (s_X8_throwsIf (by omega) hT (by first | omega | exact vP_r _)) dX8_log_21 kX8_280 (by omega) (by decide) rfl (Nat.le_of_ble_eq_true rfl) (rcv_o (by first | assumption | exact hT.2.1) rfl) (fun x21 M21 h21 => ?_)
    obtain ⟨e21, r21, f21⟩ := h21
    have f21' := (f21.1 (by omega)).symm
    subst f21'
    subst e21
    refine x_if_eq (tgt := 29) dX8_log_24 (by decide) (fun h24 => ?_) (fun h24 => ?_)
    · try simp only [vP_0, vP_1, vP_n0, vP_n1, Classical.not_not] at h24
      refine x_iload_n dX8_log_29 rfl rfl ?_
      refine x_iconst dX8_log_30 rfl ?_
      refine x_aload_n dX8_log_31 rfl rfl ?_
      refine g_getR (kI := 1) rfl dX8_log_32 fX8_13_8 (by first | assumption | exact hT.2.1) (by first | assumption | exact hT.2.1) ?_
      refine x_bipush dX8_log_35 rfl ?_
      refine x_iald dX8_log_37 (by first | assumption | exact hT.2.1) (by omega) (by omega) ?_
      try simp (disch := omega) only [rdI_e, rdI_n, rdC_i, rdC_o, rdW, rdR, rdU_e, rdU_n, rdLW, Int.add_zero, hw]
      refine x_iconst dX8_log_38 rfl ?_
      first | refine x_isubN dX8_log_39 (by unfold i32; omega) ?_ | refine x_isub dX8_log_39 ?_
      refine g_callI (vs := [_, _, _]) (d' := d - 1) rfl (s_X8_in (by omega)) dX8_log_40 kX8_88 (by omega) (by decide) rfl (Nat.le_of_ble_eq_true rfl) (rcv_n) (fun x40 M40 h40 => ?_)
      obtain ⟨e40, f40⟩ := h40
      have f40' := f40.symm
      subst f40'
      subst e40
      try simp (disch := omega) only [rdI_e, rdI_n, rdC_i, rdC_o, rdW, rdR, rdU_e, rdU_n, rdLW, Int.add_zero, hw]
      refine x_if_eq (tgt := 55) dX8_log_43 (by decide) (fun h43 => ?_) (fun h43 => ?_)
      · try simp only [vP_0, vP_1, vP_n0, vP_n1, Classical.not_not] at h43
        refine x_bipush dX8_log_55 rfl ?_
        refine x_ireturn rfl dX8_log_57 ?_
        refine hQ _ _ ⟨_, rfl, by rw [if_pos (by omega)]; exact RD.r hP, fun q => ?_⟩
        unfold logAns
        first | rw [if_pos (by omega)] | rw [if_neg (by omega)]
      · try simp only [vP_0, vP_1, vP_n0, vP_n1, Classical.not_not] at h43
        refine x_aload_n dX8_log_46 rfl rfl ?_
        refine x_iload_n dX8_log_47 rfl rfl ?_
        refine x_iload_n dX8_log_48 rfl rfl ?_
        refine g_callI (vs := [_, _, _]) (d' := d - 1) rfl (s_X8_ofLog (by omega) hT (by first | exact hw | exact mciI (by omega) hw | exact mciI (by omega) (mciI (by omega) hw) | exact mciI (by omega) (mciI (by omega) (mciI (by omega) hw)) | exact mciI (by omega) (mciI (by omega) (mciI (by omega) (mciI (by omega) hw))) | exact mciC (by omega) hw) (by omega) (by omega)) dX8_log_49 kX8_553 (by omega) (by decide) rfl (Nat.le_of_ble_eq_true rfl) (rcv_o (by first | assumption | exact hT.2.1) rfl) (fun x49 M49 h49 => ?_)
        obtain ⟨e49, f49⟩ := h49
        have f49' := f49.symm
        subst f49'
        subst e49
        try simp (disch := omega) only [rdI_e, rdI_n, rdC_i, rdC_o, rdW, rdR, rdU_e, rdU_n, rdLW, Int.add_zero, hw]
        refine x_goto (tgt := 57) dX8_log_52 (by decide) ?_
        refine x_ireturn rfl dX8_log_57 ?_
        refine hQ _ _ ⟨_, rfl, by rw [if_pos (by omega)]; exact RD.r hP, fun q => ?_⟩
        unfold logAns
        first | rw [if_pos (by omega)] | rw [if_neg (by omega)]
    · exact absurd h24 (by decide)
  · try simp only [vP_0, vP_1, vP_n0, vP_n1, Classical.not_not] at h12
    refine x_iconst dX8_log_15 rfl ?_
    refine x_goto (tgt := 20) dX8_log_16 (by decide) ?_
    refine x_iconst dX8_log_20 rfl ?_
    refine g_callI (vs := [_, _, _]) (d' := d - 1) rfl (s_X8_throwsIf (by omega) hT (by first | omega | exact vP_r _)) dX8_log_21 kX8_280 (by omega) (by decide) rfl (Nat.le_of_ble_eq_true rfl) (rcv_o (by first | assumption | exact hT.2.1) rfl) (fun x21 M21 h21 => ?_)
    obtain ⟨e21, r21, f21⟩ := h21
    have f21' := (f21.2 (by omega)).symm
    subst f21'
    subst e21
    refine x_if_eq (tgt := 29) dX8_log_24 (by decide) (fun h24 => ?_) (fun h24 => ?_)
    · exact absurd h24 (by decide)
    · try simp only [vP_0, vP_1, vP_n0, vP_n1, Classical.not_not] at h24
      refine x_iconst dX8_log_27 rfl ?_
      refine x_ireturn rfl dX8_log_28 ?_
      exact hQ _ _ ⟨_, rfl, by rw [if_neg (by omega)]; exact RD.t hP, fun q => by omega⟩
theorem ledN_r (v : Vw) (p : Int) : ∀ (t : Nat) (k : Int), 0 ≤ ledN v p t k ∧ ledN v p t k ≤ t := by
  intro t
  induction t with
  | zero => intro k; exact ⟨Int.le_refl 0, Int.le_refl 0⟩
  | succ t ih =>
    intro k
    have := ih (k + 1)
    unfold ledN
    split <;> omega
theorem s_X8_led (hd : 12 ≤ d) (hP : TP M m v) : CS G d mX8_led [dR m, dI p, dI b] M (postI fun x M1 => RD M m (if 0 ≤ p ∧ p < v 0 then 0 else 1) M1 ∧ (0 ≤ p ∧ p < v 0 → x = ledAns v p b)) := by
  obtain ⟨hT, hw, hA, hL, hK, hsk⟩ := id hP
  have hv := hA.1
  have hv0 := hv.1
  have hv8 := hv.n8
  have hv10 := hv.l60
  have hT_ := hT; obtain ⟨p0, p1, ⟨c1, c2, c3, c4, c5, c6, c7, c8, c9, c10, c11, c12, c13, c14, c15⟩, ⟨t1, t2, t3, t4, t5, t6, t7, t8, t9, t10, t11, t12, t13, t14, t15⟩⟩ := hT_
  refine CS.mkQ (by decide) (Nat.le_of_ble_eq_true rfl) fun Q hQ => ?_
  by_cases hp : 0 ≤ p ∧ p < v 0
  · rw [if_pos hp] at hQ
    have loop : ∀ (t : Nat) (k x y : Int), (k + 1).toNat = t → (-1 ≤ k) → (k < v 10) → (x = ledN v p (v 10 - 1 - k).toNat (k + 1)) → (y = ledT v p (v 10 - 1 - k).toNat (k + 1)) → WP G d mX8_led 36 [some (dR m), some (dI p), some (dI b), some (dI x), some (dI y), some (dI k)] [] (mI M m 0 0) Q := by
      intro t
      induction t using Nat.strongRecOn with
      | _ t ih =>
        intro k x y ht k0 k1 hx hy
        have hxr := ledN_r v p (v 10 - 1 - k).toNat (k + 1)
        by_cases hk : 0 ≤ k
        · have e1 : (v 10 - 1 - (k + -1)).toNat = (v 10 - 1 - k).toNat + 1 := by omega
          have e2 : ledN v p (v 10 - 1 - (k + -1)).toNat (k + -1 + 1) = (if v (128 + 4 * k + 1) = p then 1 else 0) + ledN v p (v 10 - 1 - k).toNat (k + 1) := by
            rw [e1, show k + -1 + 1 = k by omega]
            rfl
          have e3 : ledT v p (v 10 - 1 - (k + -1)).toNat (k + -1 + 1) = if v (128 + 4 * k + 1) = p then v (128 + 4 * k) else ledT v p (v 10 - 1 - k).toNat (k + 1) := by
            rw [e1, show k + -1 + 1 = k by omega]
            rfl
          refine x_iload dX8_led_36 rfl ?_
          refine x_if_lt (tgt := 73) dX8_led_38 (by decide) (fun h38 => ?_) (fun h38 => ?_)
          · omega
          · refine x_aload_n dX8_led_41 rfl rfl ?_
            refine x_iload dX8_led_42 rfl ?_
            refine x_iconst dX8_led_44 rfl ?_
            refine g_callI (vs := [_, _, _]) (d' := d - 1) rfl (s_X8_ofLog (by omega) hT (by first | exact hw | exact mciI (by omega) hw | exact mciI (by omega) (mciI (by omega) hw) | exact mciI (by omega) (mciI (by omega) (mciI (by omega) hw)) | exact mciI (by omega) (mciI (by omega) (mciI (by omega) (mciI (by omega) hw))) | exact mciC (by omega) hw) (by omega) (by omega)) dX8_led_45 kX8_553 (by omega) (by decide) rfl (Nat.le_of_ble_eq_true rfl) (rcv_o (by first | assumption | exact hT.2.1) rfl) (fun x45 M45 h45 => ?_)
            obtain ⟨e45, f45⟩ := h45
            have f45' := f45.symm
            subst f45'
            subst e45
            try simp (disch := omega) only [rdI_e, rdI_n, rdC_i, rdC_o, rdW, rdR, rdU_e, rdU_n, rdLW, Int.add_zero, hw]
            refine x_iload_n dX8_led_48 rfl rfl ?_
            refine x_icmp_eq (tgt := 55) dX8_led_49 (by decide) (fun h49 => ?_) (fun h49 => ?_)
            · first | refine x_iincN (L' := [some _, some _, some _, some _, some _, some _]) dX8_led_55 rfl (by decide) (by unfold i32; omega) rfl ?_ | refine x_iinc (L' := [some _, some _, some _, some _, some _, some _]) dX8_led_55 rfl (by decide) rfl ?_
              refine x_aload_n dX8_led_58 rfl rfl ?_
              refine x_iload dX8_led_59 rfl ?_
              refine x_iconst dX8_led_61 rfl ?_
              refine g_callI (vs := [_, _, _]) (d' := d - 1) rfl (s_X8_ofLog (by omega) hT (by first | exact hw | exact mciI (by omega) hw | exact mciI (by omega) (mciI (by omega) hw) | exact mciI (by omega) (mciI (by omega) (mciI (by omega) hw)) | exact mciI (by omega) (mciI (by omega) (mciI (by omega) (mciI (by omega) hw))) | exact mciC (by omega) hw) (by omega) (by omega)) dX8_led_62 kX8_553 (by omega) (by decide) rfl (Nat.le_of_ble_eq_true rfl) (rcv_o (by first | assumption | exact hT.2.1) rfl) (fun x62 M62 h62 => ?_)
              obtain ⟨e62, f62⟩ := h62
              have f62' := f62.symm
              subst f62'
              subst e62
              try simp (disch := omega) only [rdI_e, rdI_n, rdC_i, rdC_o, rdW, rdR, rdU_e, rdU_n, rdLW, Int.add_zero, hw]
              refine x_istore (L' := [some _, some _, some _, some _, some _, some _]) dX8_led_65 (by decide) rfl ?_
              first | refine x_iincN (L' := [some _, some _, some _, some _, some _, some _]) dX8_led_67 rfl (by decide) (by unfold i32; omega) rfl ?_ | refine x_iinc (L' := [some _, some _, some _, some _, some _, some _]) dX8_led_67 rfl (by decide) rfl ?_
              refine x_goto (tgt := 36) dX8_led_70 (by decide) ?_
              first
              | (rw [if_pos h49] at e2 e3
                 exact ih _ (by omega) (k + -1) _ _ rfl (by omega) (by omega) (by rw [e2]; omega) e3.symm)
              | (rw [if_neg h49] at e2 e3
                 exact ih _ (by omega) (k + -1) _ _ rfl (by omega) (by omega) (by rw [e2]; omega) (hy.trans e3.symm))
            · refine x_goto (tgt := 67) dX8_led_52 (by decide) ?_
              first | refine x_iincN (L' := [some _, some _, some _, some _, some _, some _]) dX8_led_67 rfl (by decide) (by unfold i32; omega) rfl ?_ | refine x_iinc (L' := [some _, some _, some _, some _, some _, some _]) dX8_led_67 rfl (by decide) rfl ?_
              refine x_goto (tgt := 36) dX8_led_70 (by decide) ?_
              first
              | (rw [if_pos h49] at e2 e3
                 exact ih _ (by omega) (k + -1) _ _ rfl (by omega) (by omega) (by rw [e2]; omega) e3.symm)
              | (rw [if_neg h49] at e2 e3
                 exact ih _ (by omega) (k + -1) _ _ rfl (by omega) (by omega) (by rw [e2]; omega) (hy.trans e3.symm))
        · refine x_iload dX8_led_36 rfl ?_
          refine x_if_lt (tgt := 73) dX8_led_38 (by decide) (fun h38 => ?_) (fun h38 => ?_)
          · refine x_iload_n dX8_led_73 rfl rfl ?_
            refine x_if_eq (tgt := 82) dX8_led_74 (by decide) (fun h74 => ?_) (fun h74 => ?_)
            · refine x_iload_n dX8_led_82 rfl rfl ?_
              refine x_ireturn rfl dX8_led_83 ?_
              refine hQ _ _ ⟨_, rfl, RD.r hP, fun _ => ?_⟩
              unfold ledAns
              rw [show (v 10 - 1 - k).toNat = (v 10).toNat by omega, show k + 1 = 0 by omega] at hx hy
              first
              | (rw [if_pos h74]; exact hx)
              | (rw [if_neg h74]; exact hy)
            · refine x_iload dX8_led_77 rfl ?_
              refine x_goto (tgt := 83) dX8_led_79 (by decide) ?_
              refine x_ireturn rfl dX8_led_83 ?_
              refine hQ _ _ ⟨_, rfl, RD.r hP, fun _ => ?_⟩
              unfold ledAns
              rw [show (v 10 - 1 - k).toNat = (v 10).toNat by omega, show k + 1 = 0 by omega] at hx hy
              first
              | (rw [if_pos h74]; exact hx)
              | (rw [if_neg h74]; exact hy)
          · omega
    refine x_aload_n dX8_led_0 rfl rfl ?_
    refine x_iconst dX8_led_1 rfl ?_
    refine g_putI (kI := 0) rfl dX8_led_2 fX8_3_8 (by first | assumption | exact hT.2.1) ?_
    refine x_aload_n dX8_led_5 rfl rfl ?_
    refine x_aload_n dX8_led_6 rfl rfl ?_
    refine x_iload_n dX8_led_7 rfl rfl ?_
    refine g_callI (vs := [_, _]) (d' := d - 1) rfl (s_X8_noOp (by omega) hT (by first | exact hw | exact mciI (by omega) hw | exact mciI (by omega) (mciI (by omega) hw) | exact mciI (by omega) (mciI (by omega) (mciI (by omega) hw)) | exact mciI (by omega) (mciI (by omega) (mciI (by omega) (mciI (by omega) hw))) | exact mciC (by omega) hw) (by omega)) dX8_led_8 kX8_433 (by omega) (by decide) rfl (Nat.le_of_ble_eq_true rfl) (rcv_o (by first | assumption | exact hT.2.1) rfl) (fun x8 M8 h8 => ?_)
    obtain ⟨e8, f8⟩ := h8
    have f8' := f8.symm
    subst f8'
    subst e8
    try simp (disch := omega) only [rdI_e, rdI_n, rdC_i, rdC_o, rdW, rdR, rdU_e, rdU_n, rdLW, Int.add_zero, hw]
    refine x_iconst dX8_led_11 rfl ?_
    refine g_callI (vs := [_, _, _]) (d' := d - 1) rfl (s_X8_throwsIf (by omega) hT (by first | omega | exact vP_r _)) dX8_led_12 kX8_280 (by omega) (by decide) rfl (Nat.le_of_ble_eq_true rfl) (rcv_o (by first | assumption | exact hT.2.1) rfl) (fun x12 M12 h12 => ?_)
    obtain ⟨e12, r12, f12⟩ := h12
    refine x_if_eq (tgt := 20) dX8_led_15 (by decide) (fun h15 => ?_) (fun h15 => ?_)
    · first | have f12' := (f12.1 (by omega)).symm | have f12' := (f12.2 (by omega)).symm
      subst f12'
      rw [e12] at h15
      try simp only [vP_0, vP_1, vP_n0, vP_n1, Classical.not_not] at h15
      refine x_iconst dX8_led_20 rfl ?_
      refine x_istore_n (L' := [some _, some _, some _, some _, none, none]) dX8_led_21 rfl (by decide) rfl ?_
      refine x_iconst dX8_led_22 rfl ?_
      refine x_istore (L' := [some _, some _, some _, some _, some _, none]) dX8_led_23 (by decide) rfl ?_
      refine x_aload_n dX8_led_25 rfl rfl ?_
      refine g_getR (kI := 1) rfl dX8_led_26 fX8_13_8 (by first | assumption | exact hT.2.1) (by first | assumption | exact hT.2.1) ?_
      refine x_bipush dX8_led_29 rfl ?_
      refine x_iald dX8_led_31 (by first | assumption | exact hT.2.1) (by omega) (by omega) ?_
      try simp (disch := omega) only [rdI_e, rdI_n, rdC_i, rdC_o, rdW, rdR, rdU_e, rdU_n, rdLW, Int.add_zero, hw]
      refine x_iconst dX8_led_32 rfl ?_
      first | refine x_isubN dX8_led_33 (by unfold i32; omega) ?_ | refine x_isub dX8_led_33 ?_
      refine x_istore (L' := [some _, some _, some _, some _, some _, some _]) dX8_led_34 (by decide) rfl ?_
      refine loop _ (v 10 - 1) 0 (-1) rfl (by omega) (by omega) ?_ ?_
      · rw [show (v 10 - 1 - (v 10 - 1)).toNat = 0 by omega]; rfl
      · rw [show (v 10 - 1 - (v 10 - 1)).toNat = 0 by omega]; rfl
    · rw [e12] at h15
      try simp only [vP_0, vP_1, vP_n0, vP_n1, Classical.not_not] at h15
      omega
  · rw [if_neg hp] at hQ
    refine x_aload_n dX8_led_0 rfl rfl ?_
    refine x_iconst dX8_led_1 rfl ?_
    refine g_putI (kI := 0) rfl dX8_led_2 fX8_3_8 (by first | assumption | exact hT.2.1) ?_
    refine x_aload_n dX8_led_5 rfl rfl ?_
    refine x_aload_n dX8_led_6 rfl rfl ?_
    refine x_iload_n dX8_led_7 rfl rfl ?_
    refine g_callI (vs := [_, _]) (d' := d - 1) rfl (s_X8_noOp (by omega) hT (by first | exact hw | exact mciI (by omega) hw | exact mciI (by omega) (mciI (by omega) hw) | exact mciI (by omega) (mciI (by omega) (mciI (by omega) hw)) | exact mciI (by omega) (mciI (by omega) (mciI (by omega) (mciI (by omega) hw))) | exact mciC (by omega) hw) (by omega)) dX8_led_8 kX8_433 (by omega) (by decide) rfl (Nat.le_of_ble_eq_true rfl) (rcv_o (by first | assumption | exact hT.2.1) rfl) (fun x8 M8 h8 => ?_)
    obtain ⟨e8, f8⟩ := h8
    have f8' := f8.symm
    subst f8'
    subst e8
    try simp (disch := omega) only [rdI_e, rdI_n, rdC_i, rdC_o, rdW, rdR, rdU_e, rdU_n, rdLW, Int.add_zero, hw]
    refine x_iconst dX8_led_11 rfl ?_
    refine g_callI (vs := [_, _, _]) (d' := d - 1) rfl (s_X8_throwsIf (by omega) hT (by first | omega | exact vP_r _)) dX8_led_12 kX8_280 (by omega) (by decide) rfl (Nat.le_of_ble_eq_true rfl) (rcv_o (by first | assumption | exact hT.2.1) rfl) (fun x12 M12 h12 => ?_)
    obtain ⟨e12, r12, f12⟩ := h12
    refine x_if_eq (tgt := 20) dX8_led_15 (by decide) (fun h15 => ?_) (fun h15 => ?_)
    · rw [e12] at h15
      try simp only [vP_0, vP_1, vP_n0, vP_n1, Classical.not_not] at h15
      omega
    · first | have f12' := (f12.1 (by omega)).symm | have f12' := (f12.2 (by omega)).symm
      subst f12'
      rw [e12] at h15
      try simp only [vP_0, vP_1, vP_n0, vP_n1, Classical.not_not] at h15
      refine x_iconst dX8_led_18 rfl ?_
      refine x_ireturn rfl dX8_led_19 ?_
      exact hQ _ _ ⟨_, rfl, RD.t hP, fun q => absurd q hp⟩
theorem s_X8_alike (hd : 13 ≤ d) (hP : TP M m v) : CS G d mX8_alike [dR m] M (postI fun x M1 => RD M m 0 M1 ∧ x = vP (likeG v)) := by
  obtain ⟨hT, hw, hA, hL, hK, hsk⟩ := id hP
  have hT_ := hT; obtain ⟨p0, p1, ⟨c1, c2, c3, c4, c5, c6, c7, c8, c9, c10, c11, c12, c13, c14, c15⟩, ⟨t1, t2, t3, t4, t5, t6, t7, t8, t9, t10, t11, t12, t13, t14, t15⟩⟩ := hT_
  refine CS.mkQ (by decide) (Nat.le_of_ble_eq_true rfl) fun Q hQ => ?_
  refine x_aload_n dX8_alike_0 rfl rfl ?_
  refine x_iconst dX8_alike_1 rfl ?_
  refine g_putI (kI := 0) rfl dX8_alike_2 fX8_3_8 (by first | assumption | exact hT.2.1) ?_
  refine x_aload_n dX8_alike_5 rfl rfl ?_
  refine g_callI (vs := [_]) (d' := d - 1) rfl (s_X8_areAlike (by omega) hT (by first | exact hw | exact mciI (by omega) hw | exact mciI (by omega) (mciI (by omega) hw) | exact mciI (by omega) (mciI (by omega) (mciI (by omega) hw)) | exact mciI (by omega) (mciI (by omega) (mciI (by omega) (mciI (by omega) hw))) | exact mciC (by omega) hw)) dX8_alike_6 kX8_408 (by omega) (by decide) rfl (Nat.le_of_ble_eq_true rfl) (rcv_o (by first | assumption | exact hT.2.1) rfl) (fun x6 M6 h6 => ?_)
  obtain ⟨e6, f6⟩ := h6
  have f6' := f6.symm
  subst f6'
  subst e6
  try simp (disch := omega) only [rdI_e, rdI_n, rdC_i, rdC_o, rdW, rdR, rdU_e, rdU_n, rdLW, Int.add_zero, hw]
  refine x_zreturn (by first | exact Or.inl rfl | exact Or.inr rfl | exact vB_r _ | exact vP_r _ | assumption | omega) rfl dX8_alike_9 ?_
  exact hQ _ _ ⟨_, rfl, RD.r hP, rfl⟩
end X8

