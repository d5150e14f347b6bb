/-! GuestViewModel: small methods -/
/-- the reference lies at m: its cells -/
def TwS (sh : Sh) (cr : Cr) (m : Int) : Prop :=
  0 ≤ m ∧ sh m = some (8, 0) ∧
  (cr m 1 = some (m + 1) ∧ cr m 2 = some (m + 2) ∧ cr m 3 = some (m + 3) ∧ cr m 4 = some (m + 4) ∧ cr m 5 = some (m + 5) ∧ cr m 8 = some (m + 6) ∧ cr m 15 = some (m + 7) ∧ cr m 17 = some (m + 8) ∧ cr m 18 = some (m + 9) ∧ cr m 26 = some (m + 10) ∧ cr m 27 = some (m + 11) ∧ cr m 28 = some (m + 12) ∧ cr m 29 = some (m + 13) ∧ cr m 30 = some (m + 14) ∧ cr m 31 = some (m + 15)) ∧
  (sh (m + 1) = some (100, 2066) ∧ sh (m + 2) = some (100, 1217) ∧ sh (m + 3) = some (100, 1217) ∧ sh (m + 4) = some (100, 368) ∧ sh (m + 5) = some (100, 4416) ∧ sh (m + 6) = some (101, 400) ∧ sh (m + 7) = some (100, 5) ∧ sh (m + 8) = some (100, 8) ∧ sh (m + 9) = some (100, 8) ∧ sh (m + 10) = some (100, 8) ∧ sh (m + 11) = some (102, 8) ∧ sh (m + 12) = some (100, 400) ∧ sh (m + 13) = some (100, 81) ∧ sh (m + 14) = some (100, 256) ∧ sh (m + 15) = some (102, 6))
/-- what computations of the reference may leave behind: a machine's numbers and cells, a pile -/
def scr (m a k : Int) : Prop := (a = m ∧ 19 ≤ k ∧ k ≤ 25) ∨ a = m + 8 ∨ a = m + 9 ∨ a = m + 12
/-- all but the bench and what computations leave behind is as it was -/
def TF (m : Int) (f g : Ci) : Prop := ∀ a k, ¬ a = m + 1 → ¬ scr m a k → g a k = f a k
theorem TF.rfl {m : Int} {f : Ci} : TF m f f := fun _ _ _ _ => _root_.rfl
theorem TF.trans {m : Int} {f g h : Ci} (a : TF m f g) (b : TF m g h) : TF m f h := fun x k q r => (b x k q r).trans (a x k q r)
/-- the same, the bench too -/
def TE (m : Int) (f g : Ci) : Prop := ∀ a k, ¬ scr m a k → g a k = f a k
theorem TE.rfl {m : Int} {f : Ci} : TE m f f := fun _ _ _ => _root_.rfl
theorem TE.trans {m : Int} {f g h : Ci} (a : TE m f g) (b : TE m g h) : TE m f h := fun x k r => (b x k r).trans (a x k r)
theorem TE.tf {m : Int} {f g : Ci} (h : TE m f g) : TF m f g := fun a k _ r => h a k r
theorem TE.w {m : Int} {f g : Ci} {v : Vw} (h : TE m f g) (hw : f (m + 1) = v) : g (m + 1) = v := by
  rw [← hw]
  exact funext fun k => h _ _ (by unfold scr; omega)
section X8
variable {G : GW} {d : Nat} {M : Mem} {m a b c p k i what g n : Int} {v : Vw}
theorem s_X8_in (hd : 10 ≤ d) : CS G d mX8_in [dI a, dI b, dI c] M (pur M (vP (b ≤ a ∧ a ≤ c))) := by
  refine CS.mkQ (by decide) (Nat.le_of_ble_eq_true rfl) fun Q hQ => ?_
  refine x_iload_n dX8_in_0 rfl rfl ?_
  refine x_iload_n dX8_in_1 rfl rfl ?_
  refine x_icmp_lt (tgt := 14) dX8_in_2 (by decide) (fun h2 => ?_) (fun h2 => ?_)
  · refine x_iconst dX8_in_14 rfl ?_
    refine x_zreturn (by first | exact Or.inl rfl | exact Or.inr rfl | exact vB_r _ | exact vP_r _ | assumption | omega) rfl dX8_in_15 ?_
    exact hQ _ _ ⟨_, rfl, (by first | rfl | omega | exact (vP_t (by omega)).symm | exact (vP_f (by omega)).symm), rfl⟩
  · refine x_iload_n dX8_in_5 rfl rfl ?_
    refine x_iload_n dX8_in_6 rfl rfl ?_
    refine x_icmp_gt (tgt := 14) dX8_in_7 (by decide) (fun h7 => ?_) (fun h7 => ?_)
    · refine x_iconst dX8_in_14 rfl ?_
      refine x_zreturn (by first | exact Or.inl rfl | exact Or.inr rfl | exact vB_r _ | exact vP_r _ | assumption | omega) rfl dX8_in_15 ?_
      exact hQ _ _ ⟨_, rfl, (by first | rfl | omega | exact (vP_t (by omega)).symm | exact (vP_f (by omega)).symm), rfl⟩
    · refine x_iconst dX8_in_10 rfl ?_
      refine x_goto (tgt := 15) dX8_in_11 (by decide) ?_
      refine x_zreturn (by first | exact Or.inl rfl | exact Or.inr rfl | exact vB_r _ | exact vP_r _ | assumption | omega) rfl dX8_in_15 ?_
      exact hQ _ _ ⟨_, rfl, (by first | rfl | omega | exact (vP_t (by omega)).symm | exact (vP_f (by omega)).symm), rfl⟩
theorem s_X8_opAt (hd : 10 ≤ d) (hp : 0 ≤ p ∧ p ≤ 1000) (hk : 0 ≤ what ∧ what ≤ 1000) : CS G d mX8_opAt [dI p, dI what] M (pur M (30 + 9 * p + what)) := by
  refine CS.mkQ (by decide) (Nat.le_of_ble_eq_true rfl) fun Q hQ => ?_
  refine x_bipush dX8_opAt_0 rfl ?_
  refine x_bipush dX8_opAt_2 rfl ?_
  refine x_iload_n dX8_opAt_4 rfl rfl ?_
  first | refine x_imulN dX8_opAt_5 (by unfold i32; omega) ?_ | refine x_imul dX8_opAt_5 ?_
  first | refine x_iaddN dX8_opAt_6 (by unfold i32; omega) ?_ | refine x_iadd dX8_opAt_6 ?_
  refine x_iload_n dX8_opAt_7 rfl rfl ?_
  first | refine x_iaddN dX8_opAt_8 (by unfold i32; omega) ?_ | refine x_iadd dX8_opAt_8 ?_
  refine x_ireturn rfl dX8_opAt_9 ?_
  exact hQ _ _ ⟨_, rfl, (by first | rfl | omega | exact (vP_t (by omega)).symm | exact (vP_f (by omega)).symm), rfl⟩
theorem s_X8_guestAt (hd : 10 ≤ d) (hp : 0 ≤ g ∧ g ≤ 1) (hk : 0 ≤ what ∧ what ≤ 1000) : CS G d mX8_guestAt [dI g, dI what] M (pur M (102 + 13 * g + what)) := by
  refine CS.mkQ (by decide) (Nat.le_of_ble_eq_true rfl) fun Q hQ => ?_
  refine x_bipush dX8_guestAt_0 rfl ?_
  refine x_bipush dX8_guestAt_2 rfl ?_
  refine x_iload_n dX8_guestAt_4 rfl rfl ?_
  first | refine x_imulN dX8_guestAt_5 (by unfold i32; omega) ?_ | refine x_imul dX8_guestAt_5 ?_
  first | refine x_iaddN dX8_guestAt_6 (by unfold i32; omega) ?_ | refine x_iadd dX8_guestAt_6 ?_
  refine x_iload_n dX8_guestAt_7 rfl rfl ?_
  first | refine x_iaddN dX8_guestAt_8 (by unfold i32; omega) ?_ | refine x_iadd dX8_guestAt_8 ?_
  refine x_ireturn rfl dX8_guestAt_9 ?_
  exact hQ _ _ ⟨_, rfl, (by first | rfl | omega | exact (vP_t (by omega)).symm | exact (vP_f (by omega)).symm), rfl⟩
theorem s_X8_modeOf (hd : 10 ≤ d) (hk : 0 ≤ k) : CS G d mX8_modeOf [dI k] M (pur M (k / 4 % 2)) := by
  refine CS.mkQ (by decide) (Nat.le_of_ble_eq_true rfl) fun Q hQ => ?_
  refine x_iload_n dX8_modeOf_0 rfl rfl ?_
  refine x_iconst dX8_modeOf_1 rfl ?_
  first | refine x_idivN dX8_modeOf_2 (by omega) (by omega) ?_ | refine x_idiv dX8_modeOf_2 (by omega) ?_
  refine x_iconst dX8_modeOf_3 rfl ?_
  first | refine x_iremN dX8_modeOf_4 (by omega) (by omega) ?_ | refine x_irem dX8_modeOf_4 (by omega) ?_
  refine x_ireturn rfl dX8_modeOf_5 ?_
  exact hQ _ _ ⟨_, rfl, (by first | rfl | omega | exact (vP_t (by omega)).symm | exact (vP_f (by omega)).symm), rfl⟩
theorem s_X8_baseOf (hd : 10 ≤ d) (hk : 0 ≤ k) : CS G d mX8_baseOf [dI k] M (pur M (k / 8 % 4 * 2)) := by
  refine CS.mkQ (by decide) (Nat.le_of_ble_eq_true rfl) fun Q hQ => ?_
  refine x_iconst dX8_baseOf_0 rfl ?_
  refine x_iload_n dX8_baseOf_1 rfl rfl ?_
  refine x_bipush dX8_baseOf_2 rfl ?_
  first | refine x_idivN dX8_baseOf_4 (by omega) (by omega) ?_ | refine x_idiv dX8_baseOf_4 (by omega) ?_
  refine x_iconst dX8_baseOf_5 rfl ?_
  first | refine x_iremN dX8_baseOf_6 (by omega) (by omega) ?_ | refine x_irem dX8_baseOf_6 (by omega) ?_
  first | refine x_imulN dX8_baseOf_7 (by unfold i32; omega) ?_ | refine x_imul dX8_baseOf_7 ?_
  refine x_ireturn rfl dX8_baseOf_8 ?_
  exact hQ _ _ ⟨_, rfl, (by first | rfl | omega | exact (vP_t (by omega)).symm | exact (vP_f (by omega)).symm), rfl⟩
theorem s_X8_hasNumber (hd : 10 ≤ d) : CS G d mX8_hasNumber [dI k] M (pur M (vP (k ≤ 2 ∨ k = 9))) := by
  refine CS.mkQ (by decide) (Nat.le_of_ble_eq_true rfl) fun Q hQ => ?_
  refine x_iload_n dX8_hasNumber_0 rfl rfl ?_
  refine x_iconst dX8_hasNumber_1 rfl ?_
  refine x_icmp_le (tgt := 11) dX8_hasNumber_2 (by decide) (fun h2 => ?_) (fun h2 => ?_)
  · refine x_iconst dX8_hasNumber_11 rfl ?_
    refine x_goto (tgt := 16) dX8_hasNumber_12 (by decide) ?_
    refine x_zreturn (by first | exact Or.inl rfl | exact Or.inr rfl | exact vB_r _ | exact vP_r _ | assumption | omega) rfl dX8_hasNumber_16 ?_
    exact hQ _ _ ⟨_, rfl, (by first | rfl | omega | exact (vP_t (by omega)).symm | exact (vP_f (by omega)).symm), rfl⟩
  · refine x_iload_n dX8_hasNumber_5 rfl rfl ?_
    refine x_bipush dX8_hasNumber_6 rfl ?_
    refine x_icmp_ne (tgt := 15) dX8_hasNumber_8 (by decide) (fun h8 => ?_) (fun h8 => ?_)
    · refine x_iconst dX8_hasNumber_15 rfl ?_
      refine x_zreturn (by first | exact Or.inl rfl | exact Or.inr rfl | exact vB_r _ | exact vP_r _ | assumption | omega) rfl dX8_hasNumber_16 ?_
      exact hQ _ _ ⟨_, rfl, (by first | rfl | omega | exact (vP_t (by omega)).symm | exact (vP_f (by omega)).symm), rfl⟩
    · refine x_iconst dX8_hasNumber_11 rfl ?_
      refine x_goto (tgt := 16) dX8_hasNumber_12 (by decide) ?_
      refine x_zreturn (by first | exact Or.inl rfl | exact Or.inr rfl | exact vB_r _ | exact vP_r _ | assumption | omega) rfl dX8_hasNumber_16 ?_
      exact hQ _ _ ⟨_, rfl, (by first | rfl | omega | exact (vP_t (by omega)).symm | exact (vP_f (by omega)).symm), rfl⟩
theorem s_X8_moreAt (hd : 10 ≤ d) (hp : 0 ≤ p ∧ p ≤ 1000) (hk : 0 ≤ k ∧ k ≤ 1000) : CS G d mX8_moreAt [dI p, dI k] M (pur M (9 * p + k)) := by
  refine CS.mkQ (by decide) (Nat.le_of_ble_eq_true rfl) fun Q hQ => ?_
  refine x_bipush dX8_moreAt_0 rfl ?_
  refine x_iload_n dX8_moreAt_2 rfl rfl ?_
  first | refine x_imulN dX8_moreAt_3 (by unfold i32; omega) ?_ | refine x_imul dX8_moreAt_3 ?_
  refine x_iload_n dX8_moreAt_4 rfl rfl ?_
  first | refine x_iaddN dX8_moreAt_5 (by unfold i32; omega) ?_ | refine x_iadd dX8_moreAt_5 ?_
  refine x_ireturn rfl dX8_moreAt_6 ?_
  exact hQ _ _ ⟨_, rfl, (by first | rfl | omega | exact (vP_t (by omega)).symm | exact (vP_f (by omega)).symm), rfl⟩
theorem s_X8_throwsIf (hd : 10 ≤ d) (hT : TwS (msh M) (mcr M) m) (hb : b = 0 ∨ b = 1) : CS G d mX8_throwsIf [dR m, dI b, dI c] M (postI fun x M1 => x = b ∧ (x = 0 ∨ x = 1) ∧ (x = 0 → M1 = M) ∧ (x = 1 → M1 = mI M m 0 c)) := by
  have hT_ := hT; obtain ⟨p0, p1, ⟨c1, c2, c3, c4, c5, c6, c7, c8, c9, c10, c11, c12, c13, c14, c15⟩, ⟨t1, t2, t3, t4, t5, t6, t7, t8, t9, t10, t11, t12, t13, t14, t15⟩⟩ := hT_
  refine CS.mkQ (by decide) (Nat.le_of_ble_eq_true rfl) fun Q hQ => ?_
  refine x_iload_n dX8_throwsIf_0 rfl rfl ?_
  refine x_if_eq (tgt := 9) dX8_throwsIf_1 (by decide) (fun h1 => ?_) (fun h1 => ?_)
  · refine x_iload_n dX8_throwsIf_9 rfl rfl ?_
    refine x_zreturn (by first | exact Or.inl rfl | exact Or.inr rfl | exact vB_r _ | exact vP_r _ | assumption | omega) rfl dX8_throwsIf_10 ?_
    first
    | exact hQ _ _ ⟨_, rfl, rfl, hb, fun _ => rfl, fun q => by omega⟩
    | exact hQ _ _ ⟨_, rfl, rfl, hb, fun q => by omega, fun _ => rfl⟩
  · refine x_aload_n dX8_throwsIf_4 rfl rfl ?_
    refine x_iload_n dX8_throwsIf_5 rfl rfl ?_
    refine g_putI (kI := 0) rfl dX8_throwsIf_6 fX8_3_8 (by first | assumption | exact hT.2.1) ?_
    refine x_iload_n dX8_throwsIf_9 rfl rfl ?_
    refine x_zreturn (by first | exact Or.inl rfl | exact Or.inr rfl | exact vB_r _ | exact vP_r _ | assumption | omega) rfl dX8_throwsIf_10 ?_
    first
    | exact hQ _ _ ⟨_, rfl, rfl, hb, fun _ => rfl, fun q => by omega⟩
    | exact hQ _ _ ⟨_, rfl, rfl, hb, fun q => by omega, fun _ => rfl⟩
theorem s_X8_ops (hd : 10 ≤ d) (hT : TwS (msh M) (mcr M) m) (hw : mci M (m + 1) = v) : CS G d mX8_ops [dR m] M (pur M (v 0)) := by
  have hT_ := hT; obtain ⟨p0, p1, ⟨c1, c2, c3, c4, c5, c6, c7, c8, c9, c10, c11, c12, c13, c14, c15⟩, ⟨t1, t2, t3, t4, t5, t6, t7, t8, t9, t10, t11, t12, t13, t14, t15⟩⟩ := hT_
  refine CS.mkQ (by decide) (Nat.le_of_ble_eq_true rfl) fun Q hQ => ?_
  refine x_aload_n dX8_ops_0 rfl rfl ?_
  refine g_getR (kI := 1) rfl dX8_ops_1 fX8_13_8 (by first | assumption | exact hT.2.1) (by first | assumption | exact hT.2.1) ?_
  refine x_iconst dX8_ops_4 rfl ?_
  refine x_iald dX8_ops_5 (by first | assumption | exact hT.2.1) (by omega) (by omega) ?_
  try simp (disch := omega) only [rdI_e, rdI_n, rdC_i, rdC_o, rdW, rdR, rdU_e, rdU_n, rdLW, Int.add_zero, hw]
  refine x_ireturn rfl dX8_ops_6 ?_
  exact hQ _ _ ⟨_, rfl, (by first | rfl | omega | exact (vP_t (by omega)).symm | exact (vP_f (by omega)).symm), rfl⟩
theorem s_X8_of (hd : 11 ≤ d) (hT : TwS (msh M) (mcr M) m) (hw : mci M (m + 1) = v) (hp : 0 ≤ p ∧ p < 8) (hk : 0 ≤ what ∧ what < 9) : CS G d mX8_of [dR m, dI p, dI what] M (pur M (v (30 + 9 * p + what))) := by
  have hT_ := hT; obtain ⟨p0, p1, ⟨c1, c2, c3, c4, c5, c6, c7, c8, c9, c10, c11, c12, c13, c14, c15⟩, ⟨t1, t2, t3, t4, t5, t6, t7, t8, t9, t10, t11, t12, t13, t14, t15⟩⟩ := hT_
  refine CS.mkQ (by decide) (Nat.le_of_ble_eq_true rfl) fun Q hQ => ?_
  refine x_aload_n dX8_of_0 rfl rfl ?_
  refine g_getR (kI := 1) rfl dX8_of_1 fX8_13_8 (by first | assumption | exact hT.2.1) (by first | assumption | exact hT.2.1) ?_
  refine x_iload_n dX8_of_4 rfl rfl ?_
  refine x_iload_n dX8_of_5 rfl rfl ?_
  refine g_callI (vs := [_, _]) (d' := d - 1) rfl (s_X8_opAt (by omega) (by omega) (by omega)) dX8_of_6 kX8_74 (by omega) (by decide) rfl (Nat.le_of_ble_eq_true rfl) (rcv_n) (fun x6 M6 h6 => ?_)
  obtain ⟨e6, f6⟩ := h6
  have f6' := f6.symm
  subst f6'
  subst e6
  try simp (disch := omega) only [rdI_e, rdI_n, rdC_i, rdC_o, rdW, rdR, rdU_e, rdU_n, rdLW, Int.add_zero, hw]
  refine x_iald dX8_of_9 (by first | assumption | exact hT.2.1) (by omega) (by omega) ?_
  try simp (disch := omega) only [rdI_e, rdI_n, rdC_i, rdC_o, rdW, rdR, rdU_e, rdU_n, rdLW, Int.add_zero, hw]
  refine x_ireturn rfl dX8_of_10 ?_
  exact hQ _ _ ⟨_, rfl, (by first | rfl | omega | exact (vP_t (by omega)).symm | exact (vP_f (by omega)).symm), rfl⟩
theorem s_X8_kindOf (hd : 12 ≤ d) (hT : TwS (msh M) (mcr M) m) (hw : mci M (m + 1) = v) (hp : 0 ≤ p ∧ p < 8) (hk : 0 ≤ k ∧ k < 3) : CS G d mX8_kindOf [dR m, dI p, dI k] M (pur M (opK v p k)) := by
  refine CS.mkQ (by decide) (Nat.le_of_ble_eq_true rfl) fun Q hQ => ?_
  refine x_aload_n dX8_kindOf_0 rfl rfl ?_
  refine x_iload_n dX8_kindOf_1 rfl rfl ?_
  refine x_iconst dX8_kindOf_2 rfl ?_
  refine x_iconst dX8_kindOf_3 rfl ?_
  refine x_iload_n dX8_kindOf_4 rfl rfl ?_
  first | refine x_imulN dX8_kindOf_5 (by unfold i32; omega) ?_ | refine x_imul dX8_kindOf_5 ?_
  first | refine x_iaddN dX8_kindOf_6 (by unfold i32; omega) ?_ | refine x_iadd dX8_kindOf_6 ?_
  refine g_callI (vs := [_, _, _]) (d' := d - 1) rfl (s_X8_of (by omega) hT (by first | exact hw | exact mciI (by omega) hw | exact mciI (by omega) (mciI (by omega) hw) | exact mciI (by omega) (mciI (by omega) (mciI (by omega) hw)) | exact mciI (by omega) (mciI (by omega) (mciI (by omega) (mciI (by omega) hw))) | exact mciC (by omega) hw) (by omega) (by omega)) dX8_kindOf_7 kX8_78 (by omega) (by decide) rfl (Nat.le_of_ble_eq_true rfl) (rcv_o (by first | assumption | exact hT.2.1) rfl) (fun x7 M7 h7 => ?_)
  obtain ⟨e7, f7⟩ := h7
  have f7' := f7.symm
  subst f7'
  subst e7
  try simp (disch := omega) only [rdI_e, rdI_n, rdC_i, rdC_o, rdW, rdR, rdU_e, rdU_n, rdLW, Int.add_zero]
  refine x_ireturn rfl dX8_kindOf_10 ?_
  exact hQ _ _ ⟨_, rfl, congrArg v (by omega), rfl⟩
theorem s_X8_numberOf (hd : 12 ≤ d) (hT : TwS (msh M) (mcr M) m) (hw : mci M (m + 1) = v) (hp : 0 ≤ p ∧ p < 8) (hk : 0 ≤ k ∧ k < 3) : CS G d mX8_numberOf [dR m, dI p, dI k] M (pur M (opX v p k)) := by
  refine CS.mkQ (by decide) (Nat.le_of_ble_eq_true rfl) fun Q hQ => ?_
  refine x_aload_n dX8_numberOf_0 rfl rfl ?_
  refine x_iload_n dX8_numberOf_1 rfl rfl ?_
  refine x_iconst dX8_numberOf_2 rfl ?_
  refine x_iconst dX8_numberOf_3 rfl ?_
  refine x_iload_n dX8_numberOf_4 rfl rfl ?_
  first | refine x_imulN dX8_numberOf_5 (by unfold i32; omega) ?_ | refine x_imul dX8_numberOf_5 ?_
  first | refine x_iaddN dX8_numberOf_6 (by unfold i32; omega) ?_ | refine x_iadd dX8_numberOf_6 ?_
  refine x_iconst dX8_numberOf_7 rfl ?_
  first | refine x_iaddN dX8_numberOf_8 (by unfold i32; omega) ?_ | refine x_iadd dX8_numberOf_8 ?_
  refine g_callI (vs := [_, _, _]) (d' := d - 1) rfl (s_X8_of (by omega) hT (by first | exact hw | exact mciI (by omega) hw | exact mciI (by omega) (mciI (by omega) hw) | exact mciI (by omega) (mciI (by omega) (mciI (by omega) hw)) | exact mciI (by omega) (mciI (by omega) (mciI (by omega) (mciI (by omega) hw))) | exact mciC (by omega) hw) (by omega) (by omega)) dX8_numberOf_9 kX8_78 (by omega) (by decide) rfl (Nat.le_of_ble_eq_true rfl) (rcv_o (by first | assumption | exact hT.2.1) rfl) (fun x9 M9 h9 => ?_)
  obtain ⟨e9, f9⟩ := h9
  have f9' := f9.symm
  subst f9'
  subst e9
  try simp (disch := omega) only [rdI_e, rdI_n, rdC_i, rdC_o, rdW, rdR, rdU_e, rdU_n, rdLW, Int.add_zero]
  refine x_ireturn rfl dX8_numberOf_12 ?_
  exact hQ _ _ ⟨_, rfl, congrArg v (by omega), rfl⟩
theorem s_X8_ofGuest (hd : 11 ≤ d) (hT : TwS (msh M) (mcr M) m) (hw : mci M (m + 1) = v) (hp : 0 ≤ g ∧ g ≤ 1) (hk : 0 ≤ what ∧ what < 13) : CS G d mX8_ofGuest [dR m, dI g, dI what] M (pur M (v (guA g + what))) := by
  have hT_ := hT; obtain ⟨p0, p1, ⟨c1, c2, c3, c4, c5, c6, c7, c8, c9, c10, c11, c12, c13, c14, c15⟩, ⟨t1, t2, t3, t4, t5, t6, t7, t8, t9, t10, t11, t12, t13, t14, t15⟩⟩ := hT_
  refine CS.mkQ (by decide) (Nat.le_of_ble_eq_true rfl) fun Q hQ => ?_
  refine x_aload_n dX8_ofGuest_0 rfl rfl ?_
  refine g_getR (kI := 1) rfl dX8_ofGuest_1 fX8_13_8 (by first | assumption | exact hT.2.1) (by first | assumption | exact hT.2.1) ?_
  refine x_iload_n dX8_ofGuest_4 rfl rfl ?_
  refine x_iload_n dX8_ofGuest_5 rfl rfl ?_
  refine g_callI (vs := [_, _]) (d' := d - 1) rfl (s_X8_guestAt (by omega) (by omega) (by omega)) dX8_ofGuest_6 kX8_81 (by omega) (by decide) rfl (Nat.le_of_ble_eq_true rfl) (rcv_n) (fun x6 M6 h6 => ?_)
  obtain ⟨e6, f6⟩ := h6
  have f6' := f6.symm
  subst f6'
  subst e6
  try simp (disch := omega) only [rdI_e, rdI_n, rdC_i, rdC_o, rdW, rdR, rdU_e, rdU_n, rdLW, Int.add_zero, hw]
  refine x_iald dX8_ofGuest_9 (by first | assumption | exact hT.2.1) (by omega) (by omega) ?_
  try simp (disch := omega) only [rdI_e, rdI_n, rdC_i, rdC_o, rdW, rdR, rdU_e, rdU_n, rdLW, Int.add_zero, hw]
  refine x_ireturn rfl dX8_ofGuest_10 ?_
  exact hQ _ _ ⟨_, rfl, (by first | rfl | omega | exact (vP_t (by omega)).symm | exact (vP_f (by omega)).symm), rfl⟩
theorem s_X8_isHalted (hd : 12 ≤ d) (hT : TwS (msh M) (mcr M) m) (hw : mci M (m + 1) = v) (hp : 0 ≤ g ∧ g ≤ 1) : CS G d mX8_isHalted [dR m, dI g] M (pur M (vP (v 3 ≤ v (guA g)))) := by
  have hT_ := hT; obtain ⟨p0, p1, ⟨c1, c2, c3, c4, c5, c6, c7, c8, c9, c10, c11, c12, c13, c14, c15⟩, ⟨t1, t2, t3, t4, t5, t6, t7, t8, t9, t10, t11, t12, t13, t14, t15⟩⟩ := hT_
  refine CS.mkQ (by decide) (Nat.le_of_ble_eq_true rfl) fun Q hQ => ?_
  refine x_aload_n dX8_isHalted_0 rfl rfl ?_
  refine x_iload_n dX8_isHalted_1 rfl rfl ?_
  refine x_iconst dX8_isHalted_2 rfl ?_
  refine g_callI (vs := [_, _, _]) (d' := d - 1) rfl (s_X8_ofGuest (by omega) hT (by first | exact hw | exact mciI (by omega) hw | exact mciI (by omega) (mciI (by omega) hw) | exact mciI (by omega) (mciI (by omega) (mciI (by omega) hw)) | exact mciI (by omega) (mciI (by omega) (mciI (by omega) (mciI (by omega) hw))) | exact mciC (by omega) hw) (by omega) (by omega)) dX8_isHalted_3 kX8_384 (by omega) (by decide) rfl (Nat.le_of_ble_eq_true rfl) (rcv_o (by first | assumption | exact hT.2.1) rfl) (fun x3 M3 h3 => ?_)
  obtain ⟨e3, f3⟩ := h3
  have f3' := f3.symm
  subst f3'
  subst e3
  try simp (disch := omega) only [rdI_e, rdI_n, rdC_i, rdC_o, rdW, rdR, rdU_e, rdU_n, rdLW, Int.add_zero, hw]
  refine x_aload_n dX8_isHalted_6 rfl rfl ?_
  refine g_getR (kI := 1) rfl dX8_isHalted_7 fX8_13_8 (by first | assumption | exact hT.2.1) (by first | assumption | exact hT.2.1) ?_
  refine x_iconst dX8_isHalted_10 rfl ?_
  refine x_iald dX8_isHalted_11 (by first | assumption | exact hT.2.1) (by omega) (by omega) ?_
  try simp (disch := omega) only [rdI_e, rdI_n, rdC_i, rdC_o, rdW, rdR, rdU_e, rdU_n, rdLW, Int.add_zero, hw]
  refine x_icmp_lt (tgt := 19) dX8_isHalted_12 (by decide) (fun h12 => ?_) (fun h12 => ?_)
  · refine x_iconst dX8_isHalted_19 rfl ?_
    refine x_zreturn (by first | exact Or.inl rfl | exact Or.inr rfl | exact vB_r _ | exact vP_r _ | assumption | omega) rfl dX8_isHalted_20 ?_
    exact hQ _ _ ⟨_, rfl, (by first | rfl | omega | exact (vP_t (by omega)).symm | exact (vP_f (by omega)).symm), rfl⟩
  · refine x_iconst dX8_isHalted_15 rfl ?_
    refine x_goto (tgt := 20) dX8_isHalted_16 (by decide) ?_
    refine x_zreturn (by first | exact Or.inl rfl | exact Or.inr rfl | exact vB_r _ | exact vP_r _ | assumption | omega) rfl dX8_isHalted_20 ?_
    exact hQ _ _ ⟨_, rfl, (by first | rfl | omega | exact (vP_t (by omega)).symm | exact (vP_f (by omega)).symm), rfl⟩
theorem s_X8_noOp (hd : 11 ≤ d) (hT : TwS (msh M) (mcr M) m) (hw : mci M (m + 1) = v) (h0 : 0 ≤ v 0 ∧ v 0 ≤ 8) : CS G d mX8_noOp [dR m, dI p] M (pur M (vP (¬ (0 ≤ p ∧ p ≤ v 0 - 1)))) := by
  refine CS.mkQ (by decide) (Nat.le_of_ble_eq_true rfl) fun Q hQ => ?_
  refine x_iload_n dX8_noOp_0 rfl rfl ?_
  refine x_iconst dX8_noOp_1 rfl ?_
  refine x_aload_n dX8_noOp_2 rfl rfl ?_
  refine g_callI (vs := [_]) (d' := d - 1) rfl (s_X8_ops (by omega) hT (by first | exact hw | exact mciI (by omega) hw | exact mciI (by omega) (mciI (by omega) hw) | exact mciI (by omega) (mciI (by omega) (mciI (by omega) hw)) | exact mciI (by omega) (mciI (by omega) (mciI (by omega) (mciI (by omega) hw))) | exact mciC (by omega) hw)) dX8_noOp_3 kX8_84 (by omega) (by decide) rfl (Nat.le_of_ble_eq_true rfl) (rcv_o (by first | assumption | exact hT.2.1) rfl) (fun x3 M3 h3 => ?_)
  obtain ⟨e3, f3⟩ := h3
  have f3' := f3.symm
  subst f3'
  subst e3
  try simp (disch := omega) only [rdI_e, rdI_n, rdC_i, rdC_o, rdW, rdR, rdU_e, rdU_n, rdLW, Int.add_zero]
  refine x_iconst dX8_noOp_6 rfl ?_
  first | refine x_isubN dX8_noOp_7 (by unfold i32; omega) ?_ | refine x_isub dX8_noOp_7 ?_
  refine g_callI (vs := [_, _, _]) (d' := d - 1) rfl (s_X8_in (by omega)) dX8_noOp_8 kX8_88 (by omega) (by decide) rfl (Nat.le_of_ble_eq_true rfl) (rcv_n) (fun x8 M8 h8 => ?_)
  obtain ⟨e8, f8⟩ := h8
  have f8' := f8.symm
  subst f8'
  subst e8
  try simp (disch := omega) only [rdI_e, rdI_n, rdC_i, rdC_o, rdW, rdR, rdU_e, rdU_n, rdLW, Int.add_zero]
  refine x_if_ne (tgt := 18) dX8_noOp_11 (by decide) (fun h11 => ?_) (fun h11 => ?_)
  · try simp only [vP_0, vP_1, vP_n0, vP_n1, Classical.not_not] at h11
    refine x_iconst dX8_noOp_18 rfl ?_
    refine x_zreturn (by first | exact Or.inl rfl | exact Or.inr rfl | exact vB_r _ | exact vP_r _ | assumption | omega) rfl dX8_noOp_19 ?_
    exact hQ _ _ ⟨_, rfl, (by first | rfl | omega | exact (vP_t (by omega)).symm | exact (vP_f (by omega)).symm), rfl⟩
  · try simp only [vP_0, vP_1, vP_n0, vP_n1, Classical.not_not] at h11
    refine x_iconst dX8_noOp_14 rfl ?_
    refine x_goto (tgt := 19) dX8_noOp_15 (by decide) ?_
    refine x_zreturn (by first | exact Or.inl rfl | exact Or.inr rfl | exact vB_r _ | exact vP_r _ | assumption | omega) rfl dX8_noOp_19 ?_
    exact hQ _ _ ⟨_, rfl, (by first | rfl | omega | exact (vP_t (by omega)).symm | exact (vP_f (by omega)).symm), rfl⟩
theorem s_X8_noCell (hd : 11 ≤ d) (hT : TwS (msh M) (mcr M) m) : CS G d mX8_noCell [dR m, dI k] M (pur M (vP (¬ (0 ≤ k ∧ k ≤ 7)))) := by
  refine CS.mkQ (by decide) (Nat.le_of_ble_eq_true rfl) fun Q hQ => ?_
  refine x_iload_n dX8_noCell_0 rfl rfl ?_
  refine x_iconst dX8_noCell_1 rfl ?_
  refine x_bipush dX8_noCell_2 rfl ?_
  refine g_callI (vs := [_, _, _]) (d' := d - 1) rfl (s_X8_in (by omega)) dX8_noCell_4 kX8_88 (by omega) (by decide) rfl (Nat.le_of_ble_eq_true rfl) (rcv_n) (fun x4 M4 h4 => ?_)
  obtain ⟨e4, f4⟩ := h4
  have f4' := f4.symm
  subst f4'
  subst e4
  try simp (disch := omega) only [rdI_e, rdI_n, rdC_i, rdC_o, rdW, rdR, rdU_e, rdU_n, rdLW, Int.add_zero]
  refine x_if_ne (tgt := 14) dX8_noCell_7 (by decide) (fun h7 => ?_) (fun h7 => ?_)
  · try simp only [vP_0, vP_1, vP_n0, vP_n1, Classical.not_not] at h7
    refine x_iconst dX8_noCell_14 rfl ?_
    refine x_zreturn (by first | exact Or.inl rfl | exact Or.inr rfl | exact vB_r _ | exact vP_r _ | assumption | omega) rfl dX8_noCell_15 ?_
    exact hQ _ _ ⟨_, rfl, (by first | rfl | omega | exact (vP_t (by omega)).symm | exact (vP_f (by omega)).symm), rfl⟩
  · try simp only [vP_0, vP_1, vP_n0, vP_n1, Classical.not_not] at h7
    refine x_iconst dX8_noCell_10 rfl ?_
    refine x_goto (tgt := 15) dX8_noCell_11 (by decide) ?_
    refine x_zreturn (by first | exact Or.inl rfl | exact Or.inr rfl | exact vB_r _ | exact vP_r _ | assumption | omega) rfl dX8_noCell_15 ?_
    exact hQ _ _ ⟨_, rfl, (by first | rfl | omega | exact (vP_t (by omega)).symm | exact (vP_f (by omega)).symm), rfl⟩
theorem s_X8_noTicks (hd : 11 ≤ d) : CS G d mX8_noTicks [dI k] M (pur M (vP (¬ (0 ≤ k ∧ k ≤ 60)))) := by
  refine CS.mkQ (by decide) (Nat.le_of_ble_eq_true rfl) fun Q hQ => ?_
  refine x_iload_n dX8_noTicks_0 rfl rfl ?_
  refine x_iconst dX8_noTicks_1 rfl ?_
  refine x_bipush dX8_noTicks_2 rfl ?_
  refine g_callI (vs := [_, _, _]) (d' := d - 1) rfl (s_X8_in (by omega)) dX8_noTicks_4 kX8_88 (by omega) (by decide) rfl (Nat.le_of_ble_eq_true rfl) (rcv_n) (fun x4 M4 h4 => ?_)
  obtain ⟨e4, f4⟩ := h4
  have f4' := f4.symm
  subst f4'
  subst e4
  try simp (disch := omega) only [rdI_e, rdI_n, rdC_i, rdC_o, rdW, rdR, rdU_e, rdU_n, rdLW, Int.add_zero]
  refine x_if_ne (tgt := 14) dX8_noTicks_7 (by decide) (fun h7 => ?_) (fun h7 => ?_)
  · try simp only [vP_0, vP_1, vP_n0, vP_n1, Classical.not_not] at h7
    refine x_iconst dX8_noTicks_14 rfl ?_
    refine x_zreturn (by first | exact Or.inl rfl | exact Or.inr rfl | exact vB_r _ | exact vP_r _ | assumption | omega) rfl dX8_noTicks_15 ?_
    exact hQ _ _ ⟨_, rfl, (by first | rfl | omega | exact (vP_t (by omega)).symm | exact (vP_f (by omega)).symm), rfl⟩
  · try simp only [vP_0, vP_1, vP_n0, vP_n1, Classical.not_not] at h7
    refine x_iconst dX8_noTicks_10 rfl ?_
    refine x_goto (tgt := 15) dX8_noTicks_11 (by decide) ?_
    refine x_zreturn (by first | exact Or.inl rfl | exact Or.inr rfl | exact vB_r _ | exact vP_r _ | assumption | omega) rfl dX8_noTicks_15 ?_
    exact hQ _ _ ⟨_, rfl, (by first | rfl | omega | exact (vP_t (by omega)).symm | exact (vP_f (by omega)).symm), rfl⟩
theorem s_X8_ofLog (hd : 11 ≤ d) (hT : TwS (msh M) (mcr M) m) (hw : mci M (m + 1) = v) (hk : 0 ≤ k ∧ k < 60) (hk2 : 0 ≤ what ∧ what < 4) : CS G d mX8_ofLog [dR m, dI k, dI what] M (pur M (v (128 + 4 * k + what))) := by
  have hT_ := hT; obtain ⟨p0, p1, ⟨c1, c2, c3, c4, c5, c6, c7, c8, c9, c10, c11, c12, c13, c14, c15⟩, ⟨t1, t2, t3, t4, t5, t6, t7, t8, t9, t10, t11, t12, t13, t14, t15⟩⟩ := hT_
  refine CS.mkQ (by decide) (Nat.le_of_ble_eq_true rfl) fun Q hQ => ?_
  refine x_aload_n dX8_ofLog_0 rfl rfl ?_
  refine g_getR (kI := 1) rfl dX8_ofLog_1 fX8_13_8 (by first | assumption | exact hT.2.1) (by first | assumption | exact hT.2.1) ?_
  refine x_sipush dX8_ofLog_4 rfl ?_
  refine x_iconst dX8_ofLog_7 rfl ?_
  refine x_iload_n dX8_ofLog_8 rfl rfl ?_
  first | refine x_imulN dX8_ofLog_9 (by unfold i32; omega) ?_ | refine x_imul dX8_ofLog_9 ?_
  first | refine x_iaddN dX8_ofLog_10 (by unfold i32; omega) ?_ | refine x_iadd dX8_ofLog_10 ?_
  refine x_iload_n dX8_ofLog_11 rfl rfl ?_
  first | refine x_iaddN dX8_ofLog_12 (by unfold i32; omega) ?_ | refine x_iadd dX8_ofLog_12 ?_
  refine x_iald dX8_ofLog_13 (by first | assumption | exact hT.2.1) (by omega) (by omega) ?_
  try simp (disch := omega) only [rdI_e, rdI_n, rdC_i, rdC_o, rdW, rdR, rdU_e, rdU_n, rdLW, Int.add_zero, hw]
  refine x_ireturn rfl dX8_ofLog_14 ?_
  exact hQ _ _ ⟨_, rfl, (by first | rfl | omega | exact (vP_t (by omega)).symm | exact (vP_f (by omega)).symm), rfl⟩
theorem s_X8_trapsIn (hd : 12 ≤ d) (hT : TwS (msh M) (mcr M) m) (hw : mci M (m + 1) = v) (hp : 0 ≤ p ∧ p < 8) : CS G d mX8_trapsIn [dR m, dI p, dI k] M (pur M (vP (trapsV v p k))) := by
  have e : opG v p = v (30 + 9 * p + 1) := congrArg v (by omega)
  refine CS.mkQ (by decide) (Nat.le_of_ble_eq_true rfl) fun Q hQ => ?_
  refine x_aload_n dX8_trapsIn_0 rfl rfl ?_
  refine x_iload_n dX8_trapsIn_1 rfl rfl ?_
  refine x_iconst dX8_trapsIn_2 rfl ?_
  refine g_callI (vs := [_, _, _]) (d' := d - 1) rfl (s_X8_of (by omega) hT (by first | exact hw | exact mciI (by omega) hw | exact mciI (by omega) (mciI (by omega) hw) | exact mciI (by omega) (mciI (by omega) (mciI (by omega) hw)) | exact mciI (by omega) (mciI (by omega) (mciI (by omega) (mciI (by omega) hw))) | exact mciC (by omega) hw) (by omega) (by omega)) dX8_trapsIn_3 kX8_78 (by omega) (by decide) rfl (Nat.le_of_ble_eq_true rfl) (rcv_o (by first | assumption | exact hT.2.1) rfl) (fun x3 M3 h3 => ?_)
  obtain ⟨e3, f3⟩ := h3
  have f3' := f3.symm
  subst f3'
  subst e3
  try simp (disch := omega) only [rdI_e, rdI_n, rdC_i, rdC_o, rdW, rdR, rdU_e, rdU_n, rdLW, Int.add_zero]
  refine x_iconst dX8_trapsIn_6 rfl ?_
  refine x_icmp_ne (tgt := 18) dX8_trapsIn_7 (by decide) (fun h7 => ?_) (fun h7 => ?_)
  · refine x_iconst dX8_trapsIn_18 rfl ?_
    refine x_zreturn (by first | exact Or.inl rfl | exact Or.inr rfl | exact vB_r _ | exact vP_r _ | assumption | omega) rfl dX8_trapsIn_19 ?_
    first
    | exact hQ _ _ ⟨_, rfl, (vP_t ⟨by omega, by omega⟩).symm, rfl⟩
    | exact hQ _ _ ⟨_, rfl, (vP_f fun q => by have := q.1; have := q.2; omega).symm, rfl⟩
  · refine x_iload_n dX8_trapsIn_10 rfl rfl ?_
    refine x_if_ne (tgt := 18) dX8_trapsIn_11 (by decide) (fun h11 => ?_) (fun h11 => ?_)
    · refine x_iconst dX8_trapsIn_18 rfl ?_
      refine x_zreturn (by first | exact Or.inl rfl | exact Or.inr rfl | exact vB_r _ | exact vP_r _ | assumption | omega) rfl dX8_trapsIn_19 ?_
      first
      | exact hQ _ _ ⟨_, rfl, (vP_t ⟨by omega, by omega⟩).symm, rfl⟩
      | exact hQ _ _ ⟨_, rfl, (vP_f fun q => by have := q.1; have := q.2; omega).symm, rfl⟩
    · refine x_iconst dX8_trapsIn_14 rfl ?_
      refine x_goto (tgt := 19) dX8_trapsIn_15 (by decide) ?_
      refine x_zreturn (by first | exact Or.inl rfl | exact Or.inr rfl | exact vB_r _ | exact vP_r _ | assumption | omega) rfl dX8_trapsIn_19 ?_
      first
      | exact hQ _ _ ⟨_, rfl, (vP_t ⟨by omega, by omega⟩).symm, rfl⟩
      | exact hQ _ _ ⟨_, rfl, (vP_f fun q => by have := q.1; have := q.2; omega).symm, rfl⟩
theorem s_X8_drawn (hd : 10 ≤ d) (hT : TwS (msh M) (mcr M) m) (hw : mci M (m + 1) = v) (hn : 0 < n) : CS G d mX8_drawn [dR m, dI n] M (postI fun x M1 => x = drawV (seedV (v 11)) % n ∧ M1 = mI M (m + 1) 11 (seedV (v 11))) := by
  have hT_ := hT; obtain ⟨p0, p1, ⟨c1, c2, c3, c4, c5, c6, c7, c8, c9, c10, c11, c12, c13, c14, c15⟩, ⟨t1, t2, t3, t4, t5, t6, t7, t8, t9, t10, t11, t12, t13, t14, t15⟩⟩ := hT_
  have dn : 0 ≤ drawV (seedV (v 11)) := by unfold drawV; omega
  refine CS.mkQ (by decide) (Nat.le_of_ble_eq_true rfl) fun Q hQ => ?_
  refine x_aload_n dX8_drawn_0 rfl rfl ?_
  refine g_getR (kI := 1) rfl dX8_drawn_1 fX8_13_8 (by first | assumption | exact hT.2.1) (by first | assumption | exact hT.2.1) ?_
  refine x_bipush dX8_drawn_4 rfl ?_
  refine x_ldc (z := 1103515245) dX8_drawn_6 q2133 (by decide) ?_
  refine x_aload_n dX8_drawn_8 rfl rfl ?_
  refine g_getR (kI := 1) rfl dX8_drawn_9 fX8_13_8 (by first | assumption | exact hT.2.1) (by first | assumption | exact hT.2.1) ?_
  refine x_bipush dX8_drawn_12 rfl ?_
  refine x_iald dX8_drawn_14 (by first | assumption | exact hT.2.1) (by omega) (by omega) ?_
  try simp (disch := omega) only [rdI_e, rdI_n, rdC_i, rdC_o, rdW, rdR, rdU_e, rdU_n, rdLW, Int.add_zero, hw]
  refine x_imul dX8_drawn_15 ?_
  refine x_sipush dX8_drawn_16 rfl ?_
  refine x_iadd dX8_drawn_19 ?_
  show WP G d _ _ _ (dI (seedV (v 11)) :: _) _ _
  refine x_iast (by omega) dX8_drawn_20 (by first | assumption | exact hT.2.1) (by omega) (by omega) ?_
  refine x_aload_n dX8_drawn_21 rfl rfl ?_
  refine g_getR (kI := 1) rfl dX8_drawn_22 fX8_13_8 (by first | assumption | exact hT.2.1) (by first | assumption | exact hT.2.1) ?_
  refine x_bipush dX8_drawn_25 rfl ?_
  refine x_iald dX8_drawn_27 (by first | assumption | exact hT.2.1) (by omega) (by omega) ?_
  try simp (disch := omega) only [rdI_e, rdI_n, rdC_i, rdC_o, rdW, rdR, rdU_e, rdU_n, rdLW, Int.add_zero, hw]
  refine x_bipush dX8_drawn_28 rfl ?_
  refine x_ishr dX8_drawn_30 ?_
  refine x_sipush dX8_drawn_31 rfl ?_
  refine x_iand dX8_drawn_34 ?_
  refine x_iload_n dX8_drawn_35 rfl rfl ?_
  rw [draw_s (show i32 (seedV (v 11)) from i32_wr _)]
  first | refine x_iremN dX8_drawn_36 (by omega) (by omega) ?_ | refine x_irem dX8_drawn_36 (by omega) ?_
  refine x_ireturn rfl dX8_drawn_37 ?_
  exact hQ _ _ ⟨_, rfl, rfl, rfl⟩
/-- rows copied -/
theorem s_X8_keepsAll (hd : 10 ≤ d) (hT : TwS (msh M) (mcr M) m) : CS G d mX8_keepsAll [dR m] M (postN fun M1 => M1 = mC M (m + 1) 0 (m + 4) 0 368) := by
  have hT_ := hT; obtain ⟨p0, p1, ⟨c1, c2, c3, c4, c5, c6, c7, c8, c9, c10, c11, c12, c13, c14, c15⟩, ⟨t1, t2, t3, t4, t5, t6, t7, t8, t9, t10, t11, t12, t13, t14, t15⟩⟩ := hT_
  refine CS.mkQ (by decide) (Nat.le_of_ble_eq_true rfl) fun Q hQ => ?_
  have loop : ∀ (t : Nat) (k : Int), (368 - k).toNat = t → (0 ≤ k) → (k ≤ 368) → WP G d mX8_keepsAll 2 [some (dR m), some (dI k)] [] (mC M (m + 1) 0 (m + 4) 0 k) Q := by
    intro t
    induction t using Nat.strongRecOn with
    | _ t ih =>
      intro k ht h0 h1
      refine x_iload_n dX8_keepsAll_2 rfl rfl ?_
      refine x_sipush dX8_keepsAll_3 rfl ?_
      refine x_icmp_ge (tgt := 27) dX8_keepsAll_6 (by decide) (fun h6 => ?_) (fun h6 => ?_)
      · refine x_vreturn rfl dX8_keepsAll_27 ?_
        exact hQ _ _ ⟨rfl, by rw [show k = 368 by omega]⟩
      · refine x_aload_n dX8_keepsAll_9 rfl rfl ?_
        refine g_getR (kI := 4) rfl dX8_keepsAll_10 fX8_23_8 (by first | assumption | exact hT.2.1) (by first | assumption | exact hT.2.1) ?_
        refine x_iload_n dX8_keepsAll_13 rfl rfl ?_
        refine x_aload_n dX8_keepsAll_14 rfl rfl ?_
        refine g_getR (kI := 1) rfl dX8_keepsAll_15 fX8_13_8 (by first | assumption | exact hT.2.1) (by first | assumption | exact hT.2.1) ?_
        refine x_iload_n dX8_keepsAll_18 rfl rfl ?_
        refine x_iald dX8_keepsAll_19 (by first | assumption | exact hT.2.1) (by omega) (by omega) ?_
        try simp (disch := omega) only [rdI_e, rdI_n, rdC_i, rdC_o, rdW, rdR, rdU_e, rdU_n, rdLW, Int.add_zero]
        refine x_iast (by omega) dX8_keepsAll_20 (by first | assumption | exact hT.2.1) (by omega) (by omega) ?_
        first | refine x_iincN (L' := [some _, some _]) dX8_keepsAll_21 rfl (by decide) (by unfold i32; omega) rfl ?_ | refine x_iinc (L' := [some _, some _]) dX8_keepsAll_21 rfl (by decide) rfl ?_
        refine x_goto (tgt := 2) dX8_keepsAll_24 (by decide) ?_
        exact WP.mem (mC_s (by omega) (congrArg _ (by omega)) (by omega)) (ih _ (by omega) (k + 1) rfl (by omega) (by omega))
  refine x_iconst dX8_keepsAll_0 rfl ?_
  refine x_istore_n (L' := [some _, some _]) dX8_keepsAll_1 rfl (by decide) rfl ?_
  exact WP.mem mC_0.symm (loop _ 0 rfl (by omega) (by omega))
theorem s_X8_bringsBack (hd : 10 ≤ d) (hT : TwS (msh M) (mcr M) m) : CS G d mX8_bringsBack [dR m] M (postN fun M1 => M1 = mC M (m + 4) 0 (m + 1) 0 368) := by
  have hT_ := hT; obtain ⟨p0, p1, ⟨c1, c2, c3, c4, c5, c6, c7, c8, c9, c10, c11, c12, c13, c14, c15⟩, ⟨t1, t2, t3, t4, t5, t6, t7, t8, t9, t10, t11, t12, t13, t14, t15⟩⟩ := hT_
  refine CS.mkQ (by decide) (Nat.le_of_ble_eq_true rfl) fun Q hQ => ?_
  have loop : ∀ (t : Nat) (k : Int), (368 - k).toNat = t → (0 ≤ k) → (k ≤ 368) → WP G d mX8_bringsBack 2 [some (dR m), some (dI k)] [] (mC M (m + 4) 0 (m + 1) 0 k) Q := by
    intro t
    induction t using Nat.strongRecOn with
    | _ t ih =>
      intro k ht h0 h1
      refine x_iload_n dX8_bringsBack_2 rfl rfl ?_
      refine x_sipush dX8_bringsBack_3 rfl ?_
      refine x_icmp_ge (tgt := 27) dX8_bringsBack_6 (by decide) (fun h6 => ?_) (fun h6 => ?_)
      · refine x_vreturn rfl dX8_bringsBack_27 ?_
        exact hQ _ _ ⟨rfl, by rw [show k = 368 by omega]⟩
      · refine x_aload_n dX8_bringsBack_9 rfl rfl ?_
        refine g_getR (kI := 1) rfl dX8_bringsBack_10 fX8_13_8 (by first | assumption | exact hT.2.1) (by first | assumption | exact hT.2.1) ?_
        refine x_iload_n dX8_bringsBack_13 rfl rfl ?_
        refine x_aload_n dX8_bringsBack_14 rfl rfl ?_
        refine g_getR (kI := 4) rfl dX8_bringsBack_15 fX8_23_8 (by first | assumption | exact hT.2.1) (by first | assumption | exact hT.2.1) ?_
        refine x_iload_n dX8_bringsBack_18 rfl rfl ?_
        refine x_iald dX8_bringsBack_19 (by first | assumption | exact hT.2.1) (by omega) (by omega) ?_
        try simp (disch := omega) only [rdI_e, rdI_n, rdC_i, rdC_o, rdW, rdR, rdU_e, rdU_n, rdLW, Int.add_zero]
        refine x_iast (by omega) dX8_bringsBack_20 (by first | assumption | exact hT.2.1) (by omega) (by omega) ?_
        first | refine x_iincN (L' := [some _, some _]) dX8_bringsBack_21 rfl (by decide) (by unfold i32; omega) rfl ?_ | refine x_iinc (L' := [some _, some _]) dX8_bringsBack_21 rfl (by decide) rfl ?_
        refine x_goto (tgt := 2) dX8_bringsBack_24 (by decide) ?_
        exact WP.mem (mC_s (by omega) (congrArg _ (by omega)) (by omega)) (ih _ (by omega) (k + 1) rfl (by omega) (by omega))
  refine x_iconst dX8_bringsBack_0 rfl ?_
  refine x_istore_n (L' := [some _, some _]) dX8_bringsBack_1 rfl (by decide) rfl ?_
  exact WP.mem mC_0.symm (loop _ 0 rfl (by omega) (by omega))
theorem s_X8_image (hd : 10 ≤ d) (hT : TwS (msh M) (mcr M) m) : CS G d mX8_image [dR m] M (postN fun M1 => M1 = mI (mC (mI M m 0 0) (m + 1) 0 (m + 2) 0 1217) m 6 1) := by
  have hT_ := hT; obtain ⟨p0, p1, ⟨c1, c2, c3, c4, c5, c6, c7, c8, c9, c10, c11, c12, c13, c14, c15⟩, ⟨t1, t2, t3, t4, t5, t6, t7, t8, t9, t10, t11, t12, t13, t14, t15⟩⟩ := hT_
  refine CS.mkQ (by decide) (Nat.le_of_ble_eq_true rfl) fun Q hQ => ?_
  have loop : ∀ (t : Nat) (k : Int), (1217 - k).toNat = t → (0 ≤ k) → (k ≤ 1217) → WP G d mX8_image 7 [some (dR m), some (dI k)] [] (mC (mI M m 0 0) (m + 1) 0 (m + 2) 0 k) Q := by
    intro t
    induction t using Nat.strongRecOn with
    | _ t ih =>
      intro k ht h0 h1
      refine x_iload_n dX8_image_7 rfl rfl ?_
      refine x_sipush dX8_image_8 rfl ?_
      refine x_icmp_ge (tgt := 32) dX8_image_11 (by decide) (fun h11 => ?_) (fun h11 => ?_)
      · refine x_aload_n dX8_image_32 rfl rfl ?_
        refine x_iconst dX8_image_33 rfl ?_
        refine g_putZ (by first | exact Or.inl rfl | exact Or.inr rfl | exact vB_r _ | omega) (kI := 6) rfl dX8_image_34 fX8_67_8 (by first | assumption | exact hT.2.1) ?_
        refine x_vreturn rfl dX8_image_37 ?_
        exact hQ _ _ ⟨rfl, by rw [show k = 1217 by omega]⟩
      · refine x_aload_n dX8_image_14 rfl rfl ?_
        refine g_getR (kI := 2) rfl dX8_image_15 fX8_17_8 (by first | assumption | exact hT.2.1) (by first | assumption | exact hT.2.1) ?_
        refine x_iload_n dX8_image_18 rfl rfl ?_
        refine x_aload_n dX8_image_19 rfl rfl ?_
        refine g_getR (kI := 1) rfl dX8_image_20 fX8_13_8 (by first | assumption | exact hT.2.1) (by first | assumption | exact hT.2.1) ?_
        refine x_iload_n dX8_image_23 rfl rfl ?_
        refine x_iald dX8_image_24 (by first | assumption | exact hT.2.1) (by omega) (by omega) ?_
        try simp (disch := omega) only [rdI_e, rdI_n, rdC_i, rdC_o, rdW, rdR, rdU_e, rdU_n, rdLW, Int.add_zero]
        refine x_iast (by omega) dX8_image_25 (by first | assumption | exact hT.2.1) (by omega) (by omega) ?_
        first | refine x_iincN (L' := [some _, some _]) dX8_image_26 rfl (by decide) (by unfold i32; omega) rfl ?_ | refine x_iinc (L' := [some _, some _]) dX8_image_26 rfl (by decide) rfl ?_
        refine x_goto (tgt := 7) dX8_image_29 (by decide) ?_
        exact WP.mem (mC_s (by omega) ((rdI_n (by omega)).symm.trans (congrArg _ (by omega))) (by omega)) (ih _ (by omega) (k + 1) rfl (by omega) (by omega))
  refine x_aload_n dX8_image_0 rfl rfl ?_
  refine x_iconst dX8_image_1 rfl ?_
  refine g_putI (kI := 0) rfl dX8_image_2 fX8_3_8 (by first | assumption | exact hT.2.1) ?_
  refine x_iconst dX8_image_5 rfl ?_
  refine x_istore_n (L' := [some _, some _]) dX8_image_6 rfl (by decide) rfl ?_
  exact WP.mem mC_0.symm (loop _ 0 rfl (by omega) (by omega))
theorem s_X8_back_0 (hd : 10 ≤ d) (hT : TwS (msh M) (mcr M) m) (h6 : mci M m 6 = 0) : CS G d mX8_back [dR m] M (postI fun x M1 => x = 0 ∧ M1 = mI M m 0 0) := by
  have hT_ := hT; obtain ⟨p0, p1, ⟨c1, c2, c3, c4, c5, c6, c7, c8, c9, c10, c11, c12, c13, c14, c15⟩, ⟨t1, t2, t3, t4, t5, t6, t7, t8, t9, t10, t11, t12, t13, t14, t15⟩⟩ := hT_
  refine CS.mkQ (by decide) (Nat.le_of_ble_eq_true rfl) fun Q hQ => ?_
  refine x_aload_n dX8_back_0 rfl rfl ?_
  refine x_iconst dX8_back_1 rfl ?_
  refine g_putI (kI := 0) rfl dX8_back_2 fX8_3_8 (by first | assumption | exact hT.2.1) ?_
  refine x_aload_n dX8_back_5 rfl rfl ?_
  refine g_getZ (kI := 6) rfl dX8_back_6 fX8_67_8 (by first | assumption | exact hT.2.1) ?_
  try simp (disch := omega) only [rdI_e, rdI_n, rdC_i, rdC_o, rdW, rdR, rdU_e, rdU_n, rdLW, Int.add_zero, h6]
  refine x_if_ne (tgt := 14) dX8_back_9 (by decide) (fun h9 => ?_) (fun h9 => ?_)
  · exact absurd rfl h9
  · refine x_iconst dX8_back_12 rfl ?_
    refine x_zreturn (by first | exact Or.inl rfl | exact Or.inr rfl | exact vB_r _ | exact vP_r _ | assumption | omega) rfl dX8_back_13 ?_
    exact hQ _ _ ⟨_, rfl, rfl, rfl⟩
theorem s_X8_back_1 (hd : 10 ≤ d) (hT : TwS (msh M) (mcr M) m) (h6 : mci M m 6 = 1) : CS G d mX8_back [dR m] M (postI fun x M1 => x = 1 ∧ M1 = mI (mC (mI M m 0 0) (m + 2) 0 (m + 1) 0 1217) m 7 0) := by
  have hT_ := hT; obtain ⟨p0, p1, ⟨c1, c2, c3, c4, c5, c6, c7, c8, c9, c10, c11, c12, c13, c14, c15⟩, ⟨t1, t2, t3, t4, t5, t6, t7, t8, t9, t10, t11, t12, t13, t14, t15⟩⟩ := hT_
  refine CS.mkQ (by decide) (Nat.le_of_ble_eq_true rfl) fun Q hQ => ?_
  have loop : ∀ (t : Nat) (k : Int), (1217 - k).toNat = t → (0 ≤ k) → (k ≤ 1217) → WP G d mX8_back 16 [some (dR m), some (dI k)] [] (mC (mI M m 0 0) (m + 2) 0 (m + 1) 0 k) Q := by
    intro t
    induction t using Nat.strongRecOn with
    | _ t ih =>
      intro k ht h0 h1
      refine x_iload_n dX8_back_16 rfl rfl ?_
      refine x_sipush dX8_back_17 rfl ?_
      refine x_icmp_ge (tgt := 41) dX8_back_20 (by decide) (fun h20 => ?_) (fun h20 => ?_)
      · refine x_aload_n dX8_back_41 rfl rfl ?_
        refine x_iconst dX8_back_42 rfl ?_
        refine g_putI (kI := 7) rfl dX8_back_43 fX8_71_8 (by first | assumption | exact hT.2.1) ?_
        refine x_iconst dX8_back_46 rfl ?_
        refine x_zreturn (by first | exact Or.inl rfl | exact Or.inr rfl | exact vB_r _ | exact vP_r _ | assumption | omega) rfl dX8_back_47 ?_
        exact hQ _ _ ⟨_, rfl, rfl, by rw [show k = 1217 by omega]⟩
      · refine x_aload_n dX8_back_23 rfl rfl ?_
        refine g_getR (kI := 1) rfl dX8_back_24 fX8_13_8 (by first | assumption | exact hT.2.1) (by first | assumption | exact hT.2.1) ?_
        refine x_iload_n dX8_back_27 rfl rfl ?_
        refine x_aload_n dX8_back_28 rfl rfl ?_
        refine g_getR (kI := 2) rfl dX8_back_29 fX8_17_8 (by first | assumption | exact hT.2.1) (by first | assumption | exact hT.2.1) ?_
        refine x_iload_n dX8_back_32 rfl rfl ?_
        refine x_iald dX8_back_33 (by first | assumption | exact hT.2.1) (by omega) (by omega) ?_
        try simp (disch := omega) only [rdI_e, rdI_n, rdC_i, rdC_o, rdW, rdR, rdU_e, rdU_n, rdLW, Int.add_zero]
        refine x_iast (by omega) dX8_back_34 (by first | assumption | exact hT.2.1) (by omega) (by omega) ?_
        first | refine x_iincN (L' := [some _, some _]) dX8_back_35 rfl (by decide) (by unfold i32; omega) rfl ?_ | refine x_iinc (L' := [some _, some _]) dX8_back_35 rfl (by decide) rfl ?_
        refine x_goto (tgt := 16) dX8_back_38 (by decide) ?_
        exact WP.mem (mC_s (by omega) ((rdI_n (by omega)).symm.trans (congrArg _ (by omega))) (by omega)) (ih _ (by omega) (k + 1) rfl (by omega) (by omega))
  refine x_aload_n dX8_back_0 rfl rfl ?_
  refine x_iconst dX8_back_1 rfl ?_
  refine g_putI (kI := 0) rfl dX8_back_2 fX8_3_8 (by first | assumption | exact hT.2.1) ?_
  refine x_aload_n dX8_back_5 rfl rfl ?_
  refine g_getZ (kI := 6) rfl dX8_back_6 fX8_67_8 (by first | assumption | exact hT.2.1) ?_
  try simp (disch := omega) only [rdI_e, rdI_n, rdC_i, rdC_o, rdW, rdR, rdU_e, rdU_n, rdLW, Int.add_zero, h6]
  refine x_if_ne (tgt := 14) dX8_back_9 (by decide) (fun h9 => ?_) (fun h9 => ?_)
  · refine x_iconst dX8_back_14 rfl ?_
    refine x_istore_n (L' := [some _, some _]) dX8_back_15 rfl (by decide) rfl ?_
    exact WP.mem mC_0.symm (loop _ 0 rfl (by omega) (by omega))
  · exact absurd h9 (by decide)
end X8

