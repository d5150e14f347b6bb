/-! GuestViewModel: done, count, the tape -/
section X8
variable {G : GW} {d : Nat} {M : Mem} {m a b c p k i what n st pc op hi sz fa : Int} {v vi : Vw} {A : Int → Vw} {tp : Int → Int}
theorem s_X8_done (hd : 15 ≤ d) (hP : TP M m v) : CS G d mX8_done [dR m, dI p, dI st, dI what] M (postI fun x M1 => RD M m (if 0 ≤ p ∧ p < v 0 then (if 0 ≤ st ∧ st ≤ 511 then (if 0 ≤ what ∧ what ≤ 12 then 0 else 3) else 2) else 1) M1 ∧ ((0 ≤ p ∧ p < v 0) ∧ (0 ≤ st ∧ st ≤ 511) ∧ 0 ≤ what ∧ what ≤ 12 → x = doneAns v p st what)) := by
  obtain ⟨hT, hw, hA, hL, hK, hsk⟩ := id hP
  have hv := hA.1
  have hv0 := hv.1
  have hv8 := hv.n8
  have hT_ := hT; obtain ⟨p0, p1, ⟨c1, c2, c3, c4, c5, c6, c7, c8, c9, c10, c11, c12, c13, c14, c15⟩, ⟨t1, t2, t3, t4, t5, t6, t7, t8, t9, t10, t11, t12, t13, t14, t15⟩⟩ := hT_
  refine CS.mkQ (by decide) (Nat.le_of_ble_eq_true rfl) fun Q hQ => ?_
  refine x_aload_n dX8_done_0 rfl rfl ?_
  refine x_iconst dX8_done_1 rfl ?_
  refine g_putI (kI := 0) rfl dX8_done_2 fX8_3_8 (by first | assumption | exact hT.2.1) ?_
  obtain ⟨hT, hw, hA, hL, hK, hsk⟩ := TP.z (x := 0) hP
  refine x_aload_n dX8_done_5 rfl rfl ?_
  refine x_aload_n dX8_done_6 rfl rfl ?_
  refine x_iload_n dX8_done_7 rfl rfl ?_
  refine g_callI (vs := [_, _]) (d' := d - 1) rfl (s_X8_noOp (by omega) hT (by first | exact hw | exact mciI (by omega) hw | exact mciI (by omega) (mciI (by omega) hw) | exact mciI (by omega) (mciI (by omega) (mciI (by omega) hw)) | exact mciI (by omega) (mciI (by omega) (mciI (by omega) (mciI (by omega) hw))) | exact mciC (by omega) hw) (by omega)) dX8_done_8 kX8_433 (by omega) (by decide) rfl (Nat.le_of_ble_eq_true rfl) (rcv_o (by first | assumption | exact hT.2.1) rfl) (fun x8 M8 h8 => ?_)
  obtain ⟨e8, f8⟩ := h8
  have f8' := f8.symm
  subst f8'
  subst e8
  refine x_iconst dX8_done_11 rfl ?_
  refine g_callI (vs := [_, _, _]) (d' := d - 1) rfl (s_X8_throwsIf (by omega) hT (by first | omega | exact vP_r _)) dX8_done_12 kX8_280 (by omega) (by decide) rfl (Nat.le_of_ble_eq_true rfl) (rcv_o (by first | assumption | exact hT.2.1) rfl) (fun x12 M12 h12 => ?_)
  obtain ⟨e12, r12, f12⟩ := h12
  refine x_if_ne (tgt := 65) dX8_done_15 (by decide) (fun h15 => ?_) (fun h15 => ?_)
  · first | have f12' := (f12.1 (by omega)).symm | have f12' := (f12.2 (by omega)).symm
    subst f12'
    rw [e12] at h15
    try simp only [vP_0, vP_1, vP_n0, vP_n1, Classical.not_not] at h15
    refine x_iconst dX8_done_65 rfl ?_
    refine x_ireturn rfl dX8_done_66 ?_
    first
    | exact hQ _ _ ⟨_, rfl, by rw [if_neg (by omega)]; exact RD.t hP, fun q => by omega⟩
    | exact hQ _ _ ⟨_, rfl, by rw [if_pos (by omega), if_neg (by omega)]; exact RD.t hP, fun q => by omega⟩
    | exact hQ _ _ ⟨_, rfl, by rw [if_pos (by omega), if_pos (by omega), if_neg (by omega)]; exact RD.t hP, fun q => by omega⟩
  · first | have f12' := (f12.1 (by omega)).symm | have f12' := (f12.2 (by omega)).symm
    subst f12'
    rw [e12] at h15
    try simp only [vP_0, vP_1, vP_n0, vP_n1, Classical.not_not] at h15
    refine x_aload_n dX8_done_18 rfl rfl ?_
    refine x_iload_n dX8_done_19 rfl rfl ?_
    refine x_iconst dX8_done_20 rfl ?_
    refine x_sipush dX8_done_21 rfl ?_
    refine g_callI (vs := [_, _, _]) (d' := d - 1) rfl (s_X8_in (by omega)) dX8_done_24 kX8_88 (by omega) (by decide) rfl (Nat.le_of_ble_eq_true rfl) (rcv_n) (fun x24 M24 h24 => ?_)
    obtain ⟨e24, f24⟩ := h24
    have f24' := f24.symm
    subst f24'
    subst e24
    refine x_if_ne (tgt := 34) dX8_done_27 (by decide) (fun h27 => ?_) (fun h27 => ?_)
    · try simp only [vP_0, vP_1, vP_n0, vP_n1, Classical.not_not] at h27
      refine x_iconst dX8_done_34 rfl ?_
      refine x_iconst dX8_done_35 rfl ?_
      refine g_callI (vs := [_, _, _]) (d' := d - 1) rfl (s_X8_throwsIf (by omega) hT (by first | omega | exact vP_r _)) dX8_done_36 kX8_280 (by omega) (by decide) rfl (Nat.le_of_ble_eq_true rfl) (rcv_o (by first | assumption | exact hT.2.1) rfl) (fun x36 M36 h36 => ?_)
      obtain ⟨e36, r36, f36⟩ := h36
      have f36' := (f36.1 (by omega)).symm
      subst f36'
      subst e36
      refine x_if_ne (tgt := 65) dX8_done_39 (by decide) (fun h39 => ?_) (fun h39 => ?_)
      · exact absurd h39 (by decide)
      · try simp only [vP_0, vP_1, vP_n0, vP_n1, Classical.not_not] at h39
        refine x_aload_n dX8_done_42 rfl rfl ?_
        refine x_iload_n dX8_done_43 rfl rfl ?_
        refine x_iconst dX8_done_44 rfl ?_
        refine x_bipush dX8_done_45 rfl ?_
        refine g_callI (vs := [_, _, _]) (d' := d - 1) rfl (s_X8_in (by omega)) dX8_done_47 kX8_88 (by omega) (by decide) rfl (Nat.le_of_ble_eq_true rfl) (rcv_n) (fun x47 M47 h47 => ?_)
        obtain ⟨e47, f47⟩ := h47
        have f47' := f47.symm
        subst f47'
        subst e47
        refine x_if_ne (tgt := 57) dX8_done_50 (by decide) (fun h50 => ?_) (fun h50 => ?_)
        · try simp only [vP_0, vP_1, vP_n0, vP_n1, Classical.not_not] at h50
          refine x_iconst dX8_done_57 rfl ?_
          refine x_iconst dX8_done_58 rfl ?_
          refine g_callI (vs := [_, _, _]) (d' := d - 1) rfl (s_X8_throwsIf (by omega) hT (by first | omega | exact vP_r _)) dX8_done_59 kX8_280 (by omega) (by decide) rfl (Nat.le_of_ble_eq_true rfl) (rcv_o (by first | assumption | exact hT.2.1) rfl) (fun x59 M59 h59 => ?_)
          obtain ⟨e59, r59, f59⟩ := h59
          have f59' := (f59.1 (by omega)).symm
          subst f59'
          subst e59
          refine x_if_eq (tgt := 67) dX8_done_62 (by decide) (fun h62 => ?_) (fun h62 => ?_)
          · try simp only [vP_0, vP_1, vP_n0, vP_n1, Classical.not_not] at h62
            have hop := hv.op p (by omega) (by omega)
            have hst : 0 ≤ st ∧ st < 512 := by omega
            have eA : doneAns v p st what = (if opG v p = 1 ∧ st / 4 % 2 = 0 then (if what = 0 then 1 else -1) else if what = 0 then 0 else if what = 1 then (opD v p (stM st)).1 else if what = 2 then (opD v p (stM st)).2.1 else if what = 3 then (opD v p (stM st)).2.2.1 else if what = 4 then (opD v p (stM st)).2.2.2.2.1 else (opD v p (stM st)).2.2.2.2.2 (what - 5)) := rfl
            refine x_aload_n dX8_done_67 rfl rfl ?_
            refine x_iload_n dX8_done_68 rfl rfl ?_
            refine x_iload_n dX8_done_69 rfl rfl ?_
            refine g_callI (vs := [_]) (d' := d - 1) rfl (s_X8_modeOf (by omega) (by omega)) dX8_done_70 kX8_311 (by omega) (by decide) rfl (Nat.le_of_ble_eq_true rfl) (rcv_n) (fun x70 M70 h70 => ?_)
            obtain ⟨e70, f70⟩ := h70
            have f70' := f70.symm
            subst f70'
            subst e70
            refine g_callI (vs := [_, _, _]) (d' := d - 1) rfl (s_X8_trapsIn (by omega) hT (by first | exact hw | exact mciI (by omega) hw | exact mciI (by omega) (mciI (by omega) hw) | exact mciI (by omega) (mciI (by omega) (mciI (by omega) hw)) | exact mciI (by omega) (mciI (by omega) (mciI (by omega) (mciI (by omega) hw))) | exact mciC (by omega) hw) (by omega)) dX8_done_73 kX8_318 (by omega) (by decide) rfl (Nat.le_of_ble_eq_true rfl) (rcv_o (by first | assumption | exact hT.2.1) rfl) (fun x73 M73 h73 => ?_)
            obtain ⟨e73, f73⟩ := h73
            have f73' := f73.symm
            subst f73'
            subst e73
            refine x_istore (L' := [some _, some _, some _, some _, some _]) dX8_done_76 (by decide) rfl ?_
            refine x_iload_n dX8_done_78 rfl rfl ?_
            refine x_if_eq (tgt := 87) dX8_done_79 (by decide) (fun h79 => ?_) (fun h79 => ?_)
            · refine x_iload_n dX8_done_87 rfl rfl ?_
              refine x_if_le (tgt := 95) dX8_done_88 (by decide) (fun h88 => ?_) (fun h88 => ?_)
              · refine x_iload dX8_done_95 rfl ?_
                refine x_if_eq (tgt := 104) dX8_done_97 (by decide) (fun h97 => ?_) (fun h97 => ?_)
                · try simp only [vP_0, vP_1, vP_n0, vP_n1, Classical.not_not] at h97
                  refine x_iconst dX8_done_104 rfl ?_
                  refine x_ireturn rfl dX8_done_105 ?_
                  refine hQ _ _ ⟨_, rfl, by rw [if_pos (by omega), if_pos (by omega), if_pos (by omega)]; exact RD.r hP, fun q => ?_⟩
                  rw [eA]
                  first
                  | omega
                  | (rw [if_pos (show opG v p = 1 ∧ st / 4 % 2 = 0 from h84), if_neg (by omega)])
                  | (rw [if_pos (show opG v p = 1 ∧ st / 4 % 2 = 0 from h97), if_pos (by omega)])
                  | (rw [if_neg (show ¬ (opG v p = 1 ∧ st / 4 % 2 = 0) from h97), if_pos (by omega)])
                · try simp only [vP_0, vP_1, vP_n0, vP_n1, Classical.not_not] at h97
                  refine x_iconst dX8_done_100 rfl ?_
                  refine x_goto (tgt := 105) dX8_done_101 (by decide) ?_
                  refine x_ireturn rfl dX8_done_105 ?_
                  refine hQ _ _ ⟨_, rfl, by rw [if_pos (by omega), if_pos (by omega), if_pos (by omega)]; exact RD.r hP, fun q => ?_⟩
                  rw [eA]
                  first
                  | omega
                  | (rw [if_pos (show opG v p = 1 ∧ st / 4 % 2 = 0 from h84), if_neg (by omega)])
                  | (rw [if_pos (show opG v p = 1 ∧ st / 4 % 2 = 0 from h97), if_pos (by omega)])
                  | (rw [if_neg (show ¬ (opG v p = 1 ∧ st / 4 % 2 = 0) from h97), if_pos (by omega)])
              · refine x_iconst dX8_done_91 rfl ?_
                refine x_goto (tgt := 105) dX8_done_92 (by decide) ?_
                refine x_ireturn rfl dX8_done_105 ?_
                refine hQ _ _ ⟨_, rfl, by rw [if_pos (by omega), if_pos (by omega), if_pos (by omega)]; exact RD.r hP, fun q => ?_⟩
                rw [eA]
                first
                | omega
                | (rw [if_pos (show opG v p = 1 ∧ st / 4 % 2 = 0 from h84), if_neg (by omega)])
                | (rw [if_pos (show opG v p = 1 ∧ st / 4 % 2 = 0 from h97), if_pos (by omega)])
                | (rw [if_neg (show ¬ (opG v p = 1 ∧ st / 4 % 2 = 0) from h97), if_pos (by omega)])
            · refine x_iload dX8_done_82 rfl ?_
              refine x_if_eq (tgt := 106) dX8_done_84 (by decide) (fun h84 => ?_) (fun h84 => ?_)
              · try simp only [vP_0, vP_1, vP_n0, vP_n1, Classical.not_not] at h84
                refine x_aload_n dX8_done_106 rfl rfl ?_
                refine x_iload_n dX8_done_107 rfl rfl ?_
                refine g_callN (vs := [_, _]) (d' := d - 1) rfl (s_X8_isNow (M := mI M m 0 0) (by omega) hT hst) dX8_done_108 kX8_321 (by omega) (by decide) rfl (Nat.le_of_ble_eq_true rfl) (rcv_o (by first | assumption | exact hT.2.1) rfl) (fun M108 h108 => ?_)
                obtain ⟨g108, hM108, r108, q108⟩ := h108
                subst hM108
                have hok : okM (mvT g108 m) := by rw [r108]; exact tabM_ok (by omega) (by omega) (by omega) hsk
                have hw1 : g108 (m + 1) = v := TA.w q108 hw
                refine x_aload_n dX8_done_111 rfl rfl ?_
                refine x_iload_n dX8_done_112 rfl rfl ?_
                refine g_callN (vs := [_, _]) (d' := d - 1) rfl (s_X8_does (M := wI (mI M m 0 0) g108) (by omega) hT hw1 hok hop (by omega)) dX8_done_113 kX8_325 (by omega) (by decide) rfl (Nat.le_of_ble_eq_true rfl) (rcv_o (by first | assumption | exact hT.2.1) rfl) (fun M113 h113 => ?_)
                obtain ⟨g113, hM113, r113, q113⟩ := h113
                subst hM113
                have r2 : mvT g113 m = opD v p (stM st) := r113.trans (by rw [mci_wI, r108]; rfl)
                have ok2 : okM (opD v p (stM st)) := opD_ok hop (tabM_ok (by omega) (by omega) (by omega) (Or.inl rfl))
                have hz : sk01 g113 m := by
                  unfold sk01
                  rw [show g113 m 23 = (mvT g113 m).2.2.2.2.1 from rfl, r2]
                  exact ok2.2.2.2.2.1
                have hR : RD M m 0 (wI (mI M m 0 0) g113) := RD.mk (g := g113) (l := mcl M) (TQ.trans q108.tq q113.tq) TM.rfl ((hK.te q108.te).te q113.te) hz
                have hskk := ok2.2.2.2.2.1
                refine x_iload_n dX8_done_116 rfl rfl ?_
                rcases (show what = 1 ∨ what = 2 ∨ what = 3 ∨ what = 4 ∨ (what < 1 ∨ 4 < what) by omega) with hs117 | hs117 | hs117 | hs117 | hs117
                · refine x_tab_in (tgt := 148) (off := 31) dX8_done_117 (by omega) (by omega) (by rw [hs117]; rfl) (by decide) ?_
                  refine x_aload_n dX8_done_148 rfl rfl ?_
                  refine g_getI (kI := 19) rfl dX8_done_149 fX8_286_8 (by first | assumption | exact hT.2.1) ?_
                  refine x_ireturn rfl dX8_done_152 ?_
                  refine hQ _ _ ⟨_, rfl, by rw [if_pos (by omega), if_pos (by omega), if_pos (by omega)]; exact hR, fun q => ?_⟩
                  rw [eA, if_neg (show ¬ (opG v p = 1 ∧ st / 4 % 2 = 0) from h84), if_neg (by omega)]
                  first
                  | (rw [if_pos (by omega)]; exact congrArg (fun y : Ms => y.1) r2)
                  | (rw [if_neg (by omega), if_pos (by omega)]; exact congrArg (fun y : Ms => y.2.1) r2)
                  | (rw [if_neg (by omega), if_neg (by omega), if_pos (by omega)]; exact congrArg (fun y : Ms => y.2.2.1) r2)
                  | (rw [if_neg (by omega), if_neg (by omega), if_neg (by omega), if_pos (by omega)]
                     have e23 : g113 m 23 = (opD v p (stM st)).2.2.2.2.1 := congrArg (fun y : Ms => y.2.2.2.2.1) r2
                     have h167' : ¬ g113 m 23 = 0 ∨ g113 m 23 = 0 := by omega
                     first
                     | (have : ¬ g113 m 23 = 0 := h167
                        omega)
                     | (have : g113 m 23 = 0 := h167
                        omega))
                  | (rw [if_neg (by omega), if_neg (by omega), if_neg (by omega), if_neg (by omega)]
                     have e8 : g113 (m + 8) ((what - 5) % 8) = (opD v p (stM st)).2.2.2.2.2 (what - 5) := congrFun (congrArg (fun y : Ms => y.2.2.2.2.2) r2) (what - 5)
                     rw [show (what - 5) % 8 = what - 5 by omega] at e8
                     exact e8)
                · refine x_tab_in (tgt := 153) (off := 36) dX8_done_117 (by omega) (by omega) (by rw [hs117]; rfl) (by decide) ?_
                  refine x_aload_n dX8_done_153 rfl rfl ?_
                  refine g_getI (kI := 20) rfl dX8_done_154 fX8_289_8 (by first | assumption | exact hT.2.1) ?_
                  refine x_ireturn rfl dX8_done_157 ?_
                  refine hQ _ _ ⟨_, rfl, by rw [if_pos (by omega), if_pos (by omega), if_pos (by omega)]; exact hR, fun q => ?_⟩
                  rw [eA, if_neg (show ¬ (opG v p = 1 ∧ st / 4 % 2 = 0) from h84), if_neg (by omega)]
                  first
                  | (rw [if_pos (by omega)]; exact congrArg (fun y : Ms => y.1) r2)
                  | (rw [if_neg (by omega), if_pos (by omega)]; exact congrArg (fun y : Ms => y.2.1) r2)
                  | (rw [if_neg (by omega), if_neg (by omega), if_pos (by omega)]; exact congrArg (fun y : Ms => y.2.2.1) r2)
                  | (rw [if_neg (by omega), if_neg (by omega), if_neg (by omega), if_pos (by omega)]
                     have e23 : g113 m 23 = (opD v p (stM st)).2.2.2.2.1 := congrArg (fun y : Ms => y.2.2.2.2.1) r2
                     have h167' : ¬ g113 m 23 = 0 ∨ g113 m 23 = 0 := by omega
                     first
                     | (have : ¬ g113 m 23 = 0 := h167
                        omega)
                     | (have : g113 m 23 = 0 := h167
                        omega))
                  | (rw [if_neg (by omega), if_neg (by omega), if_neg (by omega), if_neg (by omega)]
                     have e8 : g113 (m + 8) ((what - 5) % 8) = (opD v p (stM st)).2.2.2.2.2 (what - 5) := congrFun (congrArg (fun y : Ms => y.2.2.2.2.2) r2) (what - 5)
                     rw [show (what - 5) % 8 = what - 5 by omega] at e8
                     exact e8)
                · refine x_tab_in (tgt := 158) (off := 41) dX8_done_117 (by omega) (by omega) (by rw [hs117]; rfl) (by decide) ?_
                  refine x_aload_n dX8_done_158 rfl rfl ?_
                  refine g_getI (kI := 21) rfl dX8_done_159 fX8_283_8 (by first | assumption | exact hT.2.1) ?_
                  refine x_ireturn rfl dX8_done_162 ?_
                  refine hQ _ _ ⟨_, rfl, by rw [if_pos (by omega), if_pos (by omega), if_pos (by omega)]; exact hR, fun q => ?_⟩
                  rw [eA, if_neg (show ¬ (opG v p = 1 ∧ st / 4 % 2 = 0) from h84), if_neg (by omega)]
                  first
                  | (rw [if_pos (by omega)]; exact congrArg (fun y : Ms => y.1) r2)
                  | (rw [if_neg (by omega), if_pos (by omega)]; exact congrArg (fun y : Ms => y.2.1) r2)
                  | (rw [if_neg (by omega), if_neg (by omega), if_pos (by omega)]; exact congrArg (fun y : Ms => y.2.2.1) r2)
                  | (rw [if_neg (by omega), if_neg (by omega), if_neg (by omega), if_pos (by omega)]
                     have e23 : g113 m 23 = (opD v p (stM st)).2.2.2.2.1 := congrArg (fun y : Ms => y.2.2.2.2.1) r2
                     have h167' : ¬ g113 m 23 = 0 ∨ g113 m 23 = 0 := by omega
                     first
                     | (have : ¬ g113 m 23 = 0 := h167
                        omega)
                     | (have : g113 m 23 = 0 := h167
                        omega))
                  | (rw [if_neg (by omega), if_neg (by omega), if_neg (by omega), if_neg (by omega)]
                     have e8 : g113 (m + 8) ((what - 5) % 8) = (opD v p (stM st)).2.2.2.2.2 (what - 5) := congrFun (congrArg (fun y : Ms => y.2.2.2.2.2) r2) (what - 5)
                     rw [show (what - 5) % 8 = what - 5 by omega] at e8
                     exact e8)
                · refine x_tab_in (tgt := 163) (off := 46) dX8_done_117 (by omega) (by omega) (by rw [hs117]; rfl) (by decide) ?_
                  refine x_aload_n dX8_done_163 rfl rfl ?_
                  refine g_getZ (kI := 23) rfl dX8_done_164 fX8_295_8 (by first | assumption | exact hT.2.1) ?_
                  refine x_if_eq (tgt := 174) dX8_done_167 (by decide) (fun h167 => ?_) (fun h167 => ?_)
                  · refine x_iconst dX8_done_174 rfl ?_
                    refine x_ireturn rfl dX8_done_175 ?_
                    refine hQ _ _ ⟨_, rfl, by rw [if_pos (by omega), if_pos (by omega), if_pos (by omega)]; exact hR, fun q => ?_⟩
                    rw [eA, if_neg (show ¬ (opG v p = 1 ∧ st / 4 % 2 = 0) from h84), if_neg (by omega)]
                    first
                    | (rw [if_pos (by omega)]; exact congrArg (fun y : Ms => y.1) r2)
                    | (rw [if_neg (by omega), if_pos (by omega)]; exact congrArg (fun y : Ms => y.2.1) r2)
                    | (rw [if_neg (by omega), if_neg (by omega), if_pos (by omega)]; exact congrArg (fun y : Ms => y.2.2.1) r2)
                    | (rw [if_neg (by omega), if_neg (by omega), if_neg (by omega), if_pos (by omega)]
                       have e23 : g113 m 23 = (opD v p (stM st)).2.2.2.2.1 := congrArg (fun y : Ms => y.2.2.2.2.1) r2
                       have h167' : ¬ g113 m 23 = 0 ∨ g113 m 23 = 0 := by omega
                       first
                       | (have : ¬ g113 m 23 = 0 := h167
                          omega)
                       | (have : g113 m 23 = 0 := h167
                          omega))
                    | (rw [if_neg (by omega), if_neg (by omega), if_neg (by omega), if_neg (by omega)]
                       have e8 : g113 (m + 8) ((what - 5) % 8) = (opD v p (stM st)).2.2.2.2.2 (what - 5) := congrFun (congrArg (fun y : Ms => y.2.2.2.2.2) r2) (what - 5)
                       rw [show (what - 5) % 8 = what - 5 by omega] at e8
                       exact e8)
                  · refine x_iconst dX8_done_170 rfl ?_
                    refine x_goto (tgt := 175) dX8_done_171 (by decide) ?_
                    refine x_ireturn rfl dX8_done_175 ?_
                    refine hQ _ _ ⟨_, rfl, by rw [if_pos (by omega), if_pos (by omega), if_pos (by omega)]; exact hR, fun q => ?_⟩
                    rw [eA, if_neg (show ¬ (opG v p = 1 ∧ st / 4 % 2 = 0) from h84), if_neg (by omega)]
                    first
                    | (rw [if_pos (by omega)]; exact congrArg (fun y : Ms => y.1) r2)
                    | (rw [if_neg (by omega), if_pos (by omega)]; exact congrArg (fun y : Ms => y.2.1) r2)
                    | (rw [if_neg (by omega), if_neg (by omega), if_pos (by omega)]; exact congrArg (fun y : Ms => y.2.2.1) r2)
                    | (rw [if_neg (by omega), if_neg (by omega), if_neg (by omega), if_pos (by omega)]
                       have e23 : g113 m 23 = (opD v p (stM st)).2.2.2.2.1 := congrArg (fun y : Ms => y.2.2.2.2.1) r2
                       have h167' : ¬ g113 m 23 = 0 ∨ g113 m 23 = 0 := by omega
                       first
                       | (have : ¬ g113 m 23 = 0 := h167
                          omega)
                       | (have : g113 m 23 = 0 := h167
                          omega))
                    | (rw [if_neg (by omega), if_neg (by omega), if_neg (by omega), if_neg (by omega)]
                       have e8 : g113 (m + 8) ((what - 5) % 8) = (opD v p (stM st)).2.2.2.2.2 (what - 5) := congrFun (congrArg (fun y : Ms => y.2.2.2.2.2) r2) (what - 5)
                       rw [show (what - 5) % 8 = what - 5 by omega] at e8
                       exact e8)
                · refine x_tab_out (tgt := 176) dX8_done_117 hs117 (by decide) ?_
                  refine x_aload_n dX8_done_176 rfl rfl ?_
                  refine g_getR (kI := 17) rfl dX8_done_177 fX8_39_8 (by first | assumption | exact hT.2.1) (by first | assumption | exact hT.2.1) ?_
                  refine x_iload_n dX8_done_180 rfl rfl ?_
                  refine x_iconst dX8_done_181 rfl ?_
                  first | refine x_isubN dX8_done_182 (by unfold i32; omega) ?_ | refine x_isub dX8_done_182 ?_
                  refine x_iald dX8_done_183 (by first | assumption | exact hT.2.1) (by omega) (by omega) ?_
                  refine x_ireturn rfl dX8_done_184 ?_
                  refine hQ _ _ ⟨_, rfl, by rw [if_pos (by omega), if_pos (by omega), if_pos (by omega)]; exact hR, fun q => ?_⟩
                  rw [eA, if_neg (show ¬ (opG v p = 1 ∧ st / 4 % 2 = 0) from h84), if_neg (by omega)]
                  first
                  | (rw [if_pos (by omega)]; exact congrArg (fun y : Ms => y.1) r2)
                  | (rw [if_neg (by omega), if_pos (by omega)]; exact congrArg (fun y : Ms => y.2.1) r2)
                  | (rw [if_neg (by omega), if_neg (by omega), if_pos (by omega)]; exact congrArg (fun y : Ms => y.2.2.1) r2)
                  | (rw [if_neg (by omega), if_neg (by omega), if_neg (by omega), if_pos (by omega)]
                     have e23 : g113 m 23 = (opD v p (stM st)).2.2.2.2.1 := congrArg (fun y : Ms => y.2.2.2.2.1) r2
                     have h167' : ¬ g113 m 23 = 0 ∨ g113 m 23 = 0 := by omega
                     first
                     | (have : ¬ g113 m 23 = 0 := h167
                        omega)
                     | (have : g113 m 23 = 0 := h167
                        omega))
                  | (rw [if_neg (by omega), if_neg (by omega), if_neg (by omega), if_neg (by omega)]
                     have e8 : g113 (m + 8) ((what - 5) % 8) = (opD v p (stM st)).2.2.2.2.2 (what - 5) := congrFun (congrArg (fun y : Ms => y.2.2.2.2.2) r2) (what - 5)
                     rw [show (what - 5) % 8 = what - 5 by omega] at e8
                     exact e8)
              · try simp only [vP_0, vP_1, vP_n0, vP_n1, Classical.not_not] at h84
                refine x_iload_n dX8_done_87 rfl rfl ?_
                refine x_if_le (tgt := 95) dX8_done_88 (by decide) (fun h88 => ?_) (fun h88 => ?_)
                · refine x_iload dX8_done_95 rfl ?_
                  refine x_if_eq (tgt := 104) dX8_done_97 (by decide) (fun h97 => ?_) (fun h97 => ?_)
                  · try simp only [vP_0, vP_1, vP_n0, vP_n1, Classical.not_not] at h97
                    refine x_iconst dX8_done_104 rfl ?_
                    refine x_ireturn rfl dX8_done_105 ?_
                    refine hQ _ _ ⟨_, rfl, by rw [if_pos (by omega), if_pos (by omega), if_pos (by omega)]; exact RD.r hP, fun q => ?_⟩
                    rw [eA]
                    first
                    | omega
                    | (rw [if_pos (show opG v p = 1 ∧ st / 4 % 2 = 0 from h84), if_neg (by omega)])
                    | (rw [if_pos (show opG v p = 1 ∧ st / 4 % 2 = 0 from h97), if_pos (by omega)])
                    | (rw [if_neg (show ¬ (opG v p = 1 ∧ st / 4 % 2 = 0) from h97), if_pos (by omega)])
                  · try simp only [vP_0, vP_1, vP_n0, vP_n1, Classical.not_not] at h97
                    refine x_iconst dX8_done_100 rfl ?_
                    refine x_goto (tgt := 105) dX8_done_101 (by decide) ?_
                    refine x_ireturn rfl dX8_done_105 ?_
                    refine hQ _ _ ⟨_, rfl, by rw [if_pos (by omega), if_pos (by omega), if_pos (by omega)]; exact RD.r hP, fun q => ?_⟩
                    rw [eA]
                    first
                    | omega
                    | (rw [if_pos (show opG v p = 1 ∧ st / 4 % 2 = 0 from h84), if_neg (by omega)])
                    | (rw [if_pos (show opG v p = 1 ∧ st / 4 % 2 = 0 from h97), if_pos (by omega)])
                    | (rw [if_neg (show ¬ (opG v p = 1 ∧ st / 4 % 2 = 0) from h97), if_pos (by omega)])
                · refine x_iconst dX8_done_91 rfl ?_
                  refine x_goto (tgt := 105) dX8_done_92 (by decide) ?_
                  refine x_ireturn rfl dX8_done_105 ?_
                  refine hQ _ _ ⟨_, rfl, by rw [if_pos (by omega), if_pos (by omega), if_pos (by omega)]; exact RD.r hP, fun q => ?_⟩
                  rw [eA]
                  first
                  | omega
                  | (rw [if_pos (show opG v p = 1 ∧ st / 4 % 2 = 0 from h84), if_neg (by omega)])
                  | (rw [if_pos (show opG v p = 1 ∧ st / 4 % 2 = 0 from h97), if_pos (by omega)])
                  | (rw [if_neg (show ¬ (opG v p = 1 ∧ st / 4 % 2 = 0) from h97), if_pos (by omega)])
          · exact absurd h62 (by decide)
        · try simp only [vP_0, vP_1, vP_n0, vP_n1, Classical.not_not] at h50
          refine x_iconst dX8_done_53 rfl ?_
          refine x_goto (tgt := 58) dX8_done_54 (by decide) ?_
          refine x_iconst dX8_done_58 rfl ?_
          refine g_callI (vs := [_, _, _]) (d' := d - 1) rfl (s_X8_throwsIf (by omega) hT (by first | omega | exact vP_r _)) dX8_done_59 kX8_280 (by omega) (by decide) rfl (Nat.le_of_ble_eq_true rfl) (rcv_o (by first | assumption | exact hT.2.1) rfl) (fun x59 M59 h59 => ?_)
          obtain ⟨e59, r59, f59⟩ := h59
          have f59' := (f59.2 (by omega)).symm
          subst f59'
          subst e59
          refine x_if_eq (tgt := 67) dX8_done_62 (by decide) (fun h62 => ?_) (fun h62 => ?_)
          · exact absurd h62 (by decide)
          · try simp only [vP_0, vP_1, vP_n0, vP_n1, Classical.not_not] at h62
            refine x_iconst dX8_done_65 rfl ?_
            refine x_ireturn rfl dX8_done_66 ?_
            first
            | exact hQ _ _ ⟨_, rfl, by rw [if_neg (by omega)]; exact RD.t hP, fun q => by omega⟩
            | exact hQ _ _ ⟨_, rfl, by rw [if_pos (by omega), if_neg (by omega)]; exact RD.t hP, fun q => by omega⟩
            | exact hQ _ _ ⟨_, rfl, by rw [if_pos (by omega), if_pos (by omega), if_neg (by omega)]; exact RD.t hP, fun q => by omega⟩
    · try simp only [vP_0, vP_1, vP_n0, vP_n1, Classical.not_not] at h27
      refine x_iconst dX8_done_30 rfl ?_
      refine x_goto (tgt := 35) dX8_done_31 (by decide) ?_
      refine x_iconst dX8_done_35 rfl ?_
      refine g_callI (vs := [_, _, _]) (d' := d - 1) rfl (s_X8_throwsIf (by omega) hT (by first | omega | exact vP_r _)) dX8_done_36 kX8_280 (by omega) (by decide) rfl (Nat.le_of_ble_eq_true rfl) (rcv_o (by first | assumption | exact hT.2.1) rfl) (fun x36 M36 h36 => ?_)
      obtain ⟨e36, r36, f36⟩ := h36
      have f36' := (f36.2 (by omega)).symm
      subst f36'
      subst e36
      refine x_if_ne (tgt := 65) dX8_done_39 (by decide) (fun h39 => ?_) (fun h39 => ?_)
      · try simp only [vP_0, vP_1, vP_n0, vP_n1, Classical.not_not] at h39
        refine x_iconst dX8_done_65 rfl ?_
        refine x_ireturn rfl dX8_done_66 ?_
        first
        | exact hQ _ _ ⟨_, rfl, by rw [if_neg (by omega)]; exact RD.t hP, fun q => by omega⟩
        | exact hQ _ _ ⟨_, rfl, by rw [if_pos (by omega), if_neg (by omega)]; exact RD.t hP, fun q => by omega⟩
        | exact hQ _ _ ⟨_, rfl, by rw [if_pos (by omega), if_pos (by omega), if_neg (by omega)]; exact RD.t hP, fun q => by omega⟩
      · exact absurd h39 (by decide)
theorem s_X8_count (hd : 12 ≤ d) (hP : TP M m v) (hn : mci M m 7 = n) : CS G d mX8_count [dR m, dI what] M (postI fun x M1 => RD M m 0 M1 ∧ x = countAns v n what) := by
  obtain ⟨hT, hw, hA, hL, hK, hsk⟩ := id hP
  have hv5 := hA.1.2.2.2.2.2.1
  have hT_ := hT; obtain ⟨p0, p1, ⟨c1, c2, c3, c4, c5, c6, c7, c8, c9, c10, c11, c12, c13, c14, c15⟩, ⟨t1, t2, t3, t4, t5, t6, t7, t8, t9, t10, t11, t12, t13, t14, t15⟩⟩ := hT_
  refine CS.mkQ (by decide) (Nat.le_of_ble_eq_true rfl) fun Q hQ => ?_
  refine x_aload_n dX8_count_0 rfl rfl ?_
  refine x_iconst dX8_count_1 rfl ?_
  refine g_putI (kI := 0) rfl dX8_count_2 fX8_3_8 (by first | assumption | exact hT.2.1) ?_
  refine x_iload_n dX8_count_5 rfl rfl ?_
  rcases (show what = 2 ∨ what = 5 ∨ what = 11 ∨ (¬ what = 2 ∧ ¬ what = 5 ∧ ¬ what = 11) by omega) with hs6 | hs6 | hs6 | hs6
  · refine x_lookup (off := 34) (tgt := 40) dX8_count_6 (by decide) (by rw [hs6]; rfl) (by decide) ?_
    refine x_aload_n dX8_count_40 rfl rfl ?_
    refine g_getR (kI := 1) rfl dX8_count_41 fX8_13_8 (by first | assumption | exact hT.2.1) (by first | assumption | exact hT.2.1) ?_
    refine x_iconst dX8_count_44 rfl ?_
    refine x_iald dX8_count_45 (by first | assumption | exact hT.2.1) (by omega) (by omega) ?_
    try simp (disch := omega) only [rdI_e, rdI_n, rdC_i, rdC_o, rdW, rdR, rdU_e, rdU_n, rdLW, Int.add_zero, hw, hn]
    refine x_iconst dX8_count_46 rfl ?_
    refine x_icmp_ne (tgt := 61) dX8_count_47 (by decide) (fun h47 => ?_) (fun h47 => ?_)
    · refine x_iconst dX8_count_61 rfl ?_
      refine x_ireturn rfl dX8_count_62 ?_
      refine hQ _ _ ⟨_, rfl, RD.r hP, ?_⟩
      first
      | (subst hs6
         first
         | rfl
         | exact (if_pos h47).symm
         | exact (if_neg h47).symm)
      | (unfold countAns
         rw [if_neg hs6.1, if_neg hs6.2.1, if_neg hs6.2.2]
         first | rw [if_pos (by omega)] | rw [if_neg (by omega)])
    · refine x_aload_n dX8_count_50 rfl rfl ?_
      refine g_getR (kI := 1) rfl dX8_count_51 fX8_13_8 (by first | assumption | exact hT.2.1) (by first | assumption | exact hT.2.1) ?_
      refine x_sipush dX8_count_54 rfl ?_
      refine x_iald dX8_count_57 (by first | assumption | exact hT.2.1) (by omega) (by omega) ?_
      try simp (disch := omega) only [rdI_e, rdI_n, rdC_i, rdC_o, rdW, rdR, rdU_e, rdU_n, rdLW, Int.add_zero, hw, hn]
      refine x_goto (tgt := 62) dX8_count_58 (by decide) ?_
      refine x_ireturn rfl dX8_count_62 ?_
      refine hQ _ _ ⟨_, rfl, RD.r hP, ?_⟩
      first
      | (subst hs6
         first
         | rfl
         | exact (if_pos h47).symm
         | exact (if_neg h47).symm)
      | (unfold countAns
         rw [if_neg hs6.1, if_neg hs6.2.1, if_neg hs6.2.2]
         first | rw [if_pos (by omega)] | rw [if_neg (by omega)])
  · refine x_lookup (off := 57) (tgt := 63) dX8_count_6 (by decide) (by rw [hs6]; rfl) (by decide) ?_
    refine x_aload_n dX8_count_63 rfl rfl ?_
    refine g_getR (kI := 1) rfl dX8_count_64 fX8_13_8 (by first | assumption | exact hT.2.1) (by first | assumption | exact hT.2.1) ?_
    refine x_iconst dX8_count_67 rfl ?_
    refine x_iald dX8_count_68 (by first | assumption | exact hT.2.1) (by omega) (by omega) ?_
    try simp (disch := omega) only [rdI_e, rdI_n, rdC_i, rdC_o, rdW, rdR, rdU_e, rdU_n, rdLW, Int.add_zero, hw, hn]
    refine x_iconst dX8_count_69 rfl ?_
    first | refine x_idivN dX8_count_70 (by omega) (by omega) ?_ | refine x_idiv dX8_count_70 (by omega) ?_
    refine x_ireturn rfl dX8_count_71 ?_
    refine hQ _ _ ⟨_, rfl, RD.r hP, ?_⟩
    first
    | (subst hs6
       first
       | rfl
       | exact (if_pos h47).symm
       | exact (if_neg h47).symm)
    | (unfold countAns
       rw [if_neg hs6.1, if_neg hs6.2.1, if_neg hs6.2.2]
       first | rw [if_pos (by omega)] | rw [if_neg (by omega)])
  · refine x_lookup (off := 66) (tgt := 72) dX8_count_6 (by decide) (by rw [hs6]; rfl) (by decide) ?_
    refine x_aload_n dX8_count_72 rfl rfl ?_
    refine g_getI (kI := 7) rfl dX8_count_73 fX8_71_8 (by first | assumption | exact hT.2.1) ?_
    try simp (disch := omega) only [rdI_e, rdI_n, rdC_i, rdC_o, rdW, rdR, rdU_e, rdU_n, rdLW, Int.add_zero, hw, hn]
    refine x_ireturn rfl dX8_count_76 ?_
    refine hQ _ _ ⟨_, rfl, RD.r hP, ?_⟩
    first
    | (subst hs6
       first
       | rfl
       | exact (if_pos h47).symm
       | exact (if_neg h47).symm)
    | (unfold countAns
       rw [if_neg hs6.1, if_neg hs6.2.1, if_neg hs6.2.2]
       first | rw [if_pos (by omega)] | rw [if_neg (by omega)])
  · refine x_lookup (off := 71) (tgt := 77) dX8_count_6 (by decide) (by show (if (2 : Int) = what then _ else if (5 : Int) = what then _ else if (11 : Int) = what then _ else _) = _; rw [if_neg (by omega), if_neg (by omega), if_neg (by omega)]; rfl) (by decide) ?_
    refine x_iload_n dX8_count_77 rfl rfl ?_
    refine x_iconst dX8_count_78 rfl ?_
    refine x_bipush dX8_count_79 rfl ?_
    refine g_callI (vs := [_, _, _]) (d' := d - 1) rfl (s_X8_in (by omega)) dX8_count_81 kX8_88 (by omega) (by decide) rfl (Nat.le_of_ble_eq_true rfl) (rcv_n) (fun x81 M81 h81 => ?_)
    obtain ⟨e81, f81⟩ := h81
    have f81' := f81.symm
    subst f81'
    subst e81
    try simp (disch := omega) only [rdI_e, rdI_n, rdC_i, rdC_o, rdW, rdR, rdU_e, rdU_n, rdLW, Int.add_zero, hw, hn]
    refine x_if_eq (tgt := 96) dX8_count_84 (by decide) (fun h84 => ?_) (fun h84 => ?_)
    · try simp only [vP_0, vP_1, vP_n0, vP_n1, Classical.not_not] at h84
      refine x_iconst dX8_count_96 rfl ?_
      refine x_ireturn rfl dX8_count_97 ?_
      refine hQ _ _ ⟨_, rfl, RD.r hP, ?_⟩
      first
      | (subst hs6
         first
         | rfl
         | exact (if_pos h47).symm
         | exact (if_neg h47).symm)
      | (unfold countAns
         rw [if_neg hs6.1, if_neg hs6.2.1, if_neg hs6.2.2]
         first | rw [if_pos (by omega)] | rw [if_neg (by omega)])
    · try simp only [vP_0, vP_1, vP_n0, vP_n1, Classical.not_not] at h84
      refine x_aload_n dX8_count_87 rfl rfl ?_
      refine g_getR (kI := 1) rfl dX8_count_88 fX8_13_8 (by first | assumption | exact hT.2.1) (by first | assumption | exact hT.2.1) ?_
      refine x_iload_n dX8_count_91 rfl rfl ?_
      refine x_iald dX8_count_92 (by first | assumption | exact hT.2.1) (by omega) (by omega) ?_
      try simp (disch := omega) only [rdI_e, rdI_n, rdC_i, rdC_o, rdW, rdR, rdU_e, rdU_n, rdLW, Int.add_zero, hw, hn]
      refine x_goto (tgt := 97) dX8_count_93 (by decide) ?_
      refine x_ireturn rfl dX8_count_97 ?_
      refine hQ _ _ ⟨_, rfl, RD.r hP, ?_⟩
      first
      | (subst hs6
         first
         | rfl
         | exact (if_pos h47).symm
         | exact (if_neg h47).symm)
      | (unfold countAns
         rw [if_neg hs6.1, if_neg hs6.2.1, if_neg hs6.2.2]
         first | rw [if_pos (by omega)] | rw [if_neg (by omega)])
theorem TI.tw {M : Mem} (h : TI M m v n A hi vi tp sz fa) : TwS (msh M) (mcr M) m := h.1.1
theorem s_X8_feed {e : Int} (hd : 10 ≤ d) (hI : TI M m v n A hi vi tp sz fa) : CS G d mX8_feed [dR m, dI a, dI b, dI c, dI p, dI e] M (postI fun x M1 => (400 < sz + 20 → x = -1 ∧ TI M1 m v n A hi vi tp sz fa ∧ TR m M M1) ∧ (¬ 400 < sz + 20 → x = sz + 20 ∧ TI M1 m v n A hi vi (feedT tp sz a b c p e 20) (sz + 20) fa ∧ TR m M M1)) := by
  obtain ⟨hP, hacts, ⟨⟨a1, a2⟩, b1, c0, ⟨d1, d2⟩, e1⟩⟩ := id hI
  have hT := hP.1
  have hT_ := hT; obtain ⟨p0, p1, ⟨c1, c2, c3, c4, c5, c6, c7, c8, c9, c10, c11, c12, c13, c14, c15⟩, ⟨t1, t2, t3, t4, t5, t6, t7, t8, t9, t10, t11, t12, t13, t14, t15⟩⟩ := hT_
  refine CS.mkQ (by decide) (Nat.le_of_ble_eq_true rfl) fun Q hQ => ?_
  by_cases hs : 400 < sz + 20
  · refine x_aload_n dX8_feed_0 rfl rfl ?_
    refine x_iconst dX8_feed_1 rfl ?_
    refine g_putI (kI := 0) rfl dX8_feed_2 fX8_3_8 (by first | assumption | exact hT.2.1) ?_
    refine x_aload_n dX8_feed_5 rfl rfl ?_
    refine g_getI (kI := 9) rfl dX8_feed_6 fX8_93_8 (by first | assumption | exact hT.2.1) ?_
    try simp (disch := omega) only [rdI_e, rdI_n, rdC_i, rdC_o, rdW, rdR, rdU_e, rdU_n, rdLW, Int.add_zero, d1]
    refine x_bipush dX8_feed_9 rfl ?_
    first | refine x_iaddN dX8_feed_11 (by unfold i32; omega) ?_ | refine x_iadd dX8_feed_11 ?_
    refine x_sipush dX8_feed_12 rfl ?_
    refine x_icmp_le (tgt := 20) dX8_feed_15 (by decide) (fun h15 => ?_) (fun h15 => ?_)
    · omega
    · refine x_iconst dX8_feed_18 rfl ?_
      refine x_ireturn rfl dX8_feed_19 ?_
      have h := hI.rd (RD.r hP)
      exact hQ _ _ ⟨_, rfl, fun _ => ⟨rfl, h.1, h.2.1⟩, fun q => absurd hs q⟩
  · skip
    have loop : ∀ (t : Nat) (k : Int) (g : Ci), (20 - k).toNat = t → (0 ≤ k) → (k ≤ 20) → (g (m + 6) = feedT tp sz a b c p e k) → (g (m + 7) 0 = a ∧ g (m + 7) 1 = b ∧ g (m + 7) 2 = c ∧ g (m + 7) 3 = p ∧ g (m + 7) 4 = e) → (g m 0 = 0) → (∀ a' k', ¬ (a' = m ∧ k' = 0) → ¬ a' = m + 6 → ¬ a' = m + 7 → g a' k' = mci M a' k') → WP G d mX8_feed 60 [some (dR m), some (dI a), some (dI b), some (dI c), some (dI p), some (dI e), some (dI k)] [] (wI M g) Q := by
      intro t
      induction t using Nat.strongRecOn with
      | _ t ih =>
        intro k g ht k0 k1 ht h5 h0 hf
        have e9 : g m 9 = sz := (hf _ _ (by omega) (by omega) (by omega)).trans d1
        by_cases hk : k < 20
        · have ef : ∀ j, j = k / 4 → g (m + 7) j = (if k / 4 = 0 then a else if k / 4 = 1 then b else if k / 4 = 2 then c else if k / 4 = 3 then p else e) := fun j q => by
            subst q
            rcases (show k / 4 = 0 ∨ k / 4 = 1 ∨ k / 4 = 2 ∨ k / 4 = 3 ∨ k / 4 = 4 by omega) with q | q | q | q | q <;> rw [q]
            · exact h5.1
            · exact h5.2.1
            · exact h5.2.2.1
            · exact h5.2.2.2.1
            · exact h5.2.2.2.2
          refine x_iload dX8_feed_60 rfl ?_
          refine x_bipush dX8_feed_62 rfl ?_
          refine x_icmp_ge (tgt := 106) dX8_feed_64 (by decide) (fun h64 => ?_) (fun h64 => ?_)
          · omega
          · refine x_aload_n dX8_feed_67 rfl rfl ?_
            refine g_getR (kI := 8) rfl dX8_feed_68 fX8_29_8 (by first | assumption | exact hT.2.1) (by first | assumption | exact hT.2.1) ?_
            refine x_aload_n dX8_feed_71 rfl rfl ?_
            refine g_getI (kI := 9) rfl dX8_feed_72 fX8_93_8 (by first | assumption | exact hT.2.1) ?_
            try simp (disch := omega) only [rdI_e, rdI_n, rdC_i, rdC_o, rdW, rdR, rdU_e, rdU_n, rdLW, Int.add_zero, e9]
            refine x_iload dX8_feed_75 rfl ?_
            first | refine x_iaddN dX8_feed_77 (by unfold i32; omega) ?_ | refine x_iadd dX8_feed_77 ?_
            refine x_aload_n dX8_feed_78 rfl rfl ?_
            refine g_getR (kI := 15) rfl dX8_feed_79 fX8_36_8 (by first | assumption | exact hT.2.1) (by first | assumption | exact hT.2.1) ?_
            refine x_iload dX8_feed_82 rfl ?_
            refine x_iconst dX8_feed_84 rfl ?_
            first | refine x_idivN dX8_feed_85 (by omega) (by omega) ?_ | refine x_idiv dX8_feed_85 (by omega) ?_
            refine x_iald dX8_feed_86 (by first | assumption | exact hT.2.1) (by omega) (by omega) ?_
            try simp (disch := omega) only [rdI_e, rdI_n, rdC_i, rdC_o, rdW, rdR, rdU_e, rdU_n, rdLW, Int.add_zero, e9]
            rw [show g (m + 7) (k / 4) = _ from ef _ rfl]
            refine x_bipush dX8_feed_87 rfl ?_
            refine x_bipush dX8_feed_89 rfl ?_
            refine x_iload dX8_feed_91 rfl ?_
            refine x_iconst dX8_feed_93 rfl ?_
            first | refine x_iremN dX8_feed_94 (by omega) (by omega) ?_ | refine x_irem dX8_feed_94 (by omega) ?_
            first | refine x_imulN dX8_feed_95 (by unfold i32; omega) ?_ | refine x_imul dX8_feed_95 ?_
            first | refine x_isubN dX8_feed_96 (by unfold i32; omega) ?_ | refine x_isub dX8_feed_96 ?_
            refine x_ishr dX8_feed_97 ?_
            refine x_i2b dX8_feed_98 ?_
            show WP G d _ _ _ (dI (feedB a b c p e k) :: _) _ _
            refine x_bast (by omega) dX8_feed_99 (by first | assumption | exact hT.2.1) (by omega) (by omega) ?_
            first | refine x_iincN (L' := [some _, some _, some _, some _, some _, some _, some _]) dX8_feed_100 rfl (by decide) (by unfold i32; omega) rfl ?_ | refine x_iinc (L' := [some _, some _, some _, some _, some _, some _, some _]) dX8_feed_100 rfl (by decide) rfl ?_
            refine x_goto (tgt := 60) dX8_feed_103 (by decide) ?_
            have hb : w8 (feedB a b c p e k) = feedB a b c p e k := by
              unfold feedB w8
              omega
            refine ih _ (by omega) (k + 1) (up g (m + 6) (sz + k) (w8 (feedB a b c p e k))) rfl (by omega) (by omega) ?_ ⟨?_, ?_, ?_, ?_, ?_⟩ ((rdU_n (by omega)).trans h0) (fun a' k' q1 q2 q3 => (rdU_n (by omega)).trans (hf a' k' q1 q2 q3))
            · rw [hb]
              exact (mciIs (M := wI M g) ht).trans (feedT_s k0 rfl rfl)
            · exact (rdU_n (by omega)).trans h5.1
            · exact (rdU_n (by omega)).trans h5.2.1
            · exact (rdU_n (by omega)).trans h5.2.2.1
            · exact (rdU_n (by omega)).trans h5.2.2.2.1
            · exact (rdU_n (by omega)).trans h5.2.2.2.2
        · refine x_iload dX8_feed_60 rfl ?_
          refine x_bipush dX8_feed_62 rfl ?_
          refine x_icmp_ge (tgt := 106) dX8_feed_64 (by decide) (fun h64 => ?_) (fun h64 => ?_)
          · refine x_aload_n dX8_feed_106 rfl rfl ?_
            refine x_dup dX8_feed_107 rfl ?_
            refine g_getI (kI := 9) rfl dX8_feed_108 fX8_93_8 (by first | assumption | exact hT.2.1) ?_
            try simp (disch := omega) only [rdI_e, rdI_n, rdC_i, rdC_o, rdW, rdR, rdU_e, rdU_n, rdLW, Int.add_zero, e9]
            refine x_bipush dX8_feed_111 rfl ?_
            first | refine x_iaddN dX8_feed_113 (by unfold i32; omega) ?_ | refine x_iadd dX8_feed_113 ?_
            refine g_putI (kI := 9) rfl dX8_feed_114 fX8_93_8 (by first | assumption | exact hT.2.1) ?_
            refine x_aload_n dX8_feed_117 rfl rfl ?_
            refine g_getI (kI := 9) rfl dX8_feed_118 fX8_93_8 (by first | assumption | exact hT.2.1) ?_
            try simp (disch := omega) only [rdI_e, rdI_n, rdC_i, rdC_o, rdW, rdR, rdU_e, rdU_n, rdLW, Int.add_zero, e9]
            refine x_ireturn rfl dX8_feed_121 ?_
            refine hQ _ _ ⟨_, rfl, fun q => absurd q hs, fun _ => ⟨rfl, ⟨⟨hP.1, ?_, hP.2.2.1, hP.2.2.2.1, ?_, ?_⟩, ?_, ⟨⟨?_, a2⟩, fun q k k0 k1 => ?_, ?_, ⟨?_, by omega⟩, ?_⟩⟩, ⟨up g m 9 (sz + 20), mcl M, rfl, fun a' k' q => ?_, fun a' k' q => rfl⟩⟩⟩
            · exact (funext fun j => (rdI_n (by omega)).trans (hf _ _ (by omega) (by omega) (by omega))).trans hP.2.1
            · exact KnOk.at hP.2.2.2.2.1 (fun p => (rdI_n (by omega)).trans (hf _ _ (by omega) (by omega) (by omega))) (fun p => rfl)
            · exact sk01.at hP.2.2.2.2.2 ((rdI_n (by omega)).trans (hf _ _ (by omega) (by omega) (by omega)))
            · exact hacts.at ((rdI_n (by omega)).trans (hf _ _ (by omega) (by omega) (by omega))) (fun k => (rdI_n (by omega)).trans (hf _ _ (by omega) (by omega) (by omega)))
            · exact ((rdI_n (by omega)).trans (hf _ _ (by omega) (by omega) (by omega))).trans a1
            · exact ((rdI_n (by omega)).trans (hf _ _ (by omega) (by omega) (by omega))).trans (b1 q k k0 k1)
            · exact (funext fun j => rdI_n (by omega)).trans (ht.trans (by rw [show k = 20 by omega]))
            · exact rdI_e ⟨rfl, rfl⟩
            · exact ((rdI_n (by omega)).trans (hf _ _ (by omega) (by omega) (by omega))).trans e1
            · exact (rdU_n (by omega)).trans (hf _ _ (by omega) (by omega) (by omega))
          · omega
    refine x_aload_n dX8_feed_0 rfl rfl ?_
    refine x_iconst dX8_feed_1 rfl ?_
    refine g_putI (kI := 0) rfl dX8_feed_2 fX8_3_8 (by first | assumption | exact hT.2.1) ?_
    refine x_aload_n dX8_feed_5 rfl rfl ?_
    refine g_getI (kI := 9) rfl dX8_feed_6 fX8_93_8 (by first | assumption | exact hT.2.1) ?_
    try simp (disch := omega) only [rdI_e, rdI_n, rdC_i, rdC_o, rdW, rdR, rdU_e, rdU_n, rdLW, Int.add_zero, d1]
    refine x_bipush dX8_feed_9 rfl ?_
    first | refine x_iaddN dX8_feed_11 (by unfold i32; omega) ?_ | refine x_iadd dX8_feed_11 ?_
    refine x_sipush dX8_feed_12 rfl ?_
    refine x_icmp_le (tgt := 20) dX8_feed_15 (by decide) (fun h15 => ?_) (fun h15 => ?_)
    · refine x_aload_n dX8_feed_20 rfl rfl ?_
      refine g_getR (kI := 15) rfl dX8_feed_21 fX8_36_8 (by first | assumption | exact hT.2.1) (by first | assumption | exact hT.2.1) ?_
      refine x_iconst dX8_feed_24 rfl ?_
      refine x_iload_n dX8_feed_25 rfl rfl ?_
      refine x_iast (by omega) dX8_feed_26 (by first | assumption | exact hT.2.1) (by omega) (by omega) ?_
      refine x_aload_n dX8_feed_27 rfl rfl ?_
      refine g_getR (kI := 15) rfl dX8_feed_28 fX8_36_8 (by first | assumption | exact hT.2.1) (by first | assumption | exact hT.2.1) ?_
      refine x_iconst dX8_feed_31 rfl ?_
      refine x_iload_n dX8_feed_32 rfl rfl ?_
      refine x_iast (by omega) dX8_feed_33 (by first | assumption | exact hT.2.1) (by omega) (by omega) ?_
      refine x_aload_n dX8_feed_34 rfl rfl ?_
      refine g_getR (kI := 15) rfl dX8_feed_35 fX8_36_8 (by first | assumption | exact hT.2.1) (by first | assumption | exact hT.2.1) ?_
      refine x_iconst dX8_feed_38 rfl ?_
      refine x_iload_n dX8_feed_39 rfl rfl ?_
      refine x_iast (by omega) dX8_feed_40 (by first | assumption | exact hT.2.1) (by omega) (by omega) ?_
      refine x_aload_n dX8_feed_41 rfl rfl ?_
      refine g_getR (kI := 15) rfl dX8_feed_42 fX8_36_8 (by first | assumption | exact hT.2.1) (by first | assumption | exact hT.2.1) ?_
      refine x_iconst dX8_feed_45 rfl ?_
      refine x_iload dX8_feed_46 rfl ?_
      refine x_iast (by omega) dX8_feed_48 (by first | assumption | exact hT.2.1) (by omega) (by omega) ?_
      refine x_aload_n dX8_feed_49 rfl rfl ?_
      refine g_getR (kI := 15) rfl dX8_feed_50 fX8_36_8 (by first | assumption | exact hT.2.1) (by first | assumption | exact hT.2.1) ?_
      refine x_iconst dX8_feed_53 rfl ?_
      refine x_iload dX8_feed_54 rfl ?_
      refine x_iast (by omega) dX8_feed_56 (by first | assumption | exact hT.2.1) (by omega) (by omega) ?_
      refine x_iconst dX8_feed_57 rfl ?_
      refine x_istore (L' := [some _, some _, some _, some _, some _, some _, some _]) dX8_feed_58 (by decide) rfl ?_
      refine loop _ 0 (up (up (up (up (up (up (mci M) m 0 0) (m + 7) 0 a) (m + 7) 1 b) (m + 7) 2 c) (m + 7) 3 p) (m + 7) 4 e) rfl (by omega) (by omega) ?_ ⟨?_, ?_, ?_, ?_, ?_⟩ ?_ (fun a' k' q1 q2 q3 => ?_)
      · rw [feedT_0, ← c0]
        exact funext fun j => by simp (disch := omega) only [rdI_e, rdI_n, rdC_i, rdC_o, rdW, rdR, rdU_e, rdU_n]
      all_goals (simp (disch := omega) only [rdI_e, rdI_n, rdC_i, rdC_o, rdW, rdR, rdU_e, rdU_n])
    · omega
theorem s_X8_end (hd : 10 ≤ d) (hI : TI M m v n A hi vi tp sz fa) : CS G d mX8_end [dR m, dI k] M (postI fun x M1 => (0 ≤ k ∧ k ≤ sz → x = 1 ∧ TI M1 m v n A hi vi tp k fa ∧ TR m M M1) ∧ (¬ (0 ≤ k ∧ k ≤ sz) → x = 0 ∧ TI M1 m v n A hi vi tp sz fa ∧ TR m M M1)) := by
  obtain ⟨hP, hacts, ⟨⟨a1, a2⟩, b1, c0, ⟨d1, d2⟩, e1⟩⟩ := id hI
  have hT := hP.1
  have hT_ := hT; obtain ⟨p0, p1, ⟨c1, c2, c3, c4, c5, c6, c7, c8, c9, c10, c11, c12, c13, c14, c15⟩, ⟨t1, t2, t3, t4, t5, t6, t7, t8, t9, t10, t11, t12, t13, t14, t15⟩⟩ := hT_
  refine CS.mkQ (by decide) (Nat.le_of_ble_eq_true rfl) fun Q hQ => ?_
  refine x_aload_n dX8_end_0 rfl rfl ?_
  refine x_iconst dX8_end_1 rfl ?_
  refine g_putI (kI := 0) rfl dX8_end_2 fX8_3_8 (by first | assumption | exact hT.2.1) ?_
  refine x_iload_n dX8_end_5 rfl rfl ?_
  refine x_if_lt (tgt := 17) dX8_end_6 (by decide) (fun h6 => ?_) (fun h6 => ?_)
  · refine x_iconst dX8_end_17 rfl ?_
    refine x_zreturn (by first | exact Or.inl rfl | exact Or.inr rfl | exact vB_r _ | exact vP_r _ | assumption | omega) rfl dX8_end_18 ?_
    first
    | (have h := hI.rd (RD.r hP)
       exact hQ _ _ ⟨_, rfl, fun q => absurd q (by omega), fun _ => ⟨rfl, h.1, h.2.1⟩⟩)
    | (have h0 := hP.z (x := 0)
       refine hQ _ _ ⟨_, rfl, fun q => ⟨rfl, ⟨⟨hP.1, mciI (by omega) (mciI (by omega) hP.2.1), hP.2.2.1, hP.2.2.2.1, ?_, ?_⟩, ?_, ⟨⟨?_, a2⟩, fun q k k0 k1 => ?_, ?_, ⟨?_, by omega⟩, ?_⟩⟩, ⟨up (up (mci M) m 0 0) m 9 k, mcl M, rfl, fun a' k' q => ?_, fun a' k' q => rfl⟩⟩, fun q => absurd (by omega) q⟩
       · exact KnOk.at hP.2.2.2.2.1 (fun p => (rdI_n (by omega)).trans (rdI_n (by omega))) (fun p => rfl)
       · exact sk01.at hP.2.2.2.2.2 ((rdI_n (by omega)).trans (rdI_n (by omega)))
       · exact hacts.at ((rdI_n (by omega)).trans (rdI_n (by omega))) (fun k => (rdI_n (by omega)).trans (rdI_n (by omega)))
       · exact ((rdI_n (by omega)).trans (rdI_n (by omega))).trans a1
       · exact ((rdI_n (by omega)).trans (rdI_n (by omega))).trans (b1 q k k0 k1)
       · exact (funext fun j => (rdI_n (by omega)).trans (rdI_n (by omega))).trans c0
       · exact rdI_e ⟨rfl, rfl⟩
       · exact ((rdI_n (by omega)).trans (rdI_n (by omega))).trans e1
       · exact (rdU_n (by omega)).trans (rdU_n (by omega)))
  · refine x_iload_n dX8_end_9 rfl rfl ?_
    refine x_aload_n dX8_end_10 rfl rfl ?_
    refine g_getI (kI := 9) rfl dX8_end_11 fX8_93_8 (by first | assumption | exact hT.2.1) ?_
    try simp (disch := omega) only [rdI_e, rdI_n, rdC_i, rdC_o, rdW, rdR, rdU_e, rdU_n, rdLW, Int.add_zero, d1]
    refine x_icmp_le (tgt := 19) dX8_end_14 (by decide) (fun h14 => ?_) (fun h14 => ?_)
    · refine x_aload_n dX8_end_19 rfl rfl ?_
      refine x_iload_n dX8_end_20 rfl rfl ?_
      refine g_putI (kI := 9) rfl dX8_end_21 fX8_93_8 (by first | assumption | exact hT.2.1) ?_
      refine x_iconst dX8_end_24 rfl ?_
      refine x_zreturn (by first | exact Or.inl rfl | exact Or.inr rfl | exact vB_r _ | exact vP_r _ | assumption | omega) rfl dX8_end_25 ?_
      first
      | (have h := hI.rd (RD.r hP)
         exact hQ _ _ ⟨_, rfl, fun q => absurd q (by omega), fun _ => ⟨rfl, h.1, h.2.1⟩⟩)
      | (have h0 := hP.z (x := 0)
         refine hQ _ _ ⟨_, rfl, fun q => ⟨rfl, ⟨⟨hP.1, mciI (by omega) (mciI (by omega) hP.2.1), hP.2.2.1, hP.2.2.2.1, ?_, ?_⟩, ?_, ⟨⟨?_, a2⟩, fun q k k0 k1 => ?_, ?_, ⟨?_, by omega⟩, ?_⟩⟩, ⟨up (up (mci M) m 0 0) m 9 k, mcl M, rfl, fun a' k' q => ?_, fun a' k' q => rfl⟩⟩, fun q => absurd (by omega) q⟩
         · exact KnOk.at hP.2.2.2.2.1 (fun p => (rdI_n (by omega)).trans (rdI_n (by omega))) (fun p => rfl)
         · exact sk01.at hP.2.2.2.2.2 ((rdI_n (by omega)).trans (rdI_n (by omega)))
         · exact hacts.at ((rdI_n (by omega)).trans (rdI_n (by omega))) (fun k => (rdI_n (by omega)).trans (rdI_n (by omega)))
         · exact ((rdI_n (by omega)).trans (rdI_n (by omega))).trans a1
         · exact ((rdI_n (by omega)).trans (rdI_n (by omega))).trans (b1 q k k0 k1)
         · exact (funext fun j => (rdI_n (by omega)).trans (rdI_n (by omega))).trans c0
         · exact rdI_e ⟨rfl, rfl⟩
         · exact ((rdI_n (by omega)).trans (rdI_n (by omega))).trans e1
         · exact (rdU_n (by omega)).trans (rdU_n (by omega)))
    · refine x_iconst dX8_end_17 rfl ?_
      refine x_zreturn (by first | exact Or.inl rfl | exact Or.inr rfl | exact vB_r _ | exact vP_r _ | assumption | omega) rfl dX8_end_18 ?_
      first
      | (have h := hI.rd (RD.r hP)
         exact hQ _ _ ⟨_, rfl, fun q => absurd q (by omega), fun _ => ⟨rfl, h.1, h.2.1⟩⟩)
      | (have h0 := hP.z (x := 0)
         refine hQ _ _ ⟨_, rfl, fun q => ⟨rfl, ⟨⟨hP.1, mciI (by omega) (mciI (by omega) hP.2.1), hP.2.2.1, hP.2.2.2.1, ?_, ?_⟩, ?_, ⟨⟨?_, a2⟩, fun q k k0 k1 => ?_, ?_, ⟨?_, by omega⟩, ?_⟩⟩, ⟨up (up (mci M) m 0 0) m 9 k, mcl M, rfl, fun a' k' q => ?_, fun a' k' q => rfl⟩⟩, fun q => absurd (by omega) q⟩
         · exact KnOk.at hP.2.2.2.2.1 (fun p => (rdI_n (by omega)).trans (rdI_n (by omega))) (fun p => rfl)
         · exact sk01.at hP.2.2.2.2.2 ((rdI_n (by omega)).trans (rdI_n (by omega)))
         · exact hacts.at ((rdI_n (by omega)).trans (rdI_n (by omega))) (fun k => (rdI_n (by omega)).trans (rdI_n (by omega)))
         · exact ((rdI_n (by omega)).trans (rdI_n (by omega))).trans a1
         · exact ((rdI_n (by omega)).trans (rdI_n (by omega))).trans (b1 q k k0 k1)
         · exact (funext fun j => (rdI_n (by omega)).trans (rdI_n (by omega))).trans c0
         · exact rdI_e ⟨rfl, rfl⟩
         · exact ((rdI_n (by omega)).trans (rdI_n (by omega))).trans e1
         · exact (rdU_n (by omega)).trans (rdU_n (by omega)))
end X8

