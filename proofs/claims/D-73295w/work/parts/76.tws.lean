/-! GuestViewModel: steps of both guests -/
/-- only the bench is another one -/
def TW (m : Int) (f g : Ci) : Prop := ∀ a k, ¬ a = m + 1 → g a k = f a k
theorem TW.tf {m : Int} {f g : Ci} (h : TW m f g) : TF m f g := fun a k q _ => h a k q
theorem TF.t10 {m : Int} {f g : Ci} (h : TF m f g) (p : Int) : g (m + 10) p = f (m + 10) p := h _ _ (by omega) (by unfold scr; omega)
theorem TF.tr {m : Int} {f g : Ci} {v : Vw} (h : TF m f g) (ht : TrOk f m v) : TrOk g m v := fun p a b => (h.t10 p).trans (ht p a b)
theorem TW.sk {m : Int} {f g : Ci} (h : TW m f g) (hs : sk01 f m) : sk01 g m := by
  unfold sk01 at hs ⊢
  rw [h _ _ (by omega)]
  exact hs
/-- of a memory that is told in other words only what is said of it is kept -/
theorem x_nm {G : GW} {d : Nat} {j : MI} {pc : Nat} {L : LV} {S : List DV} {M M' : Mem} {Q : Res → Mem → Prop} (P : Ci → Prop) (h : ∃ g, M' = wI M g ∧ P g) (k : ∀ g, P g → WP G d j pc L S (wI M g) Q) : WP G d j pc L S M' Q := by
  obtain ⟨g, e, h⟩ := h
  subst e
  exact k g h
section X8
variable {G : GW} {d : Nat} {M : Mem} {m a b c p k i what n st pc op : Int} {v : Vw}
theorem s_X8_comes {md by' : Int} (hd : 12 ≤ d) (hT : TwS (msh M) (mcr M) m) (hw : mci M (m + 1) = v) (hi : i = 0 ∨ i = 1) (hg : okGu v i) (hb : 0 ≤ by' ∧ by' < 8) : CS G d mX8_comes [dR m, dI i, dI md, dI by'] M (postN fun M1 => ∃ g, M1 = wI M g ∧ mvT g m = skM (trM (mdM (guM v i) md) by') (mci M m 23) ∧ TA m (mci M) g) := by
  have hT_ := hT; obtain ⟨p0, p1, ⟨c1, c2, c3, c4, c5, c6, c7, c8, c9, c10, c11, c12, c13, c14, c15⟩, ⟨t1, t2, t3, t4, t5, t6, t7, t8, t9, t10, t11, t12, t13, t14, t15⟩⟩ := hT_
  have h3 : 0 ≤ v (guA i + 3) ∧ v (guA i + 3) < 8 := hg.2.2.2.1
  refine CS.mkQ (by decide) (Nat.le_of_ble_eq_true rfl) fun Q hQ => ?_
  have loop : ∀ (t : Nat) (k : Int) (g : Ci), (8 - k).toNat = t → (0 ≤ k) → (k ≤ 8) → (g m 19 = v (guA i + 1) ∧ g m 20 = md ∧ g m 21 = (v (guA i + 3) + by') % 8 ∧ g m 22 = v (guA i + 4) ∧ g m 23 = mci M m 23) → (∀ j, 0 ≤ j → j < k → g (m + 8) ((j + by') % 8) = v (guA i + 5 + j)) → (TA m (mci M) g) → WP G d mX8_comes 43 [some (dR m), some (dI i), some (dI md), some (dI by'), some (dI k)] [] (wI M g) Q := by
    intro t
    induction t using Nat.strongRecOn with
    | _ t ih =>
      intro k g ht h0 h1 hg1 hgc hf
      have hw : g (m + 1) = v := TA.w hf hw
      obtain ⟨g1, g2, g3, g4, g5⟩ := hg1
      refine x_iload dX8_comes_43 rfl ?_
      refine x_bipush dX8_comes_45 rfl ?_
      refine x_icmp_ge (tgt := 77) dX8_comes_47 (by decide) (fun h47 => ?_) (fun h47 => ?_)
      · refine x_vreturn rfl dX8_comes_77 ?_
        refine hQ _ _ ⟨rfl, g, rfl, ?_, hf⟩
        have e : (fun k => g (m + 8) (k % 8)) = fun k => v (guA i + 5 + (k - by') % 8) := funext fun j => by
          have := hgc ((j - by') % 8) (by omega) (by omega)
          rw [show ((j - by') % 8 + by') % 8 = j % 8 by omega] at this
          exact this
        unfold mvT
        rw [g1, g2, g3, g4, g5, e]
        rfl
      · refine x_aload_n dX8_comes_50 rfl rfl ?_
        refine g_getR (kI := 17) rfl dX8_comes_51 fX8_39_8 (by first | assumption | exact hT.2.1) (by first | assumption | exact hT.2.1) ?_
        refine x_iload dX8_comes_54 rfl ?_
        refine x_iload_n dX8_comes_56 rfl rfl ?_
        first | refine x_iaddN dX8_comes_57 (by unfold i32; omega) ?_ | refine x_iadd dX8_comes_57 ?_
        refine x_bipush dX8_comes_58 rfl ?_
        first | refine x_iremN dX8_comes_60 (by omega) (by omega) ?_ | refine x_irem dX8_comes_60 (by omega) ?_
        refine x_aload_n dX8_comes_61 rfl rfl ?_
        refine x_iload_n dX8_comes_62 rfl rfl ?_
        refine x_iconst dX8_comes_63 rfl ?_
        refine x_iload dX8_comes_64 rfl ?_
        first | refine x_iaddN dX8_comes_66 (by unfold i32; omega) ?_ | refine x_iadd dX8_comes_66 ?_
        refine g_callI (vs := [_, _, _]) (d' := d - 1) rfl (s_X8_ofGuest (by omega) hT (by first | exact hw | exact mciI (by omega) hw | exact mciI (by omega) (mciI (by omega) hw) | exact mciI (by omega) (mciI (by omega) (mciI (by omega) hw)) | exact mciI (by omega) (mciI (by omega) (mciI (by omega) (mciI (by omega) hw))) | exact mciC (by omega) hw) (by omega) (by omega)) dX8_comes_67 kX8_384 (by omega) (by decide) rfl (Nat.le_of_ble_eq_true rfl) (rcv_o (by first | assumption | exact hT.2.1) rfl) (fun x67 M67 h67 => ?_)
        obtain ⟨e67, f67⟩ := h67
        have f67' := f67.symm
        subst f67'
        subst e67
        try simp (disch := omega) only [rdI_e, rdI_n, rdC_i, rdC_o, rdW, rdR, rdU_e, rdU_n, rdLW, Int.add_zero]
        refine x_iast (by omega) dX8_comes_70 (by first | assumption | exact hT.2.1) (by omega) (by omega) ?_
        first | refine x_iincN (L' := [some _, some _, some _, some _, some _]) dX8_comes_71 rfl (by decide) (by unfold i32; omega) rfl ?_ | refine x_iinc (L' := [some _, some _, some _, some _, some _]) dX8_comes_71 rfl (by decide) rfl ?_
        refine x_goto (tgt := 43) dX8_comes_74 (by decide) ?_
        refine ih _ (by omega) (k + 1) (up g (m + 8) ((k + by') % 8) _) rfl (by omega) (by omega) ⟨?_, ?_, ?_, ?_, ?_⟩ (fun j i0 i1 => ?_) (fun a' k' q => ?_)
        · simp (disch := omega) only [rdI_e, rdI_n, rdC_i, rdC_o, rdW, rdR, rdU_e, rdU_n]; exact g1
        · simp (disch := omega) only [rdI_e, rdI_n, rdC_i, rdC_o, rdW, rdR, rdU_e, rdU_n]; exact g2
        · simp (disch := omega) only [rdI_e, rdI_n, rdC_i, rdC_o, rdW, rdR, rdU_e, rdU_n]; exact g3
        · simp (disch := omega) only [rdI_e, rdI_n, rdC_i, rdC_o, rdW, rdR, rdU_e, rdU_n]; exact g4
        · simp (disch := omega) only [rdI_e, rdI_n, rdC_i, rdC_o, rdW, rdR, rdU_e, rdU_n]; exact g5
        · by_cases e : j = k
          · subst e
            rw [rdU_e ⟨rfl, rfl⟩, Int.add_assoc]
          · have := hgc j i0 (by omega)
            simp (disch := omega) only [rdI_e, rdI_n, rdC_i, rdC_o, rdW, rdR, rdU_e, rdU_n]
            exact this
        · have := hf a' k' q
          simp (disch := omega) only [rdI_e, rdI_n, rdC_i, rdC_o, rdW, rdR, rdU_e, rdU_n]
          exact this
  refine x_aload_n dX8_comes_0 rfl rfl ?_
  refine x_aload_n dX8_comes_1 rfl rfl ?_
  refine x_iload_n dX8_comes_2 rfl rfl ?_
  refine x_iconst dX8_comes_3 rfl ?_
  refine g_callI (vs := [_, _, _]) (d' := d - 1) rfl (s_X8_ofGuest (by omega) hT (by first | exact hw | exact mciI (by omega) hw | exact mciI (by omega) (mciI (by omega) hw) | exact mciI (by omega) (mciI (by omega) (mciI (by omega) hw)) | exact mciI (by omega) (mciI (by omega) (mciI (by omega) (mciI (by omega) hw))) | exact mciC (by omega) hw) (by omega) (by omega)) dX8_comes_4 kX8_384 (by omega) (by decide) rfl (Nat.le_of_ble_eq_true rfl) (rcv_o (by first | assumption | exact hT.2.1) rfl) (fun x4 M4 h4 => ?_)
  obtain ⟨e4, f4⟩ := h4
  have f4' := f4.symm
  subst f4'
  subst e4
  try simp (disch := omega) only [rdI_e, rdI_n, rdC_i, rdC_o, rdW, rdR, rdU_e, rdU_n, rdLW, Int.add_zero]
  refine g_putI (kI := 19) rfl dX8_comes_7 fX8_286_8 (by first | assumption | exact hT.2.1) ?_
  refine x_aload_n dX8_comes_10 rfl rfl ?_
  refine x_iload_n dX8_comes_11 rfl rfl ?_
  refine g_putI (kI := 20) rfl dX8_comes_12 fX8_289_8 (by first | assumption | exact hT.2.1) ?_
  refine x_aload_n dX8_comes_15 rfl rfl ?_
  refine x_aload_n dX8_comes_16 rfl rfl ?_
  refine x_iload_n dX8_comes_17 rfl rfl ?_
  refine x_iconst dX8_comes_18 rfl ?_
  refine g_callI (vs := [_, _, _]) (d' := d - 1) rfl (s_X8_ofGuest (by omega) hT (by first | exact hw | exact mciI (by omega) hw | exact mciI (by omega) (mciI (by omega) hw) | exact mciI (by omega) (mciI (by omega) (mciI (by omega) hw)) | exact mciI (by omega) (mciI (by omega) (mciI (by omega) (mciI (by omega) hw))) | exact mciC (by omega) hw) (by omega) (by omega)) dX8_comes_19 kX8_384 (by omega) (by decide) rfl (Nat.le_of_ble_eq_true rfl) (rcv_o (by first | assumption | exact hT.2.1) rfl) (fun x19 M19 h19 => ?_)
  obtain ⟨e19, f19⟩ := h19
  have f19' := f19.symm
  subst f19'
  subst e19
  try simp (disch := omega) only [rdI_e, rdI_n, rdC_i, rdC_o, rdW, rdR, rdU_e, rdU_n, rdLW, Int.add_zero]
  refine x_iload_n dX8_comes_22 rfl rfl ?_
  first | refine x_iaddN dX8_comes_23 (by unfold i32; omega) ?_ | refine x_iadd dX8_comes_23 ?_
  refine x_bipush dX8_comes_24 rfl ?_
  first | refine x_iremN dX8_comes_26 (by omega) (by omega) ?_ | refine x_irem dX8_comes_26 (by omega) ?_
  refine g_putI (kI := 21) rfl dX8_comes_27 fX8_283_8 (by first | assumption | exact hT.2.1) ?_
  refine x_aload_n dX8_comes_30 rfl rfl ?_
  refine x_aload_n dX8_comes_31 rfl rfl ?_
  refine x_iload_n dX8_comes_32 rfl rfl ?_
  refine x_iconst dX8_comes_33 rfl ?_
  refine g_callI (vs := [_, _, _]) (d' := d - 1) rfl (s_X8_ofGuest (by omega) hT (by first | exact hw | exact mciI (by omega) hw | exact mciI (by omega) (mciI (by omega) hw) | exact mciI (by omega) (mciI (by omega) (mciI (by omega) hw)) | exact mciI (by omega) (mciI (by omega) (mciI (by omega) (mciI (by omega) hw))) | exact mciC (by omega) hw) (by omega) (by omega)) dX8_comes_34 kX8_384 (by omega) (by decide) rfl (Nat.le_of_ble_eq_true rfl) (rcv_o (by first | assumption | exact hT.2.1) rfl) (fun x34 M34 h34 => ?_)
  obtain ⟨e34, f34⟩ := h34
  have f34' := f34.symm
  subst f34'
  subst e34
  try simp (disch := omega) only [rdI_e, rdI_n, rdC_i, rdC_o, rdW, rdR, rdU_e, rdU_n, rdLW, Int.add_zero]
  refine g_putI (kI := 22) rfl dX8_comes_37 fX8_292_8 (by first | assumption | exact hT.2.1) ?_
  refine x_iconst dX8_comes_40 rfl ?_
  refine x_istore (L' := [some _, some _, some _, some _, some _]) dX8_comes_41 (by decide) rfl ?_
  refine loop _ 0 (up (up (up (up (mci M) m 19 (v (guA i + 1))) m 20 md) m 21 ((v (guA i + 3) + by') % 8)) m 22 (v (guA i + 4))) rfl (by omega) (by omega) ⟨?_, ?_, ?_, ?_, ?_⟩ (fun j _ _ => by omega) (fun a' k' q => ?_)
  all_goals (simp (disch := omega) only [rdI_e, rdI_n, rdC_i, rdC_o, rdW, rdR, rdU_e, rdU_n])
/-- what a machine writes into the row of a guest -/
def goV (v : Vw) (i : Int) (x : Ms) (by' : Int) : Vw := us (blkN (us (us v (guA i + 1) x.1) (guA i + 3) ((x.2.2.1 - by' + 8) % 8)) (guA i + 5) (fun k => x.2.2.2.2.2 (k + by')) 8) (guA i) (nextPc (v (guA i)) x.2.2.2.2.1)
theorem s_X8_goes {by' : Int} {x : Ms} (hd : 12 ≤ d) (hT : TwS (msh M) (mcr M) m) (hw : mci M (m + 1) = v) (hx : mvT (mci M) m = x) (hok : okM x) (hper : perC x.2.2.2.2.2) (hi : i = 0 ∨ i = 1) (hpc : 0 ≤ v (guA i) ∧ v (guA i) ≤ 12) (hb : 0 ≤ by' ∧ by' < 8) : CS G d mX8_goes [dR m, dI i, dI by'] M (postN fun M1 => ∃ g, M1 = wI M g ∧ g (m + 1) = goV v i x by' ∧ TW m (mci M) g) := by
  have hT_ := hT; obtain ⟨p0, p1, ⟨c1, c2, c3, c4, c5, c6, c7, c8, c9, c10, c11, c12, c13, c14, c15⟩, ⟨t1, t2, t3, t4, t5, t6, t7, t8, t9, t10, t11, t12, t13, t14, t15⟩⟩ := hT_
  have o := okM_mvT (hx ▸ hok)
  subst hx
  refine CS.mkQ (by decide) (Nat.le_of_ble_eq_true rfl) fun Q hQ => ?_
  have loop : ∀ (t : Nat) (k : Int) (g : Ci), (8 - k).toNat = t → (0 ≤ k) → (k ≤ 8) → (g (m + 1) = blkN (us (us v (guA i + 1) (mci M m 19)) (guA i + 3) ((mci M m 21 - by' + 8) % 8)) (guA i + 5) (fun k => mci M (m + 8) ((k + by') % 8)) k) → (TW m (mci M) g) → WP G d mX8_goes 38 [some (dR m), some (dI i), some (dI by'), some (dI k)] [] (wI M g) Q := by
    intro t
    induction t using Nat.strongRecOn with
    | _ t ih =>
      intro k g ht h0 h1 hw hf
      have e8 : ∀ j, g (m + 8) j = mci M (m + 8) j := fun j => hf _ _ (by omega)
      have e23 : g m 23 = mci M m 23 := hf _ _ (by omega)
      have epc : (blkN (us (us v (guA i + 1) (mci M m 19)) (guA i + 3) ((mci M m 21 - by' + 8) % 8)) (guA i + 5) (fun k => mci M (m + 8) ((k + by') % 8)) k) (guA i) = v (guA i) := by
        unfold blkN
        rw [if_neg (by omega), us_n (by omega), us_n (by omega)]
      refine x_iload_n dX8_goes_38 rfl rfl ?_
      refine x_bipush dX8_goes_39 rfl ?_
      refine x_icmp_ge (tgt := 73) dX8_goes_41 (by decide) (fun h41 => ?_) (fun h41 => ?_)
      · refine x_aload_n dX8_goes_73 rfl rfl ?_
        refine g_getR (kI := 1) rfl dX8_goes_74 fX8_13_8 (by first | assumption | exact hT.2.1) (by first | assumption | exact hT.2.1) ?_
        refine x_iload_n dX8_goes_77 rfl rfl ?_
        refine x_iconst dX8_goes_78 rfl ?_
        refine g_callI (vs := [_, _]) (d' := d - 1) rfl (s_X8_guestAt (by omega) (by omega) (by omega)) dX8_goes_79 kX8_81 (by omega) (by decide) rfl (Nat.le_of_ble_eq_true rfl) (rcv_n) (fun x79 M79 h79 => ?_)
        obtain ⟨e79, f79⟩ := h79
        have f79' := f79.symm
        subst f79'
        subst e79
        try simp (disch := omega) only [rdI_e, rdI_n, rdC_i, rdC_o, rdW, rdR, rdU_e, rdU_n, rdLW, Int.add_zero, e8, e23]
        refine x_bipush dX8_goes_82 rfl ?_
        refine x_aload_n dX8_goes_84 rfl rfl ?_
        refine x_iload_n dX8_goes_85 rfl rfl ?_
        refine x_iconst dX8_goes_86 rfl ?_
        refine g_callI (vs := [_, _, _]) (d' := d - 1) rfl (s_X8_ofGuest (by omega) hT (by first | exact hw | exact mciI (by omega) hw | exact mciI (by omega) (mciI (by omega) hw) | exact mciI (by omega) (mciI (by omega) (mciI (by omega) hw)) | exact mciI (by omega) (mciI (by omega) (mciI (by omega) (mciI (by omega) hw))) | exact mciC (by omega) hw) (by omega) (by omega)) dX8_goes_87 kX8_384 (by omega) (by decide) rfl (Nat.le_of_ble_eq_true rfl) (rcv_o (by first | assumption | exact hT.2.1) rfl) (fun x87 M87 h87 => ?_)
        obtain ⟨e87, f87⟩ := h87
        have f87' := f87.symm
        subst f87'
        subst e87
        try simp (disch := omega) only [rdI_e, rdI_n, rdC_i, rdC_o, rdW, rdR, rdU_e, rdU_n, rdLW, Int.add_zero, e8, e23]
        rw [epc]
        refine x_aload_n dX8_goes_90 rfl rfl ?_
        refine g_getZ (kI := 23) rfl dX8_goes_91 fX8_295_8 (by first | assumption | exact hT.2.1) ?_
        try simp (disch := omega) only [rdI_e, rdI_n, rdC_i, rdC_o, rdW, rdR, rdU_e, rdU_n, rdLW, Int.add_zero, e8, e23]
        refine x_if_eq (tgt := 101) dX8_goes_94 (by decide) (fun h94 => ?_) (fun h94 => ?_)
        · refine x_iconst dX8_goes_101 rfl ?_
          first | refine x_iaddN dX8_goes_102 (by unfold i32; omega) ?_ | refine x_iadd dX8_goes_102 ?_
          refine g_callI (vs := [_, _]) (d' := d - 1) rfl (s_min (by omega)) dX8_goes_103 kX8_387 (by omega) (by decide) rfl (Nat.le_of_ble_eq_true rfl) (rcv_n) (fun x103 M103 h103 => ?_)
          obtain ⟨e103, f103⟩ := h103
          have f103' := f103.symm
          subst f103'
          refine x_iast (by omega) dX8_goes_106 (by first | assumption | exact hT.2.1) (by omega) (by omega) ?_
          refine x_vreturn rfl dX8_goes_107 ?_
          refine hQ _ _ ⟨rfl, up g (m + 1) (102 + 13 * i) x103, rfl, ?_, fun a' k' q => ?_⟩
          · have hk8 : k = 8 := by omega
            subst hk8
            have e := mciIs (M := wI M g) (i := 102 + 13 * i) (x := x103) hw
            refine e.trans ?_
            have ex : x103 = nextPc (v (guA i)) (mci M m 23) := by
              unfold nextPc
              rcases o.2.2.2.2.1 with q | q
              · rw [q] at h94 ⊢; simp only [Int.reduceEq, if_true, if_false]; split <;> omega
              · rw [q] at h94 ⊢; simp only [Int.reduceEq, if_true, if_false]; split <;> omega
            rw [ex]
            rfl
          · rw [rdU_n (by omega)]
            exact hf a' k' q
        · refine x_iconst dX8_goes_97 rfl ?_
          refine x_goto (tgt := 102) dX8_goes_98 (by decide) ?_
          first | refine x_iaddN dX8_goes_102 (by unfold i32; omega) ?_ | refine x_iadd dX8_goes_102 ?_
          refine g_callI (vs := [_, _]) (d' := d - 1) rfl (s_min (by omega)) dX8_goes_103 kX8_387 (by omega) (by decide) rfl (Nat.le_of_ble_eq_true rfl) (rcv_n) (fun x103 M103 h103 => ?_)
          obtain ⟨e103, f103⟩ := h103
          have f103' := f103.symm
          subst f103'
          refine x_iast (by omega) dX8_goes_106 (by first | assumption | exact hT.2.1) (by omega) (by omega) ?_
          refine x_vreturn rfl dX8_goes_107 ?_
          refine hQ _ _ ⟨rfl, up g (m + 1) (102 + 13 * i) x103, rfl, ?_, fun a' k' q => ?_⟩
          · have hk8 : k = 8 := by omega
            subst hk8
            have e := mciIs (M := wI M g) (i := 102 + 13 * i) (x := x103) hw
            refine e.trans ?_
            have ex : x103 = nextPc (v (guA i)) (mci M m 23) := by
              unfold nextPc
              rcases o.2.2.2.2.1 with q | q
              · rw [q] at h94 ⊢; simp only [Int.reduceEq, if_true, if_false]; split <;> omega
              · rw [q] at h94 ⊢; simp only [Int.reduceEq, if_true, if_false]; split <;> omega
            rw [ex]
            rfl
          · rw [rdU_n (by omega)]
            exact hf a' k' q
      · refine x_aload_n dX8_goes_44 rfl rfl ?_
        refine g_getR (kI := 1) rfl dX8_goes_45 fX8_13_8 (by first | assumption | exact hT.2.1) (by first | assumption | exact hT.2.1) ?_
        refine x_iload_n dX8_goes_48 rfl rfl ?_
        refine x_iconst dX8_goes_49 rfl ?_
        refine x_iload_n dX8_goes_50 rfl rfl ?_
        first | refine x_iaddN dX8_goes_51 (by unfold i32; omega) ?_ | refine x_iadd dX8_goes_51 ?_
        refine g_callI (vs := [_, _]) (d' := d - 1) rfl (s_X8_guestAt (by omega) (by omega) (by omega)) dX8_goes_52 kX8_81 (by omega) (by decide) rfl (Nat.le_of_ble_eq_true rfl) (rcv_n) (fun x52 M52 h52 => ?_)
        obtain ⟨e52, f52⟩ := h52
        have f52' := f52.symm
        subst f52'
        subst e52
        try simp (disch := omega) only [rdI_e, rdI_n, rdC_i, rdC_o, rdW, rdR, rdU_e, rdU_n, rdLW, Int.add_zero, e8, e23]
        refine x_aload_n dX8_goes_55 rfl rfl ?_
        refine g_getR (kI := 17) rfl dX8_goes_56 fX8_39_8 (by first | assumption | exact hT.2.1) (by first | assumption | exact hT.2.1) ?_
        refine x_iload_n dX8_goes_59 rfl rfl ?_
        refine x_iload_n dX8_goes_60 rfl rfl ?_
        first | refine x_iaddN dX8_goes_61 (by unfold i32; omega) ?_ | refine x_iadd dX8_goes_61 ?_
        refine x_bipush dX8_goes_62 rfl ?_
        first | refine x_iremN dX8_goes_64 (by omega) (by omega) ?_ | refine x_irem dX8_goes_64 (by omega) ?_
        refine x_iald dX8_goes_65 (by first | assumption | exact hT.2.1) (by omega) (by omega) ?_
        try simp (disch := omega) only [rdI_e, rdI_n, rdC_i, rdC_o, rdW, rdR, rdU_e, rdU_n, rdLW, Int.add_zero, e8, e23]
        refine x_iast (by omega) dX8_goes_66 (by first | assumption | exact hT.2.1) (by omega) (by omega) ?_
        first | refine x_iincN (L' := [some _, some _, some _, some _]) dX8_goes_67 rfl (by decide) (by unfold i32; omega) rfl ?_ | refine x_iinc (L' := [some _, some _, some _, some _]) dX8_goes_67 rfl (by decide) rfl ?_
        refine x_goto (tgt := 38) dX8_goes_70 (by decide) ?_
        refine ih _ (by omega) (k + 1) (up g (m + 1) (102 + 13 * i + (5 + k)) (mci M (m + 8) ((k + by') % 8))) rfl (by omega) (by omega) ?_ (fun a' k' q => ?_)
        · have e := mciIs (M := wI M g) (i := 102 + 13 * i + (5 + k)) (x := mci M (m + 8) ((k + by') % 8)) hw
          exact e.trans (blkN_s h0 (by unfold guA; omega) rfl)
        · rw [rdU_n (by omega)]
          exact hf a' k' q
  refine x_aload_n dX8_goes_0 rfl rfl ?_
  refine g_getR (kI := 1) rfl dX8_goes_1 fX8_13_8 (by first | assumption | exact hT.2.1) (by first | assumption | exact hT.2.1) ?_
  refine x_iload_n dX8_goes_4 rfl rfl ?_
  refine x_iconst dX8_goes_5 rfl ?_
  refine g_callI (vs := [_, _]) (d' := d - 1) rfl (s_X8_guestAt (by omega) (by omega) (by omega)) dX8_goes_6 kX8_81 (by omega) (by decide) rfl (Nat.le_of_ble_eq_true rfl) (rcv_n) (fun x6 M6 h6 => ?_)
  obtain ⟨e6, f6⟩ := h6
  have f6' := f6.symm
  subst f6'
  subst e6
  try simp (disch := omega) only [rdI_e, rdI_n, rdC_i, rdC_o, rdW, rdR, rdU_e, rdU_n, rdLW, Int.add_zero]
  refine x_aload_n dX8_goes_9 rfl rfl ?_
  refine g_getI (kI := 19) rfl dX8_goes_10 fX8_286_8 (by first | assumption | exact hT.2.1) ?_
  try simp (disch := omega) only [rdI_e, rdI_n, rdC_i, rdC_o, rdW, rdR, rdU_e, rdU_n, rdLW, Int.add_zero]
  refine x_iast (by omega) dX8_goes_13 (by first | assumption | exact hT.2.1) (by omega) (by omega) ?_
  refine x_aload_n dX8_goes_14 rfl rfl ?_
  refine g_getR (kI := 1) rfl dX8_goes_15 fX8_13_8 (by first | assumption | exact hT.2.1) (by first | assumption | exact hT.2.1) ?_
  refine x_iload_n dX8_goes_18 rfl rfl ?_
  refine x_iconst dX8_goes_19 rfl ?_
  refine g_callI (vs := [_, _]) (d' := d - 1) rfl (s_X8_guestAt (by omega) (by omega) (by omega)) dX8_goes_20 kX8_81 (by omega) (by decide) rfl (Nat.le_of_ble_eq_true rfl) (rcv_n) (fun x20 M20 h20 => ?_)
  obtain ⟨e20, f20⟩ := h20
  have f20' := f20.symm
  subst f20'
  subst e20
  try simp (disch := omega) only [rdI_e, rdI_n, rdC_i, rdC_o, rdW, rdR, rdU_e, rdU_n, rdLW, Int.add_zero]
  refine x_aload_n dX8_goes_23 rfl rfl ?_
  refine g_getI (kI := 21) rfl dX8_goes_24 fX8_283_8 (by first | assumption | exact hT.2.1) ?_
  try simp (disch := omega) only [rdI_e, rdI_n, rdC_i, rdC_o, rdW, rdR, rdU_e, rdU_n, rdLW, Int.add_zero]
  refine x_iload_n dX8_goes_27 rfl rfl ?_
  first | refine x_isubN dX8_goes_28 (by unfold i32; omega) ?_ | refine x_isub dX8_goes_28 ?_
  refine x_bipush dX8_goes_29 rfl ?_
  first | refine x_iaddN dX8_goes_31 (by unfold i32; omega) ?_ | refine x_iadd dX8_goes_31 ?_
  refine x_bipush dX8_goes_32 rfl ?_
  first | refine x_iremN dX8_goes_34 (by omega) (by omega) ?_ | refine x_irem dX8_goes_34 (by omega) ?_
  refine x_iast (by omega) dX8_goes_35 (by first | assumption | exact hT.2.1) (by omega) (by omega) ?_
  refine x_iconst dX8_goes_36 rfl ?_
  refine x_istore_n (L' := [some _, some _, some _, some _]) dX8_goes_37 rfl (by decide) rfl ?_
  refine loop _ 0 (up (up (mci M) (m + 1) (102 + 13 * i + 1) (mci M m 19)) (m + 1) (102 + 13 * i + 3) ((mci M m 21 - by' + 8) % 8)) rfl (by omega) (by omega) ?_ (fun a' k' q => ?_)
  · rw [blkN_0]
    exact mciIs (M := mI M (m + 1) (102 + 13 * i + 1) (mci M m 19)) (mciIs hw)
  · simp (disch := omega) only [rdI_e, rdI_n, rdC_i, rdC_o, rdW, rdR, rdU_e, rdU_n]
theorem s_X8_isCaught (hd : 11 ≤ d) (hT : TwS (msh M) (mcr M) m) (hw : mci M (m + 1) = v) (hi : i = 0 ∨ i = 1) : CS G d mX8_isCaught [dR m, dI i] M (postN fun M1 => ∃ g, M1 = wI M g ∧ g (m + 1) = caughtV v i ∧ TW m (mci M) g) := by
  have hT_ := hT; obtain ⟨p0, p1, ⟨c1, c2, c3, c4, c5, c6, c7, c8, c9, c10, c11, c12, c13, c14, c15⟩, ⟨t1, t2, t3, t4, t5, t6, t7, t8, t9, t10, t11, t12, t13, t14, t15⟩⟩ := hT_
  refine CS.mkQ (by decide) (Nat.le_of_ble_eq_true rfl) fun Q hQ => ?_
  refine x_aload_n dX8_isCaught_0 rfl rfl ?_
  refine g_getR (kI := 1) rfl dX8_isCaught_1 fX8_13_8 (by first | assumption | exact hT.2.1) (by first | assumption | exact hT.2.1) ?_
  refine x_iload_n dX8_isCaught_4 rfl rfl ?_
  refine x_iconst dX8_isCaught_5 rfl ?_
  refine g_callI (vs := [_, _]) (d' := d - 1) rfl (s_X8_guestAt (by omega) (by omega) (by omega)) dX8_isCaught_6 kX8_81 (by omega) (by decide) rfl (Nat.le_of_ble_eq_true rfl) (rcv_n) (fun x6 M6 h6 => ?_)
  obtain ⟨e6, f6⟩ := h6
  have f6' := f6.symm
  subst f6'
  subst e6
  try simp (disch := omega) only [rdI_e, rdI_n, rdC_i, rdC_o, rdW, rdR, rdU_e, rdU_n, rdLW, Int.add_zero, hw]
  refine x_iconst dX8_isCaught_9 rfl ?_
  refine x_iast (by omega) dX8_isCaught_10 (by first | assumption | exact hT.2.1) (by omega) (by omega) ?_
  refine x_aload_n dX8_isCaught_11 rfl rfl ?_
  refine g_getR (kI := 1) rfl dX8_isCaught_12 fX8_13_8 (by first | assumption | exact hT.2.1) (by first | assumption | exact hT.2.1) ?_
  refine x_iload_n dX8_isCaught_15 rfl rfl ?_
  refine x_iconst dX8_isCaught_16 rfl ?_
  refine g_callI (vs := [_, _]) (d' := d - 1) rfl (s_X8_guestAt (by omega) (by omega) (by omega)) dX8_isCaught_17 kX8_81 (by omega) (by decide) rfl (Nat.le_of_ble_eq_true rfl) (rcv_n) (fun x17 M17 h17 => ?_)
  obtain ⟨e17, f17⟩ := h17
  have f17' := f17.symm
  subst f17'
  subst e17
  try simp (disch := omega) only [rdI_e, rdI_n, rdC_i, rdC_o, rdW, rdR, rdU_e, rdU_n, rdLW, Int.add_zero, hw]
  refine x_aload_n dX8_isCaught_20 rfl rfl ?_
  refine g_getR (kI := 1) rfl dX8_isCaught_21 fX8_13_8 (by first | assumption | exact hT.2.1) (by first | assumption | exact hT.2.1) ?_
  refine x_iconst dX8_isCaught_24 rfl ?_
  refine x_iald dX8_isCaught_25 (by first | assumption | exact hT.2.1) (by omega) (by omega) ?_
  try simp (disch := omega) only [rdI_e, rdI_n, rdC_i, rdC_o, rdW, rdR, rdU_e, rdU_n, rdLW, Int.add_zero, hw]
  refine x_iast (by omega) dX8_isCaught_26 (by first | assumption | exact hT.2.1) (by omega) (by omega) ?_
  refine x_vreturn rfl dX8_isCaught_27 ?_
  refine hQ _ _ ⟨rfl, exI rfl ⟨?_, fun a' k' q => by simp (disch := omega) only [rdI_e, rdI_n, rdC_i, rdC_o, rdW, rdR, rdU_e, rdU_n]⟩⟩
  refine (mciIs (mciIs hw)).trans ?_
  exact us_cm (by omega)
theorem s_X8_bareSteps (hd : 14 ≤ d) (hT : TwS (msh M) (mcr M) m) (hw : mci M (m + 1) = v) (hv : okB v) (hg : okGu v 0) (hsk : sk01 (mci M) m) : CS G d mX8_bareSteps [dR m] M (postN fun M1 => ∃ g, M1 = wI M g ∧ g (m + 1) = bareV v 0 ∧ TF m (mci M) g ∧ sk01 g m) := by
  have hT_ := hT; obtain ⟨p0, p1, ⟨c1, c2, c3, c4, c5, c6, c7, c8, c9, c10, c11, c12, c13, c14, c15⟩, ⟨t1, t2, t3, t4, t5, t6, t7, t8, t9, t10, t11, t12, t13, t14, t15⟩⟩ := hT_
  have h4 : 0 ≤ v (guA 0 + 4) ∧ v (guA 0 + 4) < 8 := hg.2.2.2.2.1
  have hpc := hg.1
  have hv3 := hv.2.2.2.1
  have hv8 := hv.1
  refine CS.mkQ (by decide) (Nat.le_of_ble_eq_true rfl) fun Q hQ => ?_
  by_cases hh : v 3 ≤ v (guA 0)
  · refine x_aload_n dX8_bareSteps_0 rfl rfl ?_
    refine x_iconst dX8_bareSteps_1 rfl ?_
    refine g_callI (vs := [_, _]) (d' := d - 1) rfl (s_X8_isHalted (by omega) hT (by first | exact hw | exact mciI (by omega) hw | exact mciI (by omega) (mciI (by omega) hw) | exact mciI (by omega) (mciI (by omega) (mciI (by omega) hw)) | exact mciI (by omega) (mciI (by omega) (mciI (by omega) (mciI (by omega) hw))) | exact mciC (by omega) hw) (by omega)) dX8_bareSteps_2 kX8_392 (by omega) (by decide) rfl (Nat.le_of_ble_eq_true rfl) (rcv_o (by first | assumption | exact hT.2.1) rfl) (fun x2 M2 h2 => ?_)
    obtain ⟨e2, f2⟩ := h2
    have f2' := f2.symm
    subst f2'
    subst e2
    try simp (disch := omega) only [rdI_e, rdI_n, rdC_i, rdC_o, rdW, rdR, rdU_e, rdU_n, rdLW, Int.add_zero]
    refine x_if_eq (tgt := 9) dX8_bareSteps_5 (by decide) (fun h5 => ?_) (fun h5 => ?_)
    · try simp only [vP_0, vP_1, vP_n0, vP_n1, Classical.not_not] at h5
      exact absurd hh h5
    · try simp only [vP_0, vP_1, vP_n0, vP_n1, Classical.not_not] at h5
      refine x_vreturn rfl dX8_bareSteps_8 ?_
      refine hQ _ _ ⟨rfl, mci M, rfl, ?_, TF.rfl, hsk⟩
      unfold bareV
      rw [if_pos hh]
      exact hw
  · have hp := hv.pr (v (guA 0)) hpc.1 (by omega)
    have hop := hv.op _ hp.1 hp.2
    have tail : ∀ (g' : Ci) (v1 : Vw), g' (m + 1) = v1 → v1 (guA 0 + 4) = v (guA 0 + 4) → us v1 (guA 0 + 4) ((v (guA 0 + 4) + 1) % 8) = bareV v 0 → TF m (mci M) g' → sk01 g' m → WP G d mX8_bareSteps 83 [some (dR m), some (dI (v (12 + v (guA 0))))] [] (wI M g') Q := by
      intro g' v1 hw e4 e5 hf hs
      refine x_aload_n dX8_bareSteps_83 rfl rfl ?_
      refine g_getR (kI := 1) rfl dX8_bareSteps_84 fX8_13_8 (by first | assumption | exact hT.2.1) (by first | assumption | exact hT.2.1) ?_
      refine x_iconst dX8_bareSteps_87 rfl ?_
      refine x_iconst dX8_bareSteps_88 rfl ?_
      refine g_callI (vs := [_, _]) (d' := d - 1) rfl (s_X8_guestAt (by omega) (by omega) (by omega)) dX8_bareSteps_89 kX8_81 (by omega) (by decide) rfl (Nat.le_of_ble_eq_true rfl) (rcv_n) (fun x89 M89 h89 => ?_)
      obtain ⟨e89, f89⟩ := h89
      have f89' := f89.symm
      subst f89'
      subst e89
      try simp (disch := omega) only [rdI_e, rdI_n, rdC_i, rdC_o, rdW, rdR, rdU_e, rdU_n, rdLW, Int.add_zero]
      refine x_aload_n dX8_bareSteps_92 rfl rfl ?_
      refine x_iconst dX8_bareSteps_93 rfl ?_
      refine x_iconst dX8_bareSteps_94 rfl ?_
      refine g_callI (vs := [_, _, _]) (d' := d - 1) rfl (s_X8_ofGuest (by omega) hT (by first | exact hw | exact mciI (by omega) hw | exact mciI (by omega) (mciI (by omega) hw) | exact mciI (by omega) (mciI (by omega) (mciI (by omega) hw)) | exact mciI (by omega) (mciI (by omega) (mciI (by omega) (mciI (by omega) hw))) | exact mciC (by omega) hw) (by omega) (by omega)) dX8_bareSteps_95 kX8_384 (by omega) (by decide) rfl (Nat.le_of_ble_eq_true rfl) (rcv_o (by first | assumption | exact hT.2.1) rfl) (fun x95 M95 h95 => ?_)
      obtain ⟨e95, f95⟩ := h95
      have f95' := f95.symm
      subst f95'
      subst e95
      try simp (disch := omega) only [rdI_e, rdI_n, rdC_i, rdC_o, rdW, rdR, rdU_e, rdU_n, rdLW, Int.add_zero]
      refine x_iconst dX8_bareSteps_98 rfl ?_
      rw [e4]
      first | refine x_iaddN dX8_bareSteps_99 (by unfold i32; omega) ?_ | refine x_iadd dX8_bareSteps_99 ?_
      refine x_bipush dX8_bareSteps_100 rfl ?_
      first | refine x_iremN dX8_bareSteps_102 (by omega) (by omega) ?_ | refine x_irem dX8_bareSteps_102 (by omega) ?_
      refine x_iast (by omega) dX8_bareSteps_103 (by first | assumption | exact hT.2.1) (by omega) (by omega) ?_
      refine x_vreturn rfl dX8_bareSteps_104 ?_
      refine hQ _ _ ⟨rfl, exI rfl ⟨?_, fun a' k' q1 q2 => ?_, ?_⟩⟩
      · exact (mciIs (M := wI M g') hw).trans e5
      · rw [rdI_n (by omega)]
        exact hf a' k' q1 q2
      · unfold sk01 at hs ⊢
        rw [rdI_n (by omega)]
        exact hs
    by_cases ht : trapsV v (opAtV v 0) (v (guA 0 + 2))
    · refine x_aload_n dX8_bareSteps_0 rfl rfl ?_
      refine x_iconst dX8_bareSteps_1 rfl ?_
      refine g_callI (vs := [_, _]) (d' := d - 1) rfl (s_X8_isHalted (by omega) hT (by first | exact hw | exact mciI (by omega) hw | exact mciI (by omega) (mciI (by omega) hw) | exact mciI (by omega) (mciI (by omega) (mciI (by omega) hw)) | exact mciI (by omega) (mciI (by omega) (mciI (by omega) (mciI (by omega) hw))) | exact mciC (by omega) hw) (by omega)) dX8_bareSteps_2 kX8_392 (by omega) (by decide) rfl (Nat.le_of_ble_eq_true rfl) (rcv_o (by first | assumption | exact hT.2.1) rfl) (fun x2 M2 h2 => ?_)
      obtain ⟨e2, f2⟩ := h2
      have f2' := f2.symm
      subst f2'
      subst e2
      try simp (disch := omega) only [rdI_e, rdI_n, rdC_i, rdC_o, rdW, rdR, rdU_e, rdU_n, rdLW, Int.add_zero, hw]
      refine x_if_eq (tgt := 9) dX8_bareSteps_5 (by decide) (fun h5 => ?_) (fun h5 => ?_)
      · try simp only [vP_0, vP_1, vP_n0, vP_n1, Classical.not_not] at h5
        refine x_aload_n dX8_bareSteps_9 rfl rfl ?_
        refine g_getR (kI := 1) rfl dX8_bareSteps_10 fX8_13_8 (by first | assumption | exact hT.2.1) (by first | assumption | exact hT.2.1) ?_
        refine x_bipush dX8_bareSteps_13 rfl ?_
        refine x_aload_n dX8_bareSteps_15 rfl rfl ?_
        refine x_iconst dX8_bareSteps_16 rfl ?_
        refine x_iconst dX8_bareSteps_17 rfl ?_
        refine g_callI (vs := [_, _, _]) (d' := d - 1) rfl (s_X8_ofGuest (by omega) hT (by first | exact hw | exact mciI (by omega) hw | exact mciI (by omega) (mciI (by omega) hw) | exact mciI (by omega) (mciI (by omega) (mciI (by omega) hw)) | exact mciI (by omega) (mciI (by omega) (mciI (by omega) (mciI (by omega) hw))) | exact mciC (by omega) hw) (by omega) (by omega)) dX8_bareSteps_18 kX8_384 (by omega) (by decide) rfl (Nat.le_of_ble_eq_true rfl) (rcv_o (by first | assumption | exact hT.2.1) rfl) (fun x18 M18 h18 => ?_)
        obtain ⟨e18, f18⟩ := h18
        have f18' := f18.symm
        subst f18'
        subst e18
        try simp (disch := omega) only [rdI_e, rdI_n, rdC_i, rdC_o, rdW, rdR, rdU_e, rdU_n, rdLW, Int.add_zero, hw]
        first | refine x_iaddN dX8_bareSteps_21 (by unfold i32; omega) ?_ | refine x_iadd dX8_bareSteps_21 ?_
        refine x_iald dX8_bareSteps_22 (by first | assumption | exact hT.2.1) (by omega) (by omega) ?_
        try simp (disch := omega) only [rdI_e, rdI_n, rdC_i, rdC_o, rdW, rdR, rdU_e, rdU_n, rdLW, Int.add_zero, hw]
        refine x_istore_n (L' := [some _, some _]) dX8_bareSteps_23 rfl (by decide) rfl ?_
        refine x_aload_n dX8_bareSteps_24 rfl rfl ?_
        refine x_iload_n dX8_bareSteps_25 rfl rfl ?_
        refine x_aload_n dX8_bareSteps_26 rfl rfl ?_
        refine x_iconst dX8_bareSteps_27 rfl ?_
        refine x_iconst dX8_bareSteps_28 rfl ?_
        refine g_callI (vs := [_, _, _]) (d' := d - 1) rfl (s_X8_ofGuest (by omega) hT (by first | exact hw | exact mciI (by omega) hw | exact mciI (by omega) (mciI (by omega) hw) | exact mciI (by omega) (mciI (by omega) (mciI (by omega) hw)) | exact mciI (by omega) (mciI (by omega) (mciI (by omega) (mciI (by omega) hw))) | exact mciC (by omega) hw) (by omega) (by omega)) dX8_bareSteps_29 kX8_384 (by omega) (by decide) rfl (Nat.le_of_ble_eq_true rfl) (rcv_o (by first | assumption | exact hT.2.1) rfl) (fun x29 M29 h29 => ?_)
        obtain ⟨e29, f29⟩ := h29
        have f29' := f29.symm
        subst f29'
        subst e29
        try simp (disch := omega) only [rdI_e, rdI_n, rdC_i, rdC_o, rdW, rdR, rdU_e, rdU_n, rdLW, Int.add_zero, hw]
        refine g_callI (vs := [_, _, _]) (d' := d - 1) rfl (s_X8_trapsIn (by omega) hT (by first | exact hw | exact mciI (by omega) hw | exact mciI (by omega) (mciI (by omega) hw) | exact mciI (by omega) (mciI (by omega) (mciI (by omega) hw)) | exact mciI (by omega) (mciI (by omega) (mciI (by omega) (mciI (by omega) hw))) | exact mciC (by omega) hw) (by omega)) dX8_bareSteps_32 kX8_318 (by omega) (by decide) rfl (Nat.le_of_ble_eq_true rfl) (rcv_o (by first | assumption | exact hT.2.1) rfl) (fun x32 M32 h32 => ?_)
        obtain ⟨e32, f32⟩ := h32
        have f32' := f32.symm
        subst f32'
        subst e32
        try simp (disch := omega) only [rdI_e, rdI_n, rdC_i, rdC_o, rdW, rdR, rdU_e, rdU_n, rdLW, Int.add_zero, hw]
        refine x_if_eq (tgt := 46) dX8_bareSteps_35 (by decide) (fun h35 => ?_) (fun h35 => ?_)
        · try simp only [vP_0, vP_1, vP_n0, vP_n1, Classical.not_not] at h35
          exact absurd ht h35
        · try simp only [vP_0, vP_1, vP_n0, vP_n1, Classical.not_not] at h35
          refine x_aload_n dX8_bareSteps_38 rfl rfl ?_
          refine x_iconst dX8_bareSteps_39 rfl ?_
          refine g_callN (vs := [_, _]) (d' := d - 1) rfl (s_X8_isCaught (by omega) hT (by first | exact hw | exact mciI (by omega) hw | exact mciI (by omega) (mciI (by omega) hw) | exact mciI (by omega) (mciI (by omega) (mciI (by omega) hw)) | exact mciI (by omega) (mciI (by omega) (mciI (by omega) (mciI (by omega) hw))) | exact mciC (by omega) hw) (by omega)) dX8_bareSteps_40 kX8_395 (by omega) (by decide) rfl (Nat.le_of_ble_eq_true rfl) (rcv_o (by first | assumption | exact hT.2.1) rfl) (fun M40 h40 => ?_)
          obtain ⟨g40, hM40, r40, q40⟩ := h40
          refine x_goto (tgt := 83) dX8_bareSteps_43 (by decide) ?_
          subst hM40
          refine tail g40 _ r40 (caughtV_o (by omega) (by omega)) ?_ q40.tf (q40.sk hsk)
          rw [setG_caught]
          unfold bareV
          rw [if_neg hh, if_pos (show opG v (opAtV v 0) = 1 ∧ v (guA 0 + 2) = 0 from ht)]
      · try simp only [vP_0, vP_1, vP_n0, vP_n1, Classical.not_not] at h5
        exact absurd h5 hh
    · refine x_aload_n dX8_bareSteps_0 rfl rfl ?_
      refine x_iconst dX8_bareSteps_1 rfl ?_
      refine g_callI (vs := [_, _]) (d' := d - 1) rfl (s_X8_isHalted (by omega) hT (by first | exact hw | exact mciI (by omega) hw | exact mciI (by omega) (mciI (by omega) hw) | exact mciI (by omega) (mciI (by omega) (mciI (by omega) hw)) | exact mciI (by omega) (mciI (by omega) (mciI (by omega) (mciI (by omega) hw))) | exact mciC (by omega) hw) (by omega)) dX8_bareSteps_2 kX8_392 (by omega) (by decide) rfl (Nat.le_of_ble_eq_true rfl) (rcv_o (by first | assumption | exact hT.2.1) rfl) (fun x2 M2 h2 => ?_)
      obtain ⟨e2, f2⟩ := h2
      have f2' := f2.symm
      subst f2'
      subst e2
      try simp (disch := omega) only [rdI_e, rdI_n, rdC_i, rdC_o, rdW, rdR, rdU_e, rdU_n, rdLW, Int.add_zero, hw]
      refine x_if_eq (tgt := 9) dX8_bareSteps_5 (by decide) (fun h5 => ?_) (fun h5 => ?_)
      · try simp only [vP_0, vP_1, vP_n0, vP_n1, Classical.not_not] at h5
        refine x_aload_n dX8_bareSteps_9 rfl rfl ?_
        refine g_getR (kI := 1) rfl dX8_bareSteps_10 fX8_13_8 (by first | assumption | exact hT.2.1) (by first | assumption | exact hT.2.1) ?_
        refine x_bipush dX8_bareSteps_13 rfl ?_
        refine x_aload_n dX8_bareSteps_15 rfl rfl ?_
        refine x_iconst dX8_bareSteps_16 rfl ?_
        refine x_iconst dX8_bareSteps_17 rfl ?_
        refine g_callI (vs := [_, _, _]) (d' := d - 1) rfl (s_X8_ofGuest (by omega) hT (by first | exact hw | exact mciI (by omega) hw | exact mciI (by omega) (mciI (by omega) hw) | exact mciI (by omega) (mciI (by omega) (mciI (by omega) hw)) | exact mciI (by omega) (mciI (by omega) (mciI (by omega) (mciI (by omega) hw))) | exact mciC (by omega) hw) (by omega) (by omega)) dX8_bareSteps_18 kX8_384 (by omega) (by decide) rfl (Nat.le_of_ble_eq_true rfl) (rcv_o (by first | assumption | exact hT.2.1) rfl) (fun x18 M18 h18 => ?_)
        obtain ⟨e18, f18⟩ := h18
        have f18' := f18.symm
        subst f18'
        subst e18
        try simp (disch := omega) only [rdI_e, rdI_n, rdC_i, rdC_o, rdW, rdR, rdU_e, rdU_n, rdLW, Int.add_zero, hw]
        first | refine x_iaddN dX8_bareSteps_21 (by unfold i32; omega) ?_ | refine x_iadd dX8_bareSteps_21 ?_
        refine x_iald dX8_bareSteps_22 (by first | assumption | exact hT.2.1) (by omega) (by omega) ?_
        try simp (disch := omega) only [rdI_e, rdI_n, rdC_i, rdC_o, rdW, rdR, rdU_e, rdU_n, rdLW, Int.add_zero, hw]
        refine x_istore_n (L' := [some _, some _]) dX8_bareSteps_23 rfl (by decide) rfl ?_
        refine x_aload_n dX8_bareSteps_24 rfl rfl ?_
        refine x_iload_n dX8_bareSteps_25 rfl rfl ?_
        refine x_aload_n dX8_bareSteps_26 rfl rfl ?_
        refine x_iconst dX8_bareSteps_27 rfl ?_
        refine x_iconst dX8_bareSteps_28 rfl ?_
        refine g_callI (vs := [_, _, _]) (d' := d - 1) rfl (s_X8_ofGuest (by omega) hT (by first | exact hw | exact mciI (by omega) hw | exact mciI (by omega) (mciI (by omega) hw) | exact mciI (by omega) (mciI (by omega) (mciI (by omega) hw)) | exact mciI (by omega) (mciI (by omega) (mciI (by omega) (mciI (by omega) hw))) | exact mciC (by omega) hw) (by omega) (by omega)) dX8_bareSteps_29 kX8_384 (by omega) (by decide) rfl (Nat.le_of_ble_eq_true rfl) (rcv_o (by first | assumption | exact hT.2.1) rfl) (fun x29 M29 h29 => ?_)
        obtain ⟨e29, f29⟩ := h29
        have f29' := f29.symm
        subst f29'
        subst e29
        try simp (disch := omega) only [rdI_e, rdI_n, rdC_i, rdC_o, rdW, rdR, rdU_e, rdU_n, rdLW, Int.add_zero, hw]
        refine g_callI (vs := [_, _, _]) (d' := d - 1) rfl (s_X8_trapsIn (by omega) hT (by first | exact hw | exact mciI (by omega) hw | exact mciI (by omega) (mciI (by omega) hw) | exact mciI (by omega) (mciI (by omega) (mciI (by omega) hw)) | exact mciI (by omega) (mciI (by omega) (mciI (by omega) (mciI (by omega) hw))) | exact mciC (by omega) hw) (by omega)) dX8_bareSteps_32 kX8_318 (by omega) (by decide) rfl (Nat.le_of_ble_eq_true rfl) (rcv_o (by first | assumption | exact hT.2.1) rfl) (fun x32 M32 h32 => ?_)
        obtain ⟨e32, f32⟩ := h32
        have f32' := f32.symm
        subst f32'
        subst e32
        try simp (disch := omega) only [rdI_e, rdI_n, rdC_i, rdC_o, rdW, rdR, rdU_e, rdU_n, rdLW, Int.add_zero, hw]
        refine x_if_eq (tgt := 46) dX8_bareSteps_35 (by decide) (fun h35 => ?_) (fun h35 => ?_)
        · try simp only [vP_0, vP_1, vP_n0, vP_n1, Classical.not_not] at h35
          refine x_aload_n dX8_bareSteps_46 rfl rfl ?_
          refine x_iconst dX8_bareSteps_47 rfl ?_
          refine x_aload_n dX8_bareSteps_48 rfl rfl ?_
          refine x_iconst dX8_bareSteps_49 rfl ?_
          refine x_iconst dX8_bareSteps_50 rfl ?_
          refine g_callI (vs := [_, _, _]) (d' := d - 1) rfl (s_X8_ofGuest (by omega) hT (by first | exact hw | exact mciI (by omega) hw | exact mciI (by omega) (mciI (by omega) hw) | exact mciI (by omega) (mciI (by omega) (mciI (by omega) hw)) | exact mciI (by omega) (mciI (by omega) (mciI (by omega) (mciI (by omega) hw))) | exact mciC (by omega) hw) (by omega) (by omega)) dX8_bareSteps_51 kX8_384 (by omega) (by decide) rfl (Nat.le_of_ble_eq_true rfl) (rcv_o (by first | assumption | exact hT.2.1) rfl) (fun x51 M51 h51 => ?_)
          obtain ⟨e51, f51⟩ := h51
          have f51' := f51.symm
          subst f51'
          subst e51
          try simp (disch := omega) only [rdI_e, rdI_n, rdC_i, rdC_o, rdW, rdR, rdU_e, rdU_n, rdLW, Int.add_zero, hw]
          refine x_iconst dX8_bareSteps_54 rfl ?_
          refine g_callN (vs := [_, _, _, _]) (d' := d - 1) rfl (s_X8_comes (by omega) hT hw (Or.inl rfl) hg (by omega)) dX8_bareSteps_55 kX8_398 (by omega) (by decide) rfl (Nat.le_of_ble_eq_true rfl) (rcv_o (by first | assumption | exact hT.2.1) rfl) (fun M55 h55 => ?_)
          obtain ⟨g55, hM55, r55, q55⟩ := h55
          subst hM55
          have r1 : mvT g55 m = skM (guM v 0) (mci M m 23) := by
            rw [r55, trM_0 hg]
            rfl
          have hok : okM (mvT g55 m) := by rw [r1]; exact skM_ok hg.2 hsk
          have hw1 : g55 (m + 1) = v := TA.w q55 hw
          refine x_aload_n dX8_bareSteps_58 rfl rfl ?_
          refine x_iload_n dX8_bareSteps_59 rfl rfl ?_
          refine g_callN (vs := [_, _]) (d' := d - 1) rfl (s_X8_does (M := wI M g55) (by omega) hT hw1 hok hop (by omega)) dX8_bareSteps_60 kX8_325 (by omega) (by decide) rfl (Nat.le_of_ble_eq_true rfl) (rcv_o (by first | assumption | exact hT.2.1) rfl) (fun M60 h60 => ?_)
          obtain ⟨g60, hM60, r60, q60⟩ := h60
          subst hM60
          have r2 : mvT g60 m = opD v (opAtV v 0) (guM v 0) := r60.trans (by rw [mci_wI, r1]; rfl)
          have ho2 : okM (opD v (opAtV v 0) (guM v 0)) := opD_ok hop hg.2
          have hw2 : g60 (m + 1) = v := TA.w q60 hw1
          have e20 : g60 m 20 = (opD v (opAtV v 0) (guM v 0)).2.1 := congrArg (fun y : Ms => y.2.1) r2
          refine x_aload_n dX8_bareSteps_63 rfl rfl ?_
          refine g_getR (kI := 1) rfl dX8_bareSteps_64 fX8_13_8 (by first | assumption | exact hT.2.1) (by first | assumption | exact hT.2.1) ?_
          refine x_iconst dX8_bareSteps_67 rfl ?_
          refine x_iconst dX8_bareSteps_68 rfl ?_
          refine g_callI (vs := [_, _]) (d' := d - 1) rfl (s_X8_guestAt (by omega) (by omega) (by omega)) dX8_bareSteps_69 kX8_81 (by omega) (by decide) rfl (Nat.le_of_ble_eq_true rfl) (rcv_n) (fun x69 M69 h69 => ?_)
          obtain ⟨e69, f69⟩ := h69
          have f69' := f69.symm
          subst f69'
          subst e69
          try simp (disch := omega) only [rdI_e, rdI_n, rdC_i, rdC_o, rdW, rdR, rdU_e, rdU_n, rdLW, Int.add_zero, hw]
          refine x_aload_n dX8_bareSteps_72 rfl rfl ?_
          refine g_getI (kI := 20) rfl dX8_bareSteps_73 fX8_289_8 (by first | assumption | exact hT.2.1) ?_
          try simp (disch := omega) only [rdI_e, rdI_n, rdC_i, rdC_o, rdW, rdR, rdU_e, rdU_n, rdLW, Int.add_zero, hw]
          rw [e20]
          refine x_iast (by omega) dX8_bareSteps_76 (by first | assumption | exact hT.2.1) (by omega) (by omega) ?_
          refine x_nm (M := M) (fun g => g (m + 1) = us v (guA 0 + 2) (opD v (opAtV v 0) (guM v 0)).2.1 ∧ mvT g m = opD v (opAtV v 0) (guM v 0) ∧ TF m (mci M) g) ⟨up g60 (m + 1) (102 + 13 * 0 + 2) (opD v (opAtV v 0) (guM v 0)).2.1, rfl, mciIs (M := wI M g60) hw2, ?_, fun a' k' q1 q2 => ?_⟩ ?_
          · rw [← r2]
            unfold mvT
            simp (disch := omega) only [rdI_e, rdI_n, rdC_i, rdC_o, rdW, rdR, rdU_e, rdU_n]
          · rw [rdU_n (by omega)]
            exact (TE.trans q55.te q60.te) a' k' q2
          rintro g3 ⟨w3, r3, q3⟩
          refine x_aload_n dX8_bareSteps_77 rfl rfl ?_
          refine x_iconst dX8_bareSteps_78 rfl ?_
          refine x_iconst dX8_bareSteps_79 rfl ?_
          refine g_callN (vs := [_, _, _]) (d' := d - 1) rfl (s_X8_goes (M := wI M g3) (by omega) hT w3 r3 ho2 (opD_perC (fun k => by show v _ = v _; rw [show k % 8 % 8 = k % 8 by omega])) (Or.inl rfl) (by rw [us_n (by omega)]; exact hpc) (by omega)) dX8_bareSteps_80 kX8_402 (by omega) (by decide) rfl (Nat.le_of_ble_eq_true rfl) (rcv_o (by first | assumption | exact hT.2.1) rfl) (fun M80 h80 => ?_)
          obtain ⟨g80, hM80, r80, q80⟩ := h80
          subst hM80
          refine WP.mem (M1 := wI M g80) rfl (tail g80 _ r80 ?_ ?_ (TF.trans q3 q80.tf) ?_)
          · unfold goV blkN
            rw [us_n (by omega), if_neg (by omega), us_n (by omega), us_n (by omega), us_n (by omega)]
          · unfold goV
            rw [setG_us (x := opD v (opAtV v 0) (guM v 0)) (v := v) (fun k q => us_n (by omega)) (us_e rfl) rfl (by have := ho2.2.2.1; omega) (fun k _ _ => by show _ = _; rw [Int.add_zero]), us_n (by omega)]
            unfold bareV
            rw [if_neg hh, if_neg (show ¬ (opG v (opAtV v 0) = 1 ∧ v (guA 0 + 2) = 0) from ht)]
          · have e : g80 m 23 = (opD v (opAtV v 0) (guM v 0)).2.2.2.2.1 := (q80 _ _ (by omega)).trans (congrArg (fun y : Ms => y.2.2.2.2.1) r3)
            unfold sk01
            rw [e]
            exact ho2.2.2.2.2.1
        · try simp only [vP_0, vP_1, vP_n0, vP_n1, Classical.not_not] at h35
          exact absurd h35 ht
      · try simp only [vP_0, vP_1, vP_n0, vP_n1, Classical.not_not] at h5
        exact absurd h5 hh
theorem s_X8_areAlike (hd : 12 ≤ d) (hT : TwS (msh M) (mcr M) m) (hw : mci M (m + 1) = v) : CS G d mX8_areAlike [dR m] M (pur M (vP (likeG v))) := by
  refine CS.mkQ (by decide) (Nat.le_of_ble_eq_true rfl) fun Q hQ => ?_
  have loop : ∀ (t : Nat) (k y : Int), (13 - k).toNat = t → (0 ≤ k) → (k ≤ 13) → (y = vP (∀ j, 0 ≤ j → j < k → j = 4 ∨ v (guA 0 + j) = v (guA 1 + j))) → WP G d mX8_areAlike 4 [some (dR m), some (dI y), some (dI k)] [] (M) Q := by
    intro t
    induction t using Nat.strongRecOn with
    | _ t ih =>
      intro k y ht h0 h1 hy
      have hy01 : y = 0 ∨ y = 1 := by rw [hy]; exact vP_r _
      refine x_iload_n dX8_areAlike_4 rfl rfl ?_
      refine x_bipush dX8_areAlike_5 rfl ?_
      refine x_icmp_ge (tgt := 46) dX8_areAlike_7 (by decide) (fun h7 => ?_) (fun h7 => ?_)
      · refine x_iload_n dX8_areAlike_46 rfl rfl ?_
        refine x_zreturn (by exact hy01) rfl dX8_areAlike_47 ?_
        refine hQ _ _ ⟨_, rfl, ?_, rfl⟩
        rw [hy, show k = 13 by omega]
        exact vP_c likeG_13.symm
      · refine x_iload_n dX8_areAlike_10 rfl rfl ?_
        refine x_if_eq (tgt := 38) dX8_areAlike_11 (by decide) (fun h11 => ?_) (fun h11 => ?_)
        · refine x_iconst dX8_areAlike_38 rfl ?_
          refine x_istore_n (L' := [some _, some _, some _]) dX8_areAlike_39 rfl (by decide) rfl ?_
          first | refine x_iincN (L' := [some _, some _, some _]) dX8_areAlike_40 rfl (by decide) (by unfold i32; omega) rfl ?_ | refine x_iinc (L' := [some _, some _, some _]) dX8_areAlike_40 rfl (by decide) rfl ?_
          refine x_goto (tgt := 4) dX8_areAlike_43 (by decide) ?_
          refine ih _ (by omega) (k + 1) _ rfl (by omega) (by omega) ?_
          rw [hy] at h11
          first
          | (have h11' := vP_0.mp h11
             exact (vP_f fun q => h11' fun j j0 j1 => q j j0 (by omega)).symm)
          | (have h11' := vP_n0.mp h11
             refine (vP_t fun j j0 j1 => ?_).symm
             by_cases e : j = k
             · subst e
               first | exact Or.inl h16 | exact Or.inr h31
             · exact h11' j j0 (by omega))
          | (refine (vP_f fun q => ?_).symm
             rcases q k h0 (by omega) with y | y
             · exact h16 y
             · exact h31 y)
        · refine x_iload_n dX8_areAlike_14 rfl rfl ?_
          refine x_iconst dX8_areAlike_15 rfl ?_
          refine x_icmp_eq (tgt := 34) dX8_areAlike_16 (by decide) (fun h16 => ?_) (fun h16 => ?_)
          · refine x_iconst dX8_areAlike_34 rfl ?_
            refine x_goto (tgt := 39) dX8_areAlike_35 (by decide) ?_
            refine x_istore_n (L' := [some _, some _, some _]) dX8_areAlike_39 rfl (by decide) rfl ?_
            first | refine x_iincN (L' := [some _, some _, some _]) dX8_areAlike_40 rfl (by decide) (by unfold i32; omega) rfl ?_ | refine x_iinc (L' := [some _, some _, some _]) dX8_areAlike_40 rfl (by decide) rfl ?_
            refine x_goto (tgt := 4) dX8_areAlike_43 (by decide) ?_
            refine ih _ (by omega) (k + 1) _ rfl (by omega) (by omega) ?_
            rw [hy] at h11
            first
            | (have h11' := vP_0.mp h11
               exact (vP_f fun q => h11' fun j j0 j1 => q j j0 (by omega)).symm)
            | (have h11' := vP_n0.mp h11
               refine (vP_t fun j j0 j1 => ?_).symm
               by_cases e : j = k
               · subst e
                 first | exact Or.inl h16 | exact Or.inr h31
               · exact h11' j j0 (by omega))
            | (refine (vP_f fun q => ?_).symm
               rcases q k h0 (by omega) with y | y
               · exact h16 y
               · exact h31 y)
          · refine x_aload_n dX8_areAlike_19 rfl rfl ?_
            refine x_iconst dX8_areAlike_20 rfl ?_
            refine x_iload_n dX8_areAlike_21 rfl rfl ?_
            refine g_callI (vs := [_, _, _]) (d' := d - 1) rfl (s_X8_ofGuest (by omega) hT (by first | exact hw | exact mciI (by omega) hw | exact mciI (by omega) (mciI (by omega) hw) | exact mciI (by omega) (mciI (by omega) (mciI (by omega) hw)) | exact mciI (by omega) (mciI (by omega) (mciI (by omega) (mciI (by omega) hw))) | exact mciC (by omega) hw) (by omega) (by omega)) dX8_areAlike_22 kX8_384 (by omega) (by decide) rfl (Nat.le_of_ble_eq_true rfl) (rcv_o (by first | assumption | exact hT.2.1) rfl) (fun x22 M22 h22 => ?_)
            obtain ⟨e22, f22⟩ := h22
            have f22' := f22.symm
            subst f22'
            subst e22
            refine x_aload_n dX8_areAlike_25 rfl rfl ?_
            refine x_iconst dX8_areAlike_26 rfl ?_
            refine x_iload_n dX8_areAlike_27 rfl rfl ?_
            refine g_callI (vs := [_, _, _]) (d' := d - 1) rfl (s_X8_ofGuest (by omega) hT (by first | exact hw | exact mciI (by omega) hw | exact mciI (by omega) (mciI (by omega) hw) | exact mciI (by omega) (mciI (by omega) (mciI (by omega) hw)) | exact mciI (by omega) (mciI (by omega) (mciI (by omega) (mciI (by omega) hw))) | exact mciC (by omega) hw) (by omega) (by omega)) dX8_areAlike_28 kX8_384 (by omega) (by decide) rfl (Nat.le_of_ble_eq_true rfl) (rcv_o (by first | assumption | exact hT.2.1) rfl) (fun x28 M28 h28 => ?_)
            obtain ⟨e28, f28⟩ := h28
            have f28' := f28.symm
            subst f28'
            subst e28
            refine x_icmp_ne (tgt := 38) dX8_areAlike_31 (by decide) (fun h31 => ?_) (fun h31 => ?_)
            · refine x_iconst dX8_areAlike_38 rfl ?_
              refine x_istore_n (L' := [some _, some _, some _]) dX8_areAlike_39 rfl (by decide) rfl ?_
              first | refine x_iincN (L' := [some _, some _, some _]) dX8_areAlike_40 rfl (by decide) (by unfold i32; omega) rfl ?_ | refine x_iinc (L' := [some _, some _, some _]) dX8_areAlike_40 rfl (by decide) rfl ?_
              refine x_goto (tgt := 4) dX8_areAlike_43 (by decide) ?_
              refine ih _ (by omega) (k + 1) _ rfl (by omega) (by omega) ?_
              rw [hy] at h11
              first
              | (have h11' := vP_0.mp h11
                 exact (vP_f fun q => h11' fun j j0 j1 => q j j0 (by omega)).symm)
              | (have h11' := vP_n0.mp h11
                 refine (vP_t fun j j0 j1 => ?_).symm
                 by_cases e : j = k
                 · subst e
                   first | exact Or.inl h16 | exact Or.inr h31
                 · exact h11' j j0 (by omega))
              | (refine (vP_f fun q => ?_).symm
                 rcases q k h0 (by omega) with y | y
                 · exact h16 y
                 · exact h31 y)
            · refine x_iconst dX8_areAlike_34 rfl ?_
              refine x_goto (tgt := 39) dX8_areAlike_35 (by decide) ?_
              refine x_istore_n (L' := [some _, some _, some _]) dX8_areAlike_39 rfl (by decide) rfl ?_
              first | refine x_iincN (L' := [some _, some _, some _]) dX8_areAlike_40 rfl (by decide) (by unfold i32; omega) rfl ?_ | refine x_iinc (L' := [some _, some _, some _]) dX8_areAlike_40 rfl (by decide) rfl ?_
              refine x_goto (tgt := 4) dX8_areAlike_43 (by decide) ?_
              refine ih _ (by omega) (k + 1) _ rfl (by omega) (by omega) ?_
              rw [hy] at h11
              first
              | (have h11' := vP_0.mp h11
                 exact (vP_f fun q => h11' fun j j0 j1 => q j j0 (by omega)).symm)
              | (have h11' := vP_n0.mp h11
                 refine (vP_t fun j j0 j1 => ?_).symm
                 by_cases e : j = k
                 · subst e
                   first | exact Or.inl h16 | exact Or.inr h31
                 · exact h11' j j0 (by omega))
              | (refine (vP_f fun q => ?_).symm
                 rcases q k h0 (by omega) with y | y
                 · exact h16 y
                 · exact h31 y)
  refine x_iconst dX8_areAlike_0 rfl ?_
  refine x_istore_n (L' := [some _, some _, none]) dX8_areAlike_1 rfl (by decide) rfl ?_
  refine x_iconst dX8_areAlike_2 rfl ?_
  refine x_istore_n (L' := [some _, some _, some _]) dX8_areAlike_3 rfl (by decide) rfl ?_
  exact loop _ 0 1 rfl (by omega) (by omega) (vP_t fun j _ _ => by omega).symm
theorem s_X8_isTold (hd : 11 ≤ d) (hT : TwS (msh M) (mcr M) m) (hw : mci M (m + 1) = v) (h10 : 0 ≤ v 10 ∧ v 10 ≤ 60) : CS G d mX8_isTold [dR m, dI op, dI what, dI pc] M (postN fun M1 => ∃ g, M1 = wI M g ∧ g (m + 1) = tellV v op what pc ∧ TW m (mci M) g) := by
  have hT_ := hT; obtain ⟨p0, p1, ⟨c1, c2, c3, c4, c5, c6, c7, c8, c9, c10, c11, c12, c13, c14, c15⟩, ⟨t1, t2, t3, t4, t5, t6, t7, t8, t9, t10, t11, t12, t13, t14, t15⟩⟩ := hT_
  refine CS.mkQ (by decide) (Nat.le_of_ble_eq_true rfl) fun Q hQ => ?_
  have loop : ∀ (t : Nat) (k : Int) (g : Ci), (k - 3).toNat = t → (3 ≤ k) → (k ≤ 239) → (g (m + 1) = shV v k) → (TW m (mci M) g) → WP G d mX8_isTold 5 [some (dR m), some (dI op), some (dI what), some (dI pc), some (dI k)] [] (wI M g) Q := by
    intro t
    induction t using Nat.strongRecOn with
    | _ t ih =>
      intro k g ht h0 h1 hw hf
      by_cases hk : 4 ≤ k
      · have er : shV v k (128 + k - 4) = v (128 + k - 4) := if_neg (by omega)
        refine x_iload dX8_isTold_5 rfl ?_
        refine x_iconst dX8_isTold_7 rfl ?_
        refine x_icmp_lt (tgt := 41) dX8_isTold_8 (by decide) (fun h8 => ?_) (fun h8 => ?_)
        · omega
        · refine x_aload_n dX8_isTold_11 rfl rfl ?_
          refine g_getR (kI := 1) rfl dX8_isTold_12 fX8_13_8 (by first | assumption | exact hT.2.1) (by first | assumption | exact hT.2.1) ?_
          refine x_sipush dX8_isTold_15 rfl ?_
          refine x_iload dX8_isTold_18 rfl ?_
          first | refine x_iaddN dX8_isTold_20 (by unfold i32; omega) ?_ | refine x_iadd dX8_isTold_20 ?_
          refine x_aload_n dX8_isTold_21 rfl rfl ?_
          refine g_getR (kI := 1) rfl dX8_isTold_22 fX8_13_8 (by first | assumption | exact hT.2.1) (by first | assumption | exact hT.2.1) ?_
          refine x_sipush dX8_isTold_25 rfl ?_
          refine x_iload dX8_isTold_28 rfl ?_
          first | refine x_iaddN dX8_isTold_30 (by unfold i32; omega) ?_ | refine x_iadd dX8_isTold_30 ?_
          refine x_iconst dX8_isTold_31 rfl ?_
          first | refine x_isubN dX8_isTold_32 (by unfold i32; omega) ?_ | refine x_isub dX8_isTold_32 ?_
          refine x_iald dX8_isTold_33 (by first | assumption | exact hT.2.1) (by omega) (by omega) ?_
          try simp (disch := omega) only [rdI_e, rdI_n, rdC_i, rdC_o, rdW, rdR, rdU_e, rdU_n, rdLW, Int.add_zero, hw, er]
          refine x_iast (by omega) dX8_isTold_34 (by first | assumption | exact hT.2.1) (by omega) (by omega) ?_
          first | refine x_iincN (L' := [some _, some _, some _, some _, some _]) dX8_isTold_35 rfl (by decide) (by unfold i32; omega) rfl ?_ | refine x_iinc (L' := [some _, some _, some _, some _, some _]) dX8_isTold_35 rfl (by decide) rfl ?_
          refine x_goto (tgt := 5) dX8_isTold_38 (by decide) ?_
          refine ih _ (by omega) (k + -1) (up g (m + 1) (128 + k) (v (128 + k - 4))) rfl (by omega) (by omega) ?_ (fun a' k' q => ?_)
          · have e := mciIs (M := wI M g) (i := 128 + k) (x := v (128 + k - 4)) hw
            exact e.trans (shV_s (by omega) rfl rfl)
          · rw [rdU_n (by omega)]
            exact hf a' k' q
      · have hk3 : k = 3 := by omega
        subst hk3
        have e8 : shV v 3 8 = v 8 := if_neg (by omega)
        have e10 : shV v 3 10 = v 10 := if_neg (by omega)
        refine x_iload dX8_isTold_5 rfl ?_
        refine x_iconst dX8_isTold_7 rfl ?_
        refine x_icmp_lt (tgt := 41) dX8_isTold_8 (by decide) (fun h8 => ?_) (fun h8 => ?_)
        · refine x_aload_n dX8_isTold_41 rfl rfl ?_
          refine g_getR (kI := 1) rfl dX8_isTold_42 fX8_13_8 (by first | assumption | exact hT.2.1) (by first | assumption | exact hT.2.1) ?_
          refine x_sipush dX8_isTold_45 rfl ?_
          refine x_aload_n dX8_isTold_48 rfl rfl ?_
          refine g_getR (kI := 1) rfl dX8_isTold_49 fX8_13_8 (by first | assumption | exact hT.2.1) (by first | assumption | exact hT.2.1) ?_
          refine x_bipush dX8_isTold_52 rfl ?_
          refine x_iald dX8_isTold_54 (by first | assumption | exact hT.2.1) (by omega) (by omega) ?_
          try simp (disch := omega) only [rdI_e, rdI_n, rdC_i, rdC_o, rdW, rdR, rdU_e, rdU_n, rdLW, Int.add_zero, hw, e8, e10]
          refine x_iast (by omega) dX8_isTold_55 (by first | assumption | exact hT.2.1) (by omega) (by omega) ?_
          refine x_aload_n dX8_isTold_56 rfl rfl ?_
          refine g_getR (kI := 1) rfl dX8_isTold_57 fX8_13_8 (by first | assumption | exact hT.2.1) (by first | assumption | exact hT.2.1) ?_
          refine x_sipush dX8_isTold_60 rfl ?_
          refine x_iload_n dX8_isTold_63 rfl rfl ?_
          refine x_iast (by omega) dX8_isTold_64 (by first | assumption | exact hT.2.1) (by omega) (by omega) ?_
          refine x_aload_n dX8_isTold_65 rfl rfl ?_
          refine g_getR (kI := 1) rfl dX8_isTold_66 fX8_13_8 (by first | assumption | exact hT.2.1) (by first | assumption | exact hT.2.1) ?_
          refine x_sipush dX8_isTold_69 rfl ?_
          refine x_iload_n dX8_isTold_72 rfl rfl ?_
          refine x_iast (by omega) dX8_isTold_73 (by first | assumption | exact hT.2.1) (by omega) (by omega) ?_
          refine x_aload_n dX8_isTold_74 rfl rfl ?_
          refine g_getR (kI := 1) rfl dX8_isTold_75 fX8_13_8 (by first | assumption | exact hT.2.1) (by first | assumption | exact hT.2.1) ?_
          refine x_sipush dX8_isTold_78 rfl ?_
          refine x_iload_n dX8_isTold_81 rfl rfl ?_
          refine x_iast (by omega) dX8_isTold_82 (by first | assumption | exact hT.2.1) (by omega) (by omega) ?_
          refine x_aload_n dX8_isTold_83 rfl rfl ?_
          refine g_getR (kI := 1) rfl dX8_isTold_84 fX8_13_8 (by first | assumption | exact hT.2.1) (by first | assumption | exact hT.2.1) ?_
          refine x_bipush dX8_isTold_87 rfl ?_
          refine x_bipush dX8_isTold_89 rfl ?_
          refine x_aload_n dX8_isTold_91 rfl rfl ?_
          refine g_getR (kI := 1) rfl dX8_isTold_92 fX8_13_8 (by first | assumption | exact hT.2.1) (by first | assumption | exact hT.2.1) ?_
          refine x_bipush dX8_isTold_95 rfl ?_
          refine x_iald dX8_isTold_97 (by first | assumption | exact hT.2.1) (by omega) (by omega) ?_
          try simp (disch := omega) only [rdI_e, rdI_n, rdC_i, rdC_o, rdW, rdR, rdU_e, rdU_n, rdLW, Int.add_zero, hw, e8, e10]
          refine x_iconst dX8_isTold_98 rfl ?_
          first | refine x_iaddN dX8_isTold_99 (by unfold i32; omega) ?_ | refine x_iadd dX8_isTold_99 ?_
          refine g_callI (vs := [_, _]) (d' := d - 1) rfl (s_min (by omega)) dX8_isTold_100 kX8_387 (by omega) (by decide) rfl (Nat.le_of_ble_eq_true rfl) (rcv_n) (fun x100 M100 h100 => ?_)
          obtain ⟨e100, f100⟩ := h100
          have f100' := f100.symm
          subst f100'
          refine x_iast (by omega) dX8_isTold_103 (by first | assumption | exact hT.2.1) (by omega) (by omega) ?_
          refine x_vreturn rfl dX8_isTold_104 ?_
          refine hQ _ _ ⟨rfl, exI rfl ⟨?_, fun a' k' q => ?_⟩⟩
          · refine (mciIs (mciIs (mciIs (mciIs (mciIs (M := wI M g) hw))))).trans ?_
            have ex : x100 = (if v 10 < 60 then v 10 + 1 else 60) := by split <;> omega
            rw [ex]
            exact tellV_us
          · have := hf a' k' q
            simp (disch := omega) only [rdI_e, rdI_n, rdC_i, rdC_o, rdW, rdR, rdU_e, rdU_n]
            exact this
        · omega
  refine x_sipush dX8_isTold_0 rfl ?_
  refine x_istore (L' := [some _, some _, some _, some _, some _]) dX8_isTold_3 (by decide) rfl ?_
  exact loop _ 239 (mci M) rfl (by omega) (by omega) (hw.trans shV_0.symm) (fun _ _ _ => rfl)
end X8

