/-! GuestViewModel: ops two by two -/
theorem clr_c {s k : Int} (hs : 0 ≤ s ∧ s < 256) (hk : 0 ≤ k ∧ k < 8) : jand s (jxor (jshl 1 k) (-1)) = clrI s k := by
  rw [jshl_1 (by omega), clr_e hs hk]
  rfl
section X8
variable {G : GW} {d : Nat} {M : Mem} {m a b c p k i what n st pc op : Int} {v : Vw}
theorem s_X8_pairedBy {s o : Int} (hd : 15 ≤ d) (hT : TwS (msh M) (mcr M) m) (hw : mci M (m + 1) = v) (hv : okB v) (hs : 0 < s ∧ s < 256) (h4 : s < pw (v 0)) (ho : -1 ≤ o ∧ o < v 0) (hl : ∀ j, 0 ≤ j → j < s → mci M (m + 14) j = tT v j) : CS G d mX8_pairedBy [dR m, dI s, dI o] M (pur M (cdP v (tT v) s o)) := by
  have hv0 := hv.1
  have hl0 := lo0_r (x := s) (by omega) (by omega)
  have hl1 := lo_lt hv0 hs h4
  have r1 := clr_r (s := s) (by omega) hl0 (lo0_b hs)
  have hT_ := hT; obtain ⟨p0, p1, ⟨c1, c2, c3, c4, c5, c6, c7, c8, c9, c10, c11, c12, c13, c14, c15⟩, ⟨t1, t2, t3, t4, t5, t6, t7, t8, t9, t10, t11, t12, t13, t14, t15⟩⟩ := hT_
  refine CS.mkQ (by decide) (Nat.le_of_ble_eq_true rfl) fun Q hQ => ?_
  by_cases q : o = -1
  · refine x_iload_n dX8_pairedBy_0 rfl rfl ?_
    refine g_callI (vs := [_]) (d' := d - 1) rfl (s_X8_firstOf (by omega) (by omega)) dX8_pairedBy_1 kX8_506 (by omega) (by decide) rfl (Nat.le_of_ble_eq_true rfl) (rcv_n) (fun x1 M1 h1 => ?_)
    obtain ⟨e1, f1⟩ := h1
    have f1' := f1.symm
    subst f1'
    subst e1
    refine x_istore_n (L' := [some _, some _, some _, some _, none]) dX8_pairedBy_4 rfl (by decide) rfl ?_
    refine x_iload_n dX8_pairedBy_5 rfl rfl ?_
    refine x_iconst dX8_pairedBy_6 rfl ?_
    refine x_iload_n dX8_pairedBy_7 rfl rfl ?_
    refine x_ishl dX8_pairedBy_8 ?_
    refine x_iconst dX8_pairedBy_9 rfl ?_
    refine x_ixor dX8_pairedBy_10 ?_
    refine x_iand dX8_pairedBy_11 ?_
    rw [clr_c (by omega) (by omega)]
    refine x_istore (L' := [some _, some _, some _, some _, some _]) dX8_pairedBy_12 (by decide) rfl ?_
    refine x_iload_n dX8_pairedBy_14 rfl rfl ?_
    refine x_iconst dX8_pairedBy_15 rfl ?_
    refine x_icmp_ne (tgt := 27) dX8_pairedBy_16 (by decide) (fun h16 => ?_) (fun h16 => ?_)
    · exact absurd q h16
    · refine x_aload_n dX8_pairedBy_19 rfl rfl ?_
      refine g_getR (kI := 30) rfl dX8_pairedBy_20 fX8_58_8 (by first | assumption | exact hT.2.1) (by first | assumption | exact hT.2.1) ?_
      refine x_iload dX8_pairedBy_23 rfl ?_
      refine x_iald dX8_pairedBy_25 (by first | assumption | exact hT.2.1) (by omega) (by omega) ?_
      refine x_ireturn rfl dX8_pairedBy_26 ?_
      refine hQ _ _ ⟨_, rfl, ?_, rfl⟩
      unfold cdP
      rw [if_pos q, ← hl _ r1.1 r1.2]
  · have e1 : opN v (lo0 s) = v (30 + 9 * lo0 s + 0) := congrArg v (by omega)
    have e2 : opN v o = v (30 + 9 * o + 0) := congrArg v (by omega)
    have n1 := (hv.op (lo0 s) (by omega) (by omega)).1
    have n2 := (hv.op o (by omega) (by omega)).1
    by_cases qb : bitI (clrI s (lo0 s)) o = 1
    · have r2 := clr_r (s := clrI s (lo0 s)) (by omega) (k := o) (by omega) qb
      have rT := tT_r hv (n := 256) (s := clrI (clrI s (lo0 s)) o) (by omega) (by omega) (by omega) (by omega)
      have eT := hl (clrI (clrI s (lo0 s)) o) (by omega) (by omega)
      refine x_iload_n dX8_pairedBy_0 rfl rfl ?_
      refine g_callI (vs := [_]) (d' := d - 1) rfl (s_X8_firstOf (by omega) (by omega)) dX8_pairedBy_1 kX8_506 (by omega) (by decide) rfl (Nat.le_of_ble_eq_true rfl) (rcv_n) (fun x1 M1 h1 => ?_)
      obtain ⟨e1, f1⟩ := h1
      have f1' := f1.symm
      subst f1'
      subst e1
      refine x_istore_n (L' := [some _, some _, some _, some _, none]) dX8_pairedBy_4 rfl (by decide) rfl ?_
      refine x_iload_n dX8_pairedBy_5 rfl rfl ?_
      refine x_iconst dX8_pairedBy_6 rfl ?_
      refine x_iload_n dX8_pairedBy_7 rfl rfl ?_
      refine x_ishl dX8_pairedBy_8 ?_
      refine x_iconst dX8_pairedBy_9 rfl ?_
      refine x_ixor dX8_pairedBy_10 ?_
      refine x_iand dX8_pairedBy_11 ?_
      rw [clr_c (by omega) (by omega)]
      refine x_istore (L' := [some _, some _, some _, some _, some _]) dX8_pairedBy_12 (by decide) rfl ?_
      refine x_iload_n dX8_pairedBy_14 rfl rfl ?_
      refine x_iconst dX8_pairedBy_15 rfl ?_
      refine x_icmp_ne (tgt := 27) dX8_pairedBy_16 (by decide) (fun h16 => ?_) (fun h16 => ?_)
      · refine x_iload dX8_pairedBy_27 rfl ?_
        refine x_iload_n dX8_pairedBy_29 rfl rfl ?_
        refine g_callI (vs := [_, _]) (d' := d - 1) rfl (s_X8_has (by omega) (by omega) (by omega)) dX8_pairedBy_30 kX8_485 (by omega) (by decide) rfl (Nat.le_of_ble_eq_true rfl) (rcv_n) (fun x30 M30 h30 => ?_)
        obtain ⟨e30, f30⟩ := h30
        have f30' := f30.symm
        subst f30'
        subst e30
        refine x_if_eq (tgt := 75) dX8_pairedBy_33 (by decide) (fun h33 => ?_) (fun h33 => ?_)
        · try simp only [vP_0, vP_1, vP_n0, vP_n1, Classical.not_not] at h33
          exact absurd qb h33
        · try simp only [vP_0, vP_1, vP_n0, vP_n1, Classical.not_not] at h33
          refine x_aload_n dX8_pairedBy_36 rfl rfl ?_
          refine x_iload_n dX8_pairedBy_37 rfl rfl ?_
          refine x_iload_n dX8_pairedBy_38 rfl rfl ?_
          refine g_callI (vs := [_, _, _]) (d' := d - 1) rfl (s_X8_doClash (by omega) hT (by first | exact hw | exact mciI (by omega) hw | exact mciI (by omega) (mciI (by omega) hw) | exact mciI (by omega) (mciI (by omega) (mciI (by omega) hw)) | exact mciI (by omega) (mciI (by omega) (mciI (by omega) (mciI (by omega) hw))) | exact mciC (by omega) hw) hv (by omega) (by omega)) dX8_pairedBy_39 kX8_482 (by omega) (by decide) rfl (Nat.le_of_ble_eq_true rfl) (rcv_o (by first | assumption | exact hT.2.1) rfl) (fun x39 M39 h39 => ?_)
          obtain ⟨e39, f39⟩ := h39
          have f39' := f39.symm
          subst f39'
          subst e39
          refine x_if_ne (tgt := 75) dX8_pairedBy_42 (by decide) (fun h42 => ?_) (fun h42 => ?_)
          · try simp only [vP_0, vP_1, vP_n0, vP_n1, Classical.not_not] at h42
            refine x_iconst dX8_pairedBy_75 rfl ?_
            refine x_ireturn rfl dX8_pairedBy_76 ?_
            refine hQ _ _ ⟨_, rfl, ?_, rfl⟩
            unfold cdP
            rw [if_neg q]
            first
            | (rw [if_neg (show ¬ (bitI (clrI s (lo0 s)) o = 1 ∧ ¬ clashV v (lo0 s) o) from fun q2 => q2.2 h42)])
            | (rw [if_pos (show bitI (clrI s (lo0 s)) o = 1 ∧ ¬ clashV v (lo0 s) o from ⟨qb, h42⟩), e1, e2, eT])
          · try simp only [vP_0, vP_1, vP_n0, vP_n1, Classical.not_not] at h42
            refine x_aload_n dX8_pairedBy_45 rfl rfl ?_
            refine x_iload_n dX8_pairedBy_46 rfl rfl ?_
            refine x_iconst dX8_pairedBy_47 rfl ?_
            refine g_callI (vs := [_, _, _]) (d' := d - 1) rfl (s_X8_of (by omega) hT (by first | exact hw | exact mciI (by omega) hw | exact mciI (by omega) (mciI (by omega) hw) | exact mciI (by omega) (mciI (by omega) (mciI (by omega) hw)) | exact mciI (by omega) (mciI (by omega) (mciI (by omega) (mciI (by omega) hw))) | exact mciC (by omega) hw) (by omega) (by omega)) dX8_pairedBy_48 kX8_78 (by omega) (by decide) rfl (Nat.le_of_ble_eq_true rfl) (rcv_o (by first | assumption | exact hT.2.1) rfl) (fun x48 M48 h48 => ?_)
            obtain ⟨e48, f48⟩ := h48
            have f48' := f48.symm
            subst f48'
            subst e48
            refine x_aload_n dX8_pairedBy_51 rfl rfl ?_
            refine x_iload_n dX8_pairedBy_52 rfl rfl ?_
            refine x_iconst dX8_pairedBy_53 rfl ?_
            refine g_callI (vs := [_, _, _]) (d' := d - 1) rfl (s_X8_of (by omega) hT (by first | exact hw | exact mciI (by omega) hw | exact mciI (by omega) (mciI (by omega) hw) | exact mciI (by omega) (mciI (by omega) (mciI (by omega) hw)) | exact mciI (by omega) (mciI (by omega) (mciI (by omega) (mciI (by omega) hw))) | exact mciC (by omega) hw) (by omega) (by omega)) dX8_pairedBy_54 kX8_78 (by omega) (by decide) rfl (Nat.le_of_ble_eq_true rfl) (rcv_o (by first | assumption | exact hT.2.1) rfl) (fun x54 M54 h54 => ?_)
            obtain ⟨e54, f54⟩ := h54
            have f54' := f54.symm
            subst f54'
            subst e54
            first | refine x_iaddN dX8_pairedBy_57 (by unfold i32; omega) ?_ | refine x_iadd dX8_pairedBy_57 ?_
            refine x_aload_n dX8_pairedBy_58 rfl rfl ?_
            refine g_getR (kI := 30) rfl dX8_pairedBy_59 fX8_58_8 (by first | assumption | exact hT.2.1) (by first | assumption | exact hT.2.1) ?_
            refine x_iload dX8_pairedBy_62 rfl ?_
            refine x_iconst dX8_pairedBy_64 rfl ?_
            refine x_iload_n dX8_pairedBy_65 rfl rfl ?_
            refine x_ishl dX8_pairedBy_66 ?_
            refine x_iconst dX8_pairedBy_67 rfl ?_
            refine x_ixor dX8_pairedBy_68 ?_
            refine x_iand dX8_pairedBy_69 ?_
            rw [clr_c (by omega) (by omega)]
            refine x_iald dX8_pairedBy_70 (by first | assumption | exact hT.2.1) (by omega) (by omega) ?_
            first | refine x_iaddN dX8_pairedBy_71 (by unfold i32; omega) ?_ | refine x_iadd dX8_pairedBy_71 ?_
            refine x_goto (tgt := 76) dX8_pairedBy_72 (by decide) ?_
            refine x_ireturn rfl dX8_pairedBy_76 ?_
            refine hQ _ _ ⟨_, rfl, ?_, rfl⟩
            unfold cdP
            rw [if_neg q]
            first
            | (rw [if_neg (show ¬ (bitI (clrI s (lo0 s)) o = 1 ∧ ¬ clashV v (lo0 s) o) from fun q2 => q2.2 h42)])
            | (rw [if_pos (show bitI (clrI s (lo0 s)) o = 1 ∧ ¬ clashV v (lo0 s) o from ⟨qb, h42⟩), e1, e2, eT])
      · exact absurd h16 q
    · refine x_iload_n dX8_pairedBy_0 rfl rfl ?_
      refine g_callI (vs := [_]) (d' := d - 1) rfl (s_X8_firstOf (by omega) (by omega)) dX8_pairedBy_1 kX8_506 (by omega) (by decide) rfl (Nat.le_of_ble_eq_true rfl) (rcv_n) (fun x1 M1 h1 => ?_)
      obtain ⟨e1, f1⟩ := h1
      have f1' := f1.symm
      subst f1'
      subst e1
      refine x_istore_n (L' := [some _, some _, some _, some _, none]) dX8_pairedBy_4 rfl (by decide) rfl ?_
      refine x_iload_n dX8_pairedBy_5 rfl rfl ?_
      refine x_iconst dX8_pairedBy_6 rfl ?_
      refine x_iload_n dX8_pairedBy_7 rfl rfl ?_
      refine x_ishl dX8_pairedBy_8 ?_
      refine x_iconst dX8_pairedBy_9 rfl ?_
      refine x_ixor dX8_pairedBy_10 ?_
      refine x_iand dX8_pairedBy_11 ?_
      rw [clr_c (by omega) (by omega)]
      refine x_istore (L' := [some _, some _, some _, some _, some _]) dX8_pairedBy_12 (by decide) rfl ?_
      refine x_iload_n dX8_pairedBy_14 rfl rfl ?_
      refine x_iconst dX8_pairedBy_15 rfl ?_
      refine x_icmp_ne (tgt := 27) dX8_pairedBy_16 (by decide) (fun h16 => ?_) (fun h16 => ?_)
      · refine x_iload dX8_pairedBy_27 rfl ?_
        refine x_iload_n dX8_pairedBy_29 rfl rfl ?_
        refine g_callI (vs := [_, _]) (d' := d - 1) rfl (s_X8_has (by omega) (by omega) (by omega)) dX8_pairedBy_30 kX8_485 (by omega) (by decide) rfl (Nat.le_of_ble_eq_true rfl) (rcv_n) (fun x30 M30 h30 => ?_)
        obtain ⟨e30, f30⟩ := h30
        have f30' := f30.symm
        subst f30'
        subst e30
        refine x_if_eq (tgt := 75) dX8_pairedBy_33 (by decide) (fun h33 => ?_) (fun h33 => ?_)
        · try simp only [vP_0, vP_1, vP_n0, vP_n1, Classical.not_not] at h33
          refine x_iconst dX8_pairedBy_75 rfl ?_
          refine x_ireturn rfl dX8_pairedBy_76 ?_
          refine hQ _ _ ⟨_, rfl, ?_, rfl⟩
          unfold cdP
          rw [if_neg q, if_neg fun q2 => qb q2.1]
        · try simp only [vP_0, vP_1, vP_n0, vP_n1, Classical.not_not] at h33
          exact absurd h33 qb
      · exact absurd h16 q
theorem s_X8_laysPairs (hd : 16 ≤ d) (hT : TwS (msh M) (mcr M) m) (hw : mci M (m + 1) = v) (hv : okB v) : CS G d mX8_laysPairs [dR m] M (postN fun M1 => ∃ g, M1 = wI M g ∧ (∀ a k, ¬ a = m + 14 → g a k = mci M a k) ∧ ∀ j, 0 ≤ j → j < pw (v 0) → g (m + 14) j = tT v j) := by
  have hv0 := hv.1
  have h8 := pw_le8 (t := (v 0).toNat) (by omega)
  have hpp := pw_pos (v 0)
  rw [show (((v 0).toNat : Nat) : Int) = v 0 by omega] at h8
  have hT_ := hT; obtain ⟨p0, p1, ⟨c1, c2, c3, c4, c5, c6, c7, c8, c9, c10, c11, c12, c13, c14, c15⟩, ⟨t1, t2, t3, t4, t5, t6, t7, t8, t9, t10, t11, t12, t13, t14, t15⟩⟩ := hT_
  refine CS.mkQ (by decide) (Nat.le_of_ble_eq_true rfl) fun Q hQ => ?_
  have lp : ∀ (t : Nat) (s : Int) (g : Ci), (pw (v 0) - s).toNat = t → (1 ≤ s) → (s ≤ pw (v 0)) → (∀ a k, ¬ a = m + 14 → g a k = mci M a k) → (∀ j, 0 ≤ j → j < s → g (m + 14) j = tT v j) → WP G d mX8_laysPairs 9 [some (dR m), some (dI s), none, none] [] (wI M g) Q := by
    intro t
    induction t using Nat.strongRecOn with
    | _ t ih =>
      intro s g ht s0 s1 hf hl
      have hw : g (m + 1) = v := (funext fun k => hf _ k (by omega)).trans hw
      by_cases hs : s < pw (v 0)
      · skip
        have inner : ∀ (t2 : Nat) (o x : Int), (v 0 - o).toNat = t2 → (-1 ≤ o) → (o ≤ v 0) → (x = mxP v (tT v) s (o + 1).toNat) → WP G d mX8_laysPairs 23 [some (dR m), some (dI s), some (dI x), some (dI o)] [] (wI M g) Q := by
          intro t2
          induction t2 using Nat.strongRecOn with
          | _ t2 ih2 =>
            intro o x ht2 o0 o1 hx
            have es : mxP v (tT v) s (o + 1 + 1).toNat = if x ≤ cdP v (tT v) s o then cdP v (tT v) s o else x := by
              rw [show (o + 1 + 1).toNat = (o + 1).toNat + 1 by omega, mxP_s, hx, show (((o + 1).toNat : Nat) : Int) - 1 = o by omega]
            refine x_iload_n dX8_laysPairs_23 rfl rfl ?_
            refine x_aload_n dX8_laysPairs_24 rfl rfl ?_
            refine g_callI (vs := [_]) (d' := d - 1) rfl (s_X8_ops (by omega) hT (by first | exact hw | exact mciI (by omega) hw | exact mciI (by omega) (mciI (by omega) hw) | exact mciI (by omega) (mciI (by omega) (mciI (by omega) hw)) | exact mciI (by omega) (mciI (by omega) (mciI (by omega) (mciI (by omega) hw))) | exact mciC (by omega) hw)) dX8_laysPairs_25 kX8_84 (by omega) (by decide) rfl (Nat.le_of_ble_eq_true rfl) (rcv_o (by first | assumption | exact hT.2.1) rfl) (fun x25 M25 h25 => ?_)
            obtain ⟨e25, f25⟩ := h25
            have f25' := f25.symm
            subst f25'
            subst e25
            try simp (disch := omega) only [rdI_e, rdI_n, rdC_i, rdC_o, rdW, rdR, rdU_e, rdU_n, rdLW, Int.add_zero, hw]
            refine x_icmp_ge (tgt := 48) dX8_laysPairs_28 (by decide) (fun h28 => ?_) (fun h28 => ?_)
            · refine x_aload_n dX8_laysPairs_48 rfl rfl ?_
              refine g_getR (kI := 30) rfl dX8_laysPairs_49 fX8_58_8 (by first | assumption | exact hT.2.1) (by first | assumption | exact hT.2.1) ?_
              refine x_iload_n dX8_laysPairs_52 rfl rfl ?_
              refine x_iload_n dX8_laysPairs_53 rfl rfl ?_
              refine x_iast (by omega) dX8_laysPairs_54 (by first | assumption | exact hT.2.1) (by omega) (by omega) ?_
              first | refine x_iincN (L' := [some _, some _, some _, some _]) dX8_laysPairs_55 rfl (by decide) (by unfold i32; omega) rfl ?_ | refine x_iinc (L' := [some _, some _, some _, some _]) dX8_laysPairs_55 rfl (by decide) rfl ?_
              refine x_goto (tgt := 9) dX8_laysPairs_58 (by decide) ?_
              refine x_fgt (by repeat (first | exact trivial | refine ⟨rfl, ?_⟩)) (WP.mem (M1 := wI M (up g (m + 14) s x)) rfl (ih _ (by omega) (s + 1) _ rfl (by omega) (by omega) (fun a k q => (rdU_n (by omega)).trans (hf a k q)) fun j j0 j1 => ?_))
              by_cases e : j = s
              · subst e
                rw [rdU_e ⟨rfl, rfl⟩, tT_e (by omega) (by omega), hx]
                congr 1
                omega
              · rw [rdU_n (by omega)]
                exact hl j j0 (by omega)
            · refine x_iload_n dX8_laysPairs_31 rfl rfl ?_
              refine x_aload_n dX8_laysPairs_32 rfl rfl ?_
              refine x_iload_n dX8_laysPairs_33 rfl rfl ?_
              refine x_iload_n dX8_laysPairs_34 rfl rfl ?_
              refine g_callI (vs := [_, _, _]) (d' := d - 1) rfl (s_X8_pairedBy (M := wI M g) (by omega) hT hw hv (by omega) hs (by omega) hl) dX8_laysPairs_35 kX8_528 (by omega) (by decide) rfl (Nat.le_of_ble_eq_true rfl) (rcv_o (by first | assumption | exact hT.2.1) rfl) (fun x35 M35 h35 => ?_)
              obtain ⟨e35, f35⟩ := h35
              have f35' := f35.symm
              subst f35'
              subst e35
              try simp (disch := omega) only [rdI_e, rdI_n, rdC_i, rdC_o, rdW, rdR, rdU_e, rdU_n, rdLW, Int.add_zero, hw]
              refine g_callI (vs := [_, _]) (d' := d - 1) rfl (s_max (by omega)) dX8_laysPairs_38 kX8_509 (by omega) (by decide) rfl (Nat.le_of_ble_eq_true rfl) (rcv_n) (fun x38 M38 h38 => ?_)
              obtain ⟨e38, f38⟩ := h38
              have f38' := f38.symm
              subst f38'
              refine x_istore_n (L' := [some _, some _, some _, some _]) dX8_laysPairs_41 rfl (by decide) rfl ?_
              first | refine x_iincN (L' := [some _, some _, some _, some _]) dX8_laysPairs_42 rfl (by decide) (by unfold i32; omega) rfl ?_ | refine x_iinc (L' := [some _, some _, some _, some _]) dX8_laysPairs_42 rfl (by decide) rfl ?_
              refine x_goto (tgt := 23) dX8_laysPairs_45 (by decide) ?_
              refine ih2 _ (by omega) (o + 1) _ rfl (by omega) (by omega) ?_
              rw [es]
              split
              · exact e38.1 ‹_›
              · exact e38.2 (by omega)
        refine x_iload_n dX8_laysPairs_9 rfl rfl ?_
        refine x_iconst dX8_laysPairs_10 rfl ?_
        refine x_aload_n dX8_laysPairs_11 rfl rfl ?_
        refine g_callI (vs := [_]) (d' := d - 1) rfl (s_X8_ops (by omega) hT (by first | exact hw | exact mciI (by omega) hw | exact mciI (by omega) (mciI (by omega) hw) | exact mciI (by omega) (mciI (by omega) (mciI (by omega) hw)) | exact mciI (by omega) (mciI (by omega) (mciI (by omega) (mciI (by omega) hw))) | exact mciC (by omega) hw)) dX8_laysPairs_12 kX8_84 (by omega) (by decide) rfl (Nat.le_of_ble_eq_true rfl) (rcv_o (by first | assumption | exact hT.2.1) rfl) (fun x12 M12 h12 => ?_)
        obtain ⟨e12, f12⟩ := h12
        have f12' := f12.symm
        subst f12'
        subst e12
        try simp (disch := omega) only [rdI_e, rdI_n, rdC_i, rdC_o, rdW, rdR, rdU_e, rdU_n, rdLW, Int.add_zero, hw]
        refine x_ishl dX8_laysPairs_15 ?_
        rw [jshl_1 (by omega)]
        refine x_icmp_ge (tgt := 61) dX8_laysPairs_16 (by decide) (fun h16 => ?_) (fun h16 => ?_)
        · omega
        · refine x_iconst dX8_laysPairs_19 rfl ?_
          refine x_istore_n (L' := [some _, some _, some _, none]) dX8_laysPairs_20 rfl (by decide) rfl ?_
          refine x_iconst dX8_laysPairs_21 rfl ?_
          refine x_istore_n (L' := [some _, some _, some _, some _]) dX8_laysPairs_22 rfl (by decide) rfl ?_
          exact inner _ (-1) 0 rfl (by omega) (by omega) rfl
      · refine x_iload_n dX8_laysPairs_9 rfl rfl ?_
        refine x_iconst dX8_laysPairs_10 rfl ?_
        refine x_aload_n dX8_laysPairs_11 rfl rfl ?_
        refine g_callI (vs := [_]) (d' := d - 1) rfl (s_X8_ops (by omega) hT (by first | exact hw | exact mciI (by omega) hw | exact mciI (by omega) (mciI (by omega) hw) | exact mciI (by omega) (mciI (by omega) (mciI (by omega) hw)) | exact mciI (by omega) (mciI (by omega) (mciI (by omega) (mciI (by omega) hw))) | exact mciC (by omega) hw)) dX8_laysPairs_12 kX8_84 (by omega) (by decide) rfl (Nat.le_of_ble_eq_true rfl) (rcv_o (by first | assumption | exact hT.2.1) rfl) (fun x12 M12 h12 => ?_)
        obtain ⟨e12, f12⟩ := h12
        have f12' := f12.symm
        subst f12'
        subst e12
        try simp (disch := omega) only [rdI_e, rdI_n, rdC_i, rdC_o, rdW, rdR, rdU_e, rdU_n, rdLW, Int.add_zero, hw]
        refine x_ishl dX8_laysPairs_15 ?_
        rw [jshl_1 (by omega)]
        refine x_icmp_ge (tgt := 61) dX8_laysPairs_16 (by decide) (fun h16 => ?_) (fun h16 => ?_)
        · refine x_vreturn rfl dX8_laysPairs_61 ?_
          exact hQ _ _ ⟨rfl, g, rfl, hf, fun j j0 j1 => hl j j0 (by omega)⟩
        · omega
  refine x_aload_n dX8_laysPairs_0 rfl rfl ?_
  refine g_getR (kI := 30) rfl dX8_laysPairs_1 fX8_58_8 (by first | assumption | exact hT.2.1) (by first | assumption | exact hT.2.1) ?_
  refine x_iconst dX8_laysPairs_4 rfl ?_
  refine x_iconst dX8_laysPairs_5 rfl ?_
  refine x_iast (by omega) dX8_laysPairs_6 (by first | assumption | exact hT.2.1) (by omega) (by omega) ?_
  refine x_iconst dX8_laysPairs_7 rfl ?_
  refine x_istore_n (L' := [some _, some _, none, none]) dX8_laysPairs_8 rfl (by decide) rfl ?_
  refine WP.mem (M1 := wI M (up (mci M) (m + 14) 0 0)) rfl (lp _ 1 _ rfl (by omega) (by omega) (fun a k q => rdU_n (by omega)) fun j j0 j1 => ?_)
  rw [rdU_e ⟨rfl, by omega⟩, show j = 0 by omega, tT_0]
theorem bit_0 (k : Int) : bitI 0 k = 0 := by unfold bitI; simp
theorem s_X8_pairs (hd : 18 ≤ d) (hP : TP M m v) : CS G d mX8_pairs [dR m, dI p] M (postI fun x M1 => RD M m (if p = -1 ∨ 0 ≤ p ∧ p < v 0 then 0 else 1) M1 ∧ (p = -1 ∨ 0 ≤ p ∧ p < v 0 → x = pairsAns v p)) := by
  obtain ⟨hT, hw, hA, hL, hK, hsk⟩ := id hP
  have hv := hA.1
  have hv0 := hv.1
  have h8 := pw_le8 (t := (v 0).toNat) (by omega)
  have hpp := pw_pos (v 0)
  rw [show (((v 0).toNat : Nat) : Int) = v 0 by omega] at h8
  have hT_ := hT; obtain ⟨p0, p1, ⟨c1, c2, c3, c4, c5, c6, c7, c8, c9, c10, c11, c12, c13, c14, c15⟩, ⟨t1, t2, t3, t4, t5, t6, t7, t8, t9, t10, t11, t12, t13, t14, t15⟩⟩ := hT_
  refine CS.mkQ (by decide) (Nat.le_of_ble_eq_true rfl) fun Q hQ => ?_
  have full : ∀ g : Ci, (∀ a k, ¬ a = m + 14 → g a k = mci (mI M m 0 0) a k) → (∀ j, 0 ≤ j → j < pw (v 0) → g (m + 14) j = tT v j) → 0 ≤ p ∧ p < v 0 → WP G d mX8_pairs 63 [some (dR m), some (dI p), some (dI (pw (v 0) - 1)), some (dI (-1)), some (dI 0), none, none] [] (wI M g) Q := by
    intro g hf hl hp
    have hw2 : g (m + 1) = v := (funext fun k => hf _ k (by omega)).trans (TP.z (x := 0) hP).2.1
    rw [if_pos (Or.inr hp)] at hQ
    have hK2 : KnOk g (mcl M) m := KnOk.at (TP.z (x := 0) hP).2.2.2.2.1 (fun q => hf _ _ (by omega)) fun _ => rfl
    have hs2 : sk01 g m := by
      have := (TP.z (x := 0) hP).2.2.2.2.2
      unfold sk01 at this ⊢
      rw [hf _ _ (by omega)]
      exact this
    have fin : ∀ s x : Int, ∀ o o2 : Option DV, x = pwP v p 256 (pw (v 0) - 1) → WP G d mX8_pairs 63 [some (dR m), some (dI p), some (dI s), some (dI x), some (dI 1), o, o2] [] (wI M g) Q := by
      intro s x o o2 hx
      refine x_fgt (L' := [some (dR m), some (dI p), some (dI s), some (dI x), some (dI 1), none, none]) (by repeat (first | exact trivial | refine ⟨rfl, ?_⟩)) ?_
      refine x_iload dX8_pairs_63 rfl ?_
      refine x_if_ne (tgt := 163) dX8_pairs_65 (by decide) (fun h65 => ?_) (fun h65 => ?_)
      · refine x_iload_n dX8_pairs_163 rfl rfl ?_
        refine x_ireturn rfl dX8_pairs_164 ?_
        refine hQ _ _ ⟨_, rfl, RD.mk (g := g) (l := mcl M) (fun a k _ _ _ _ _ q _ => hf a k q) TM.rfl hK2 hs2, fun _ => ?_⟩
        unfold pairsAns
        rw [if_neg (by omega)]
        exact hx
      · omega
    have lp : ∀ (t : Nat) (s w : Int) (fu : Nat), (s).toNat = t → (0 < s) → (s < pw (v 0)) → (s ≤ fu) → (bitI s p = 1) → (pwP v p 256 (pw (v 0) - 1) = pwP v p fu s) → WP G d mX8_pairs 63 [some (dR m), some (dI p), some (dI s), some (dI w), some (dI 0), none, none] [] (wI M g) Q := by
      intro t
      induction t using Nat.strongRecOn with
      | _ t ih =>
        intro s w fu ht s0 s1 s2 hb hs
        obtain ⟨y, hy1, hy2⟩ := paO_x hv (s := s) (by omega) s1
        have hl0 := lo0_r (x := s) (by omega) (by omega)
        have hl1 := lo_lt hv0 (by omega) s1
        have r1 := clr_r (s := s) (by omega) hl0 (lo0_b (by omega))
        obtain ⟨fu, rfl⟩ : ∃ f2, fu = f2 + 1 := ⟨fu - 1, by omega⟩
        rw [pwP_s (s := s) (t := fu)] at hs
        have rT := tT_r hv (n := 256) (s := s) (by omega) (by omega) (by omega) (by omega)
        have inner : ∀ (t2 : Nat) (o : Int), (y - o).toNat = t2 → (-1 ≤ o) → (o ≤ y) → (∀ o', -1 ≤ o' → o' < o → ¬ cdP v (tT v) s o' = tT v s) → WP G d mX8_pairs 77 [some (dR m), some (dI p), some (dI s), some (dI w), some (dI 0), some (dI (lo0 s)), some (dI o)] [] (wI M g) Q := by
          intro t2
          induction t2 using Nat.strongRecOn with
          | _ t2 ih2 =>
            intro o ht2 o0 o1 hn
            have eT := hl s (by omega) s1
            by_cases ho : cdP v (tT v) s o = tT v s
            · have ep := paO_e ho (by omega) hn
              rw [ep] at hs
              by_cases hm : o = -1
              · subst hm
                have r2 : bitI (clrI s (lo0 s)) p = if p = lo0 s then 0 else bitI s p := clr_b (by omega) hl0 (by omega)
                refine x_aload_n dX8_pairs_77 rfl rfl ?_
                refine x_iload_n dX8_pairs_78 rfl rfl ?_
                refine x_iload dX8_pairs_79 rfl ?_
                refine g_callI (vs := [_, _, _]) (d' := d - 1) rfl (s_X8_pairedBy (M := wI M g) (by omega) hT hw2 hv (by omega) s1 (by omega) (fun j j0 j1 => hl j j0 (by omega))) dX8_pairs_81 kX8_528 (by omega) (by decide) rfl (Nat.le_of_ble_eq_true rfl) (rcv_o (by first | assumption | exact hT.2.1) rfl) (fun x81 M81 h81 => ?_)
                obtain ⟨e81, f81⟩ := h81
                have f81' := f81.symm
                subst f81'
                subst e81
                refine x_aload_n dX8_pairs_84 rfl rfl ?_
                refine g_getR (kI := 30) rfl dX8_pairs_85 fX8_58_8 (by first | assumption | exact hT.2.1) (by first | assumption | exact hT.2.1) ?_
                refine x_iload_n dX8_pairs_88 rfl rfl ?_
                refine x_iald dX8_pairs_89 (by first | assumption | exact hT.2.1) (by omega) (by omega) ?_
                rw [ho, show mci (wI M g) (m + 14) s = tT v s from eT]
                refine x_icmp_eq (tgt := 99) dX8_pairs_90 (by decide) (fun h90 => ?_) (fun h90 => ?_)
                · refine x_iload dX8_pairs_99 rfl ?_
                  refine x_iload_n dX8_pairs_101 rfl rfl ?_
                  refine x_icmp_eq (tgt := 111) dX8_pairs_102 (by decide) (fun h102 => ?_) (fun h102 => ?_)
                  · refine x_iconst dX8_pairs_111 rfl ?_
                    refine x_goto (tgt := 116) dX8_pairs_112 (by decide) ?_
                    refine x_istore (L' := [some _, some _, some _, some _, some _, some _, some _]) dX8_pairs_116 (by decide) rfl ?_
                    refine x_iload dX8_pairs_118 rfl ?_
                    refine x_iload_n dX8_pairs_120 rfl rfl ?_
                    refine x_icmp_ne (tgt := 129) dX8_pairs_121 (by decide) (fun h121 => ?_) (fun h121 => ?_)
                    · refine x_iload dX8_pairs_129 rfl ?_
                      refine x_istore_n (L' := [some _, some _, some _, some _, some _, some _, some _]) dX8_pairs_131 rfl (by decide) rfl ?_
                      refine x_iload_n dX8_pairs_132 rfl rfl ?_
                      refine x_iconst dX8_pairs_133 rfl ?_
                      refine x_iload dX8_pairs_134 rfl ?_
                      refine x_ishl dX8_pairs_136 ?_
                      refine x_iconst dX8_pairs_137 rfl ?_
                      refine x_ixor dX8_pairs_138 ?_
                      refine x_iand dX8_pairs_139 ?_
                      rw [clr_c (by omega) (by omega)]
                      refine x_istore_n (L' := [some _, some _, some _, some _, some _, some _, some _]) dX8_pairs_140 rfl (by decide) rfl ?_
                      refine x_iload dX8_pairs_141 rfl ?_
                      refine x_iconst dX8_pairs_143 rfl ?_
                      refine x_icmp_ne (tgt := 151) dX8_pairs_144 (by decide) (fun h144 => ?_) (fun h144 => ?_)
                      · omega
                      · refine x_iload_n dX8_pairs_147 rfl rfl ?_
                        refine x_goto (tgt := 159) dX8_pairs_148 (by decide) ?_
                        refine x_istore_n (L' := [some _, some _, some _, some _, some _, some _, some _]) dX8_pairs_159 rfl (by decide) rfl ?_
                        refine x_goto (tgt := 63) dX8_pairs_160 (by decide) ?_
                        first
                        | exact absurd h102 h121
                        | exact absurd h121 h102
                        | (refine fin _ _ _ _ ?_
                           rw [hs, if_pos h102])
                        | (rw [if_neg (by omega), if_neg (by omega)] at hs
                           rw [if_neg (by omega)] at r2
                           refine x_fgt (by repeat (first | exact trivial | refine ⟨rfl, ?_⟩)) (ih _ (by omega) (clrI s (lo0 s)) _ fu rfl ?_ (by omega) (by omega) (r2.trans hb) hs)
                           rcases (show clrI s (lo0 s) = 0 ∨ 0 < clrI s (lo0 s) by omega) with q | q
                           · rw [q, bit_0] at r2; omega
                           · exact q)
                    · refine x_iload dX8_pairs_124 rfl ?_
                      refine x_goto (tgt := 131) dX8_pairs_126 (by decide) ?_
                      refine x_istore_n (L' := [some _, some _, some _, some _, some _, some _, some _]) dX8_pairs_131 rfl (by decide) rfl ?_
                      refine x_iload_n dX8_pairs_132 rfl rfl ?_
                      refine x_iconst dX8_pairs_133 rfl ?_
                      refine x_iload dX8_pairs_134 rfl ?_
                      refine x_ishl dX8_pairs_136 ?_
                      refine x_iconst dX8_pairs_137 rfl ?_
                      refine x_ixor dX8_pairs_138 ?_
                      refine x_iand dX8_pairs_139 ?_
                      rw [clr_c (by omega) (by omega)]
                      refine x_istore_n (L' := [some _, some _, some _, some _, some _, some _, some _]) dX8_pairs_140 rfl (by decide) rfl ?_
                      refine x_iload dX8_pairs_141 rfl ?_
                      refine x_iconst dX8_pairs_143 rfl ?_
                      refine x_icmp_ne (tgt := 151) dX8_pairs_144 (by decide) (fun h144 => ?_) (fun h144 => ?_)
                      · omega
                      · refine x_iload_n dX8_pairs_147 rfl rfl ?_
                        refine x_goto (tgt := 159) dX8_pairs_148 (by decide) ?_
                        refine x_istore_n (L' := [some _, some _, some _, some _, some _, some _, some _]) dX8_pairs_159 rfl (by decide) rfl ?_
                        refine x_goto (tgt := 63) dX8_pairs_160 (by decide) ?_
                        first
                        | exact absurd h102 h121
                        | exact absurd h121 h102
                        | (refine fin _ _ _ _ ?_
                           rw [hs, if_pos h102])
                        | (rw [if_neg (by omega), if_neg (by omega)] at hs
                           rw [if_neg (by omega)] at r2
                           refine x_fgt (by repeat (first | exact trivial | refine ⟨rfl, ?_⟩)) (ih _ (by omega) (clrI s (lo0 s)) _ fu rfl ?_ (by omega) (by omega) (r2.trans hb) hs)
                           rcases (show clrI s (lo0 s) = 0 ∨ 0 < clrI s (lo0 s) by omega) with q | q
                           · rw [q, bit_0] at r2; omega
                           · exact q)
                  · refine x_iload dX8_pairs_105 rfl ?_
                    refine x_iload_n dX8_pairs_107 rfl rfl ?_
                    refine x_icmp_ne (tgt := 115) dX8_pairs_108 (by decide) (fun h108 => ?_) (fun h108 => ?_)
                    · refine x_iconst dX8_pairs_115 rfl ?_
                      refine x_istore (L' := [some _, some _, some _, some _, some _, some _, some _]) dX8_pairs_116 (by decide) rfl ?_
                      refine x_iload dX8_pairs_118 rfl ?_
                      refine x_iload_n dX8_pairs_120 rfl rfl ?_
                      refine x_icmp_ne (tgt := 129) dX8_pairs_121 (by decide) (fun h121 => ?_) (fun h121 => ?_)
                      · refine x_iload dX8_pairs_129 rfl ?_
                        refine x_istore_n (L' := [some _, some _, some _, some _, some _, some _, some _]) dX8_pairs_131 rfl (by decide) rfl ?_
                        refine x_iload_n dX8_pairs_132 rfl rfl ?_
                        refine x_iconst dX8_pairs_133 rfl ?_
                        refine x_iload dX8_pairs_134 rfl ?_
                        refine x_ishl dX8_pairs_136 ?_
                        refine x_iconst dX8_pairs_137 rfl ?_
                        refine x_ixor dX8_pairs_138 ?_
                        refine x_iand dX8_pairs_139 ?_
                        rw [clr_c (by omega) (by omega)]
                        refine x_istore_n (L' := [some _, some _, some _, some _, some _, some _, some _]) dX8_pairs_140 rfl (by decide) rfl ?_
                        refine x_iload dX8_pairs_141 rfl ?_
                        refine x_iconst dX8_pairs_143 rfl ?_
                        refine x_icmp_ne (tgt := 151) dX8_pairs_144 (by decide) (fun h144 => ?_) (fun h144 => ?_)
                        · omega
                        · refine x_iload_n dX8_pairs_147 rfl rfl ?_
                          refine x_goto (tgt := 159) dX8_pairs_148 (by decide) ?_
                          refine x_istore_n (L' := [some _, some _, some _, some _, some _, some _, some _]) dX8_pairs_159 rfl (by decide) rfl ?_
                          refine x_goto (tgt := 63) dX8_pairs_160 (by decide) ?_
                          first
                          | exact absurd h102 h121
                          | exact absurd h121 h102
                          | (refine fin _ _ _ _ ?_
                             rw [hs, if_pos h102])
                          | (rw [if_neg (by omega), if_neg (by omega)] at hs
                             rw [if_neg (by omega)] at r2
                             refine x_fgt (by repeat (first | exact trivial | refine ⟨rfl, ?_⟩)) (ih _ (by omega) (clrI s (lo0 s)) _ fu rfl ?_ (by omega) (by omega) (r2.trans hb) hs)
                             rcases (show clrI s (lo0 s) = 0 ∨ 0 < clrI s (lo0 s) by omega) with q | q
                             · rw [q, bit_0] at r2; omega
                             · exact q)
                      · refine x_iload dX8_pairs_124 rfl ?_
                        refine x_goto (tgt := 131) dX8_pairs_126 (by decide) ?_
                        refine x_istore_n (L' := [some _, some _, some _, some _, some _, some _, some _]) dX8_pairs_131 rfl (by decide) rfl ?_
                        refine x_iload_n dX8_pairs_132 rfl rfl ?_
                        refine x_iconst dX8_pairs_133 rfl ?_
                        refine x_iload dX8_pairs_134 rfl ?_
                        refine x_ishl dX8_pairs_136 ?_
                        refine x_iconst dX8_pairs_137 rfl ?_
                        refine x_ixor dX8_pairs_138 ?_
                        refine x_iand dX8_pairs_139 ?_
                        rw [clr_c (by omega) (by omega)]
                        refine x_istore_n (L' := [some _, some _, some _, some _, some _, some _, some _]) dX8_pairs_140 rfl (by decide) rfl ?_
                        refine x_iload dX8_pairs_141 rfl ?_
                        refine x_iconst dX8_pairs_143 rfl ?_
                        refine x_icmp_ne (tgt := 151) dX8_pairs_144 (by decide) (fun h144 => ?_) (fun h144 => ?_)
                        · omega
                        · refine x_iload_n dX8_pairs_147 rfl rfl ?_
                          refine x_goto (tgt := 159) dX8_pairs_148 (by decide) ?_
                          refine x_istore_n (L' := [some _, some _, some _, some _, some _, some _, some _]) dX8_pairs_159 rfl (by decide) rfl ?_
                          refine x_goto (tgt := 63) dX8_pairs_160 (by decide) ?_
                          first
                          | exact absurd h102 h121
                          | exact absurd h121 h102
                          | (refine fin _ _ _ _ ?_
                             rw [hs, if_pos h102])
                          | (rw [if_neg (by omega), if_neg (by omega)] at hs
                             rw [if_neg (by omega)] at r2
                             refine x_fgt (by repeat (first | exact trivial | refine ⟨rfl, ?_⟩)) (ih _ (by omega) (clrI s (lo0 s)) _ fu rfl ?_ (by omega) (by omega) (r2.trans hb) hs)
                             rcases (show clrI s (lo0 s) = 0 ∨ 0 < clrI s (lo0 s) by omega) with q | q
                             · rw [q, bit_0] at r2; omega
                             · exact q)
                    · omega
                · omega
              · have hb1 : bitI (clrI s (lo0 s)) o = 1 := by
                  have q := ho
                  unfold cdP at q
                  rw [if_neg hm] at q
                  by_cases q2 : bitI (clrI s (lo0 s)) o = 1 ∧ ¬ clashV v (lo0 s) o
                  · exact q2.1
                  · rw [if_neg q2] at q; omega
                have r2 := clr_r (s := clrI s (lo0 s)) (by omega) (k := o) (by omega) hb1
                have r3 : bitI (clrI s (lo0 s)) p = if p = lo0 s then 0 else bitI s p := clr_b (by omega) hl0 (by omega)
                have r4 : bitI (clrI (clrI s (lo0 s)) o) p = if p = o then 0 else bitI (clrI s (lo0 s)) p := clr_b (by omega) (by omega) (by omega)
                refine x_aload_n dX8_pairs_77 rfl rfl ?_
                refine x_iload_n dX8_pairs_78 rfl rfl ?_
                refine x_iload dX8_pairs_79 rfl ?_
                refine g_callI (vs := [_, _, _]) (d' := d - 1) rfl (s_X8_pairedBy (M := wI M g) (by omega) hT hw2 hv (by omega) s1 (by omega) (fun j j0 j1 => hl j j0 (by omega))) dX8_pairs_81 kX8_528 (by omega) (by decide) rfl (Nat.le_of_ble_eq_true rfl) (rcv_o (by first | assumption | exact hT.2.1) rfl) (fun x81 M81 h81 => ?_)
                obtain ⟨e81, f81⟩ := h81
                have f81' := f81.symm
                subst f81'
                subst e81
                refine x_aload_n dX8_pairs_84 rfl rfl ?_
                refine g_getR (kI := 30) rfl dX8_pairs_85 fX8_58_8 (by first | assumption | exact hT.2.1) (by first | assumption | exact hT.2.1) ?_
                refine x_iload_n dX8_pairs_88 rfl rfl ?_
                refine x_iald dX8_pairs_89 (by first | assumption | exact hT.2.1) (by omega) (by omega) ?_
                rw [ho, show mci (wI M g) (m + 14) s = tT v s from eT]
                refine x_icmp_eq (tgt := 99) dX8_pairs_90 (by decide) (fun h90 => ?_) (fun h90 => ?_)
                · refine x_iload dX8_pairs_99 rfl ?_
                  refine x_iload_n dX8_pairs_101 rfl rfl ?_
                  refine x_icmp_eq (tgt := 111) dX8_pairs_102 (by decide) (fun h102 => ?_) (fun h102 => ?_)
                  · refine x_iconst dX8_pairs_111 rfl ?_
                    refine x_goto (tgt := 116) dX8_pairs_112 (by decide) ?_
                    refine x_istore (L' := [some _, some _, some _, some _, some _, some _, some _]) dX8_pairs_116 (by decide) rfl ?_
                    refine x_iload dX8_pairs_118 rfl ?_
                    refine x_iload_n dX8_pairs_120 rfl rfl ?_
                    refine x_icmp_ne (tgt := 129) dX8_pairs_121 (by decide) (fun h121 => ?_) (fun h121 => ?_)
                    · refine x_iload dX8_pairs_129 rfl ?_
                      refine x_istore_n (L' := [some _, some _, some _, some _, some _, some _, some _]) dX8_pairs_131 rfl (by decide) rfl ?_
                      refine x_iload_n dX8_pairs_132 rfl rfl ?_
                      refine x_iconst dX8_pairs_133 rfl ?_
                      refine x_iload dX8_pairs_134 rfl ?_
                      refine x_ishl dX8_pairs_136 ?_
                      refine x_iconst dX8_pairs_137 rfl ?_
                      refine x_ixor dX8_pairs_138 ?_
                      refine x_iand dX8_pairs_139 ?_
                      rw [clr_c (by omega) (by omega)]
                      refine x_istore_n (L' := [some _, some _, some _, some _, some _, some _, some _]) dX8_pairs_140 rfl (by decide) rfl ?_
                      refine x_iload dX8_pairs_141 rfl ?_
                      refine x_iconst dX8_pairs_143 rfl ?_
                      refine x_icmp_ne (tgt := 151) dX8_pairs_144 (by decide) (fun h144 => ?_) (fun h144 => ?_)
                      · refine x_iload_n dX8_pairs_151 rfl rfl ?_
                        refine x_iconst dX8_pairs_152 rfl ?_
                        refine x_iload dX8_pairs_153 rfl ?_
                        refine x_ishl dX8_pairs_155 ?_
                        refine x_iconst dX8_pairs_156 rfl ?_
                        refine x_ixor dX8_pairs_157 ?_
                        refine x_iand dX8_pairs_158 ?_
                        rw [clr_c (by omega) (by omega)]
                        refine x_istore_n (L' := [some _, some _, some _, some _, some _, some _, some _]) dX8_pairs_159 rfl (by decide) rfl ?_
                        refine x_goto (tgt := 63) dX8_pairs_160 (by decide) ?_
                        first
                        | exact absurd h102 h121
                        | exact absurd h121 h102
                        | (refine fin _ _ _ _ ?_
                           rw [hs, if_pos h102])
                        | (refine fin _ _ _ _ ?_
                           rw [hs, if_neg h102, if_pos h108])
                        | (rw [if_neg (by omega), if_neg (by omega)] at hs
                           rw [if_neg (by omega)] at r3 r4
                           have en : nxP s o = clrI (clrI s (lo0 s)) o := if_neg hm
                           rw [en] at hs
                           refine x_fgt (by repeat (first | exact trivial | refine ⟨rfl, ?_⟩)) (ih _ (by omega) (clrI (clrI s (lo0 s)) o) _ fu rfl ?_ (by omega) (by omega) (r4.trans (r3.trans hb)) hs)
                           rcases (show clrI (clrI s (lo0 s)) o = 0 ∨ 0 < clrI (clrI s (lo0 s)) o by omega) with q | q
                           · rw [q, bit_0] at r4; omega
                           · exact q)
                      · omega
                    · refine x_iload dX8_pairs_124 rfl ?_
                      refine x_goto (tgt := 131) dX8_pairs_126 (by decide) ?_
                      refine x_istore_n (L' := [some _, some _, some _, some _, some _, some _, some _]) dX8_pairs_131 rfl (by decide) rfl ?_
                      refine x_iload_n dX8_pairs_132 rfl rfl ?_
                      refine x_iconst dX8_pairs_133 rfl ?_
                      refine x_iload dX8_pairs_134 rfl ?_
                      refine x_ishl dX8_pairs_136 ?_
                      refine x_iconst dX8_pairs_137 rfl ?_
                      refine x_ixor dX8_pairs_138 ?_
                      refine x_iand dX8_pairs_139 ?_
                      rw [clr_c (by omega) (by omega)]
                      refine x_istore_n (L' := [some _, some _, some _, some _, some _, some _, some _]) dX8_pairs_140 rfl (by decide) rfl ?_
                      refine x_iload dX8_pairs_141 rfl ?_
                      refine x_iconst dX8_pairs_143 rfl ?_
                      refine x_icmp_ne (tgt := 151) dX8_pairs_144 (by decide) (fun h144 => ?_) (fun h144 => ?_)
                      · refine x_iload_n dX8_pairs_151 rfl rfl ?_
                        refine x_iconst dX8_pairs_152 rfl ?_
                        refine x_iload dX8_pairs_153 rfl ?_
                        refine x_ishl dX8_pairs_155 ?_
                        refine x_iconst dX8_pairs_156 rfl ?_
                        refine x_ixor dX8_pairs_157 ?_
                        refine x_iand dX8_pairs_158 ?_
                        rw [clr_c (by omega) (by omega)]
                        refine x_istore_n (L' := [some _, some _, some _, some _, some _, some _, some _]) dX8_pairs_159 rfl (by decide) rfl ?_
                        refine x_goto (tgt := 63) dX8_pairs_160 (by decide) ?_
                        first
                        | exact absurd h102 h121
                        | exact absurd h121 h102
                        | (refine fin _ _ _ _ ?_
                           rw [hs, if_pos h102])
                        | (refine fin _ _ _ _ ?_
                           rw [hs, if_neg h102, if_pos h108])
                        | (rw [if_neg (by omega), if_neg (by omega)] at hs
                           rw [if_neg (by omega)] at r3 r4
                           have en : nxP s o = clrI (clrI s (lo0 s)) o := if_neg hm
                           rw [en] at hs
                           refine x_fgt (by repeat (first | exact trivial | refine ⟨rfl, ?_⟩)) (ih _ (by omega) (clrI (clrI s (lo0 s)) o) _ fu rfl ?_ (by omega) (by omega) (r4.trans (r3.trans hb)) hs)
                           rcases (show clrI (clrI s (lo0 s)) o = 0 ∨ 0 < clrI (clrI s (lo0 s)) o by omega) with q | q
                           · rw [q, bit_0] at r4; omega
                           · exact q)
                      · omega
                  · refine x_iload dX8_pairs_105 rfl ?_
                    refine x_iload_n dX8_pairs_107 rfl rfl ?_
                    refine x_icmp_ne (tgt := 115) dX8_pairs_108 (by decide) (fun h108 => ?_) (fun h108 => ?_)
                    · refine x_iconst dX8_pairs_115 rfl ?_
                      refine x_istore (L' := [some _, some _, some _, some _, some _, some _, some _]) dX8_pairs_116 (by decide) rfl ?_
                      refine x_iload dX8_pairs_118 rfl ?_
                      refine x_iload_n dX8_pairs_120 rfl rfl ?_
                      refine x_icmp_ne (tgt := 129) dX8_pairs_121 (by decide) (fun h121 => ?_) (fun h121 => ?_)
                      · refine x_iload dX8_pairs_129 rfl ?_
                        refine x_istore_n (L' := [some _, some _, some _, some _, some _, some _, some _]) dX8_pairs_131 rfl (by decide) rfl ?_
                        refine x_iload_n dX8_pairs_132 rfl rfl ?_
                        refine x_iconst dX8_pairs_133 rfl ?_
                        refine x_iload dX8_pairs_134 rfl ?_
                        refine x_ishl dX8_pairs_136 ?_
                        refine x_iconst dX8_pairs_137 rfl ?_
                        refine x_ixor dX8_pairs_138 ?_
                        refine x_iand dX8_pairs_139 ?_
                        rw [clr_c (by omega) (by omega)]
                        refine x_istore_n (L' := [some _, some _, some _, some _, some _, some _, some _]) dX8_pairs_140 rfl (by decide) rfl ?_
                        refine x_iload dX8_pairs_141 rfl ?_
                        refine x_iconst dX8_pairs_143 rfl ?_
                        refine x_icmp_ne (tgt := 151) dX8_pairs_144 (by decide) (fun h144 => ?_) (fun h144 => ?_)
                        · refine x_iload_n dX8_pairs_151 rfl rfl ?_
                          refine x_iconst dX8_pairs_152 rfl ?_
                          refine x_iload dX8_pairs_153 rfl ?_
                          refine x_ishl dX8_pairs_155 ?_
                          refine x_iconst dX8_pairs_156 rfl ?_
                          refine x_ixor dX8_pairs_157 ?_
                          refine x_iand dX8_pairs_158 ?_
                          rw [clr_c (by omega) (by omega)]
                          refine x_istore_n (L' := [some _, some _, some _, some _, some _, some _, some _]) dX8_pairs_159 rfl (by decide) rfl ?_
                          refine x_goto (tgt := 63) dX8_pairs_160 (by decide) ?_
                          first
                          | exact absurd h102 h121
                          | exact absurd h121 h102
                          | (refine fin _ _ _ _ ?_
                             rw [hs, if_pos h102])
                          | (refine fin _ _ _ _ ?_
                             rw [hs, if_neg h102, if_pos h108])
                          | (rw [if_neg (by omega), if_neg (by omega)] at hs
                             rw [if_neg (by omega)] at r3 r4
                             have en : nxP s o = clrI (clrI s (lo0 s)) o := if_neg hm
                             rw [en] at hs
                             refine x_fgt (by repeat (first | exact trivial | refine ⟨rfl, ?_⟩)) (ih _ (by omega) (clrI (clrI s (lo0 s)) o) _ fu rfl ?_ (by omega) (by omega) (r4.trans (r3.trans hb)) hs)
                             rcases (show clrI (clrI s (lo0 s)) o = 0 ∨ 0 < clrI (clrI s (lo0 s)) o by omega) with q | q
                             · rw [q, bit_0] at r4; omega
                             · exact q)
                        · omega
                      · refine x_iload dX8_pairs_124 rfl ?_
                        refine x_goto (tgt := 131) dX8_pairs_126 (by decide) ?_
                        refine x_istore_n (L' := [some _, some _, some _, some _, some _, some _, some _]) dX8_pairs_131 rfl (by decide) rfl ?_
                        refine x_iload_n dX8_pairs_132 rfl rfl ?_
                        refine x_iconst dX8_pairs_133 rfl ?_
                        refine x_iload dX8_pairs_134 rfl ?_
                        refine x_ishl dX8_pairs_136 ?_
                        refine x_iconst dX8_pairs_137 rfl ?_
                        refine x_ixor dX8_pairs_138 ?_
                        refine x_iand dX8_pairs_139 ?_
                        rw [clr_c (by omega) (by omega)]
                        refine x_istore_n (L' := [some _, some _, some _, some _, some _, some _, some _]) dX8_pairs_140 rfl (by decide) rfl ?_
                        refine x_iload dX8_pairs_141 rfl ?_
                        refine x_iconst dX8_pairs_143 rfl ?_
                        refine x_icmp_ne (tgt := 151) dX8_pairs_144 (by decide) (fun h144 => ?_) (fun h144 => ?_)
                        · refine x_iload_n dX8_pairs_151 rfl rfl ?_
                          refine x_iconst dX8_pairs_152 rfl ?_
                          refine x_iload dX8_pairs_153 rfl ?_
                          refine x_ishl dX8_pairs_155 ?_
                          refine x_iconst dX8_pairs_156 rfl ?_
                          refine x_ixor dX8_pairs_157 ?_
                          refine x_iand dX8_pairs_158 ?_
                          rw [clr_c (by omega) (by omega)]
                          refine x_istore_n (L' := [some _, some _, some _, some _, some _, some _, some _]) dX8_pairs_159 rfl (by decide) rfl ?_
                          refine x_goto (tgt := 63) dX8_pairs_160 (by decide) ?_
                          first
                          | exact absurd h102 h121
                          | exact absurd h121 h102
                          | (refine fin _ _ _ _ ?_
                             rw [hs, if_pos h102])
                          | (refine fin _ _ _ _ ?_
                             rw [hs, if_neg h102, if_pos h108])
                          | (rw [if_neg (by omega), if_neg (by omega)] at hs
                             rw [if_neg (by omega)] at r3 r4
                             have en : nxP s o = clrI (clrI s (lo0 s)) o := if_neg hm
                             rw [en] at hs
                             refine x_fgt (by repeat (first | exact trivial | refine ⟨rfl, ?_⟩)) (ih _ (by omega) (clrI (clrI s (lo0 s)) o) _ fu rfl ?_ (by omega) (by omega) (r4.trans (r3.trans hb)) hs)
                             rcases (show clrI (clrI s (lo0 s)) o = 0 ∨ 0 < clrI (clrI s (lo0 s)) o by omega) with q | q
                             · rw [q, bit_0] at r4; omega
                             · exact q)
                        · omega
                    · refine x_iconst dX8_pairs_111 rfl ?_
                      refine x_goto (tgt := 116) dX8_pairs_112 (by decide) ?_
                      refine x_istore (L' := [some _, some _, some _, some _, some _, some _, some _]) dX8_pairs_116 (by decide) rfl ?_
                      refine x_iload dX8_pairs_118 rfl ?_
                      refine x_iload_n dX8_pairs_120 rfl rfl ?_
                      refine x_icmp_ne (tgt := 129) dX8_pairs_121 (by decide) (fun h121 => ?_) (fun h121 => ?_)
                      · refine x_iload dX8_pairs_129 rfl ?_
                        refine x_istore_n (L' := [some _, some _, some _, some _, some _, some _, some _]) dX8_pairs_131 rfl (by decide) rfl ?_
                        refine x_iload_n dX8_pairs_132 rfl rfl ?_
                        refine x_iconst dX8_pairs_133 rfl ?_
                        refine x_iload dX8_pairs_134 rfl ?_
                        refine x_ishl dX8_pairs_136 ?_
                        refine x_iconst dX8_pairs_137 rfl ?_
                        refine x_ixor dX8_pairs_138 ?_
                        refine x_iand dX8_pairs_139 ?_
                        rw [clr_c (by omega) (by omega)]
                        refine x_istore_n (L' := [some _, some _, some _, some _, some _, some _, some _]) dX8_pairs_140 rfl (by decide) rfl ?_
                        refine x_iload dX8_pairs_141 rfl ?_
                        refine x_iconst dX8_pairs_143 rfl ?_
                        refine x_icmp_ne (tgt := 151) dX8_pairs_144 (by decide) (fun h144 => ?_) (fun h144 => ?_)
                        · refine x_iload_n dX8_pairs_151 rfl rfl ?_
                          refine x_iconst dX8_pairs_152 rfl ?_
                          refine x_iload dX8_pairs_153 rfl ?_
                          refine x_ishl dX8_pairs_155 ?_
                          refine x_iconst dX8_pairs_156 rfl ?_
                          refine x_ixor dX8_pairs_157 ?_
                          refine x_iand dX8_pairs_158 ?_
                          rw [clr_c (by omega) (by omega)]
                          refine x_istore_n (L' := [some _, some _, some _, some _, some _, some _, some _]) dX8_pairs_159 rfl (by decide) rfl ?_
                          refine x_goto (tgt := 63) dX8_pairs_160 (by decide) ?_
                          first
                          | exact absurd h102 h121
                          | exact absurd h121 h102
                          | (refine fin _ _ _ _ ?_
                             rw [hs, if_pos h102])
                          | (refine fin _ _ _ _ ?_
                             rw [hs, if_neg h102, if_pos h108])
                          | (rw [if_neg (by omega), if_neg (by omega)] at hs
                             rw [if_neg (by omega)] at r3 r4
                             have en : nxP s o = clrI (clrI s (lo0 s)) o := if_neg hm
                             rw [en] at hs
                             refine x_fgt (by repeat (first | exact trivial | refine ⟨rfl, ?_⟩)) (ih _ (by omega) (clrI (clrI s (lo0 s)) o) _ fu rfl ?_ (by omega) (by omega) (r4.trans (r3.trans hb)) hs)
                             rcases (show clrI (clrI s (lo0 s)) o = 0 ∨ 0 < clrI (clrI s (lo0 s)) o by omega) with q | q
                             · rw [q, bit_0] at r4; omega
                             · exact q)
                        · omega
                      · refine x_iload dX8_pairs_124 rfl ?_
                        refine x_goto (tgt := 131) dX8_pairs_126 (by decide) ?_
                        refine x_istore_n (L' := [some _, some _, some _, some _, some _, some _, some _]) dX8_pairs_131 rfl (by decide) rfl ?_
                        refine x_iload_n dX8_pairs_132 rfl rfl ?_
                        refine x_iconst dX8_pairs_133 rfl ?_
                        refine x_iload dX8_pairs_134 rfl ?_
                        refine x_ishl dX8_pairs_136 ?_
                        refine x_iconst dX8_pairs_137 rfl ?_
                        refine x_ixor dX8_pairs_138 ?_
                        refine x_iand dX8_pairs_139 ?_
                        rw [clr_c (by omega) (by omega)]
                        refine x_istore_n (L' := [some _, some _, some _, some _, some _, some _, some _]) dX8_pairs_140 rfl (by decide) rfl ?_
                        refine x_iload dX8_pairs_141 rfl ?_
                        refine x_iconst dX8_pairs_143 rfl ?_
                        refine x_icmp_ne (tgt := 151) dX8_pairs_144 (by decide) (fun h144 => ?_) (fun h144 => ?_)
                        · refine x_iload_n dX8_pairs_151 rfl rfl ?_
                          refine x_iconst dX8_pairs_152 rfl ?_
                          refine x_iload dX8_pairs_153 rfl ?_
                          refine x_ishl dX8_pairs_155 ?_
                          refine x_iconst dX8_pairs_156 rfl ?_
                          refine x_ixor dX8_pairs_157 ?_
                          refine x_iand dX8_pairs_158 ?_
                          rw [clr_c (by omega) (by omega)]
                          refine x_istore_n (L' := [some _, some _, some _, some _, some _, some _, some _]) dX8_pairs_159 rfl (by decide) rfl ?_
                          refine x_goto (tgt := 63) dX8_pairs_160 (by decide) ?_
                          first
                          | exact absurd h102 h121
                          | exact absurd h121 h102
                          | (refine fin _ _ _ _ ?_
                             rw [hs, if_pos h102])
                          | (refine fin _ _ _ _ ?_
                             rw [hs, if_neg h102, if_pos h108])
                          | (rw [if_neg (by omega), if_neg (by omega)] at hs
                             rw [if_neg (by omega)] at r3 r4
                             have en : nxP s o = clrI (clrI s (lo0 s)) o := if_neg hm
                             rw [en] at hs
                             refine x_fgt (by repeat (first | exact trivial | refine ⟨rfl, ?_⟩)) (ih _ (by omega) (clrI (clrI s (lo0 s)) o) _ fu rfl ?_ (by omega) (by omega) (r4.trans (r3.trans hb)) hs)
                             rcases (show clrI (clrI s (lo0 s)) o = 0 ∨ 0 < clrI (clrI s (lo0 s)) o by omega) with q | q
                             · rw [q, bit_0] at r4; omega
                             · exact q)
                        · omega
                · omega
            · have oy : ¬ o = y := fun q => ho (by rw [q]; exact hy2)
              refine x_aload_n dX8_pairs_77 rfl rfl ?_
              refine x_iload_n dX8_pairs_78 rfl rfl ?_
              refine x_iload dX8_pairs_79 rfl ?_
              refine g_callI (vs := [_, _, _]) (d' := d - 1) rfl (s_X8_pairedBy (M := wI M g) (by omega) hT hw2 hv (by omega) s1 (by omega) (fun j j0 j1 => hl j j0 (by omega))) dX8_pairs_81 kX8_528 (by omega) (by decide) rfl (Nat.le_of_ble_eq_true rfl) (rcv_o (by first | assumption | exact hT.2.1) rfl) (fun x81 M81 h81 => ?_)
              obtain ⟨e81, f81⟩ := h81
              have f81' := f81.symm
              subst f81'
              subst e81
              refine x_aload_n dX8_pairs_84 rfl rfl ?_
              refine g_getR (kI := 30) rfl dX8_pairs_85 fX8_58_8 (by first | assumption | exact hT.2.1) (by first | assumption | exact hT.2.1) ?_
              refine x_iload_n dX8_pairs_88 rfl rfl ?_
              refine x_iald dX8_pairs_89 (by first | assumption | exact hT.2.1) (by omega) (by omega) ?_
              rw [show mci (wI M g) (m + 14) s = tT v s from eT]
              refine x_icmp_eq (tgt := 99) dX8_pairs_90 (by decide) (fun h90 => ?_) (fun h90 => ?_)
              · exact absurd h90 ho
              · first | refine x_iincN (L' := [some _, some _, some _, some _, some _, some _, some _]) dX8_pairs_93 rfl (by decide) (by unfold i32; omega) rfl ?_ | refine x_iinc (L' := [some _, some _, some _, some _, some _, some _, some _]) dX8_pairs_93 rfl (by decide) rfl ?_
                refine x_goto (tgt := 77) dX8_pairs_96 (by decide) ?_
                refine ih2 _ (by omega) (o + 1) rfl (by omega) (by omega) fun o' c1 c2 => ?_
                by_cases e : o' = o
                · rw [e]; exact ho
                · exact hn o' c1 (by omega)
        refine x_iload dX8_pairs_63 rfl ?_
        refine x_if_ne (tgt := 163) dX8_pairs_65 (by decide) (fun h65 => ?_) (fun h65 => ?_)
        · omega
        · refine x_iload_n dX8_pairs_68 rfl rfl ?_
          refine g_callI (vs := [_]) (d' := d - 1) rfl (s_X8_firstOf (by omega) (by omega)) dX8_pairs_69 kX8_506 (by omega) (by decide) rfl (Nat.le_of_ble_eq_true rfl) (rcv_n) (fun x69 M69 h69 => ?_)
          obtain ⟨e69, f69⟩ := h69
          have f69' := f69.symm
          subst f69'
          subst e69
          refine x_istore (L' := [some _, some _, some _, some _, some _, some _, none]) dX8_pairs_72 (by decide) rfl ?_
          refine x_iconst dX8_pairs_74 rfl ?_
          refine x_istore (L' := [some _, some _, some _, some _, some _, some _, some _]) dX8_pairs_75 (by decide) rfl ?_
          exact inner _ (-1) rfl (by omega) (by omega) fun o' c1 c2 => by omega
    have q2 : 2 ≤ pw (v 0) := by
      have := pw_mono (a := 1) (b := (v 0).toNat) (by omega)
      rw [show (((v 0).toNat : Nat) : Int) = v 0 by omega] at this
      exact this
    exact lp _ (pw (v 0) - 1) (-1) 256 rfl (by omega) (by omega) (by omega) (pm1 hv0 hp) rfl
  refine x_aload_n dX8_pairs_0 rfl rfl ?_
  refine x_iconst dX8_pairs_1 rfl ?_
  refine g_putI (kI := 0) rfl dX8_pairs_2 fX8_3_8 (by first | assumption | exact hT.2.1) ?_
  refine x_aload_n dX8_pairs_5 rfl rfl ?_
  refine x_iload_n dX8_pairs_6 rfl rfl ?_
  refine x_iconst dX8_pairs_7 rfl ?_
  refine x_icmp_eq (tgt := 23) dX8_pairs_8 (by decide) (fun h8' => ?_) (fun h8' => ?_)
  · refine x_iconst dX8_pairs_23 rfl ?_
    refine x_iconst dX8_pairs_24 rfl ?_
    refine g_callI (vs := [_, _, _]) (d' := d - 1) rfl (s_X8_throwsIf (by omega) hT (by first | omega | exact vP_r _)) dX8_pairs_25 kX8_280 (by omega) (by decide) rfl (Nat.le_of_ble_eq_true rfl) (rcv_o (by first | assumption | exact hT.2.1) rfl) (fun x25 M25 h25 => ?_)
    obtain ⟨e25, r25, f25⟩ := h25
    have f25' := (f25.1 (by omega)).symm
    subst f25'
    subst e25
    refine x_if_eq (tgt := 33) dX8_pairs_28 (by decide) (fun h28 => ?_) (fun h28 => ?_)
    · try simp only [vP_0, vP_1, vP_n0, vP_n1, Classical.not_not] at h28
      refine x_aload_n dX8_pairs_33 rfl rfl ?_
      refine g_callN (vs := [_]) (d' := d - 1) rfl (s_X8_laysPairs (by omega) (TP.z (x := 0) hP).1 (TP.z (x := 0) hP).2.1 hv) dX8_pairs_34 kX8_531 (by omega) (by decide) rfl (Nat.le_of_ble_eq_true rfl) (rcv_o (by first | assumption | exact hT.2.1) rfl) (fun M34 h34 => ?_)
      obtain ⟨g34, hM34, hf34, hl34⟩ := h34
      subst hM34
      have hw : g34 (m + 1) = v := (funext fun k => hf34 _ k (by omega)).trans (TP.z (x := 0) hP).2.1
      refine x_iconst dX8_pairs_37 rfl ?_
      refine x_aload_n dX8_pairs_38 rfl rfl ?_
      refine g_callI (vs := [_]) (d' := d - 1) rfl (s_X8_ops (by omega) hT (by first | exact hw | exact mciI (by omega) hw | exact mciI (by omega) (mciI (by omega) hw) | exact mciI (by omega) (mciI (by omega) (mciI (by omega) hw)) | exact mciI (by omega) (mciI (by omega) (mciI (by omega) (mciI (by omega) hw))) | exact mciC (by omega) hw)) dX8_pairs_39 kX8_84 (by omega) (by decide) rfl (Nat.le_of_ble_eq_true rfl) (rcv_o (by first | assumption | exact hT.2.1) rfl) (fun x39 M39 h39 => ?_)
      obtain ⟨e39, f39⟩ := h39
      have f39' := f39.symm
      subst f39'
      subst e39
      refine x_ishl dX8_pairs_42 ?_
      refine x_iconst dX8_pairs_43 rfl ?_
      rw [jshl_1 (by omega)]
      first | refine x_isubN dX8_pairs_44 (by unfold i32; omega) ?_ | refine x_isub dX8_pairs_44 ?_
      refine x_istore_n (L' := [some _, some _, some _, none, none, none, none]) dX8_pairs_45 rfl (by decide) rfl ?_
      refine x_iload_n dX8_pairs_46 rfl rfl ?_
      refine x_iconst dX8_pairs_47 rfl ?_
      refine x_icmp_ne (tgt := 58) dX8_pairs_48 (by decide) (fun h48 => ?_) (fun h48 => ?_)
      · refine x_iconst dX8_pairs_58 rfl ?_
        refine x_istore_n (L' := [some _, some _, some _, some _, none, none, none]) dX8_pairs_59 rfl (by decide) rfl ?_
        refine x_iconst dX8_pairs_60 rfl ?_
        refine x_istore (L' := [some _, some _, some _, some _, some _, none, none]) dX8_pairs_61 (by decide) rfl ?_
        exact full g34 hf34 hl34 (by omega)
      · refine x_aload_n dX8_pairs_51 rfl rfl ?_
        refine g_getR (kI := 30) rfl dX8_pairs_52 fX8_58_8 (by first | assumption | exact hT.2.1) (by first | assumption | exact hT.2.1) ?_
        refine x_iload_n dX8_pairs_55 rfl rfl ?_
        refine x_iald dX8_pairs_56 (by first | assumption | exact hT.2.1) (by omega) (by omega) ?_
        refine x_ireturn rfl dX8_pairs_57 ?_
        refine hQ _ _ ⟨_, rfl, ?_, fun _ => ?_⟩
        · rw [if_pos (Or.inl (by omega))]
          refine RD.mk (g := g34) (l := mcl M) (fun a k _ _ _ _ _ q _ => hf34 a k q) TM.rfl (KnOk.at (TP.z (x := 0) hP).2.2.2.2.1 (fun q => hf34 _ _ (by omega)) fun _ => rfl) ?_
          have := (TP.z (x := 0) hP).2.2.2.2.2
          unfold sk01 at this ⊢
          rw [hf34 _ _ (by omega)]
          exact this
        · unfold pairsAns
          rw [if_pos (by omega), ← hl34 _ (by omega) (by omega)]
          rfl
    · exact absurd h28 (by decide)
  · refine x_aload_n dX8_pairs_11 rfl rfl ?_
    refine x_iload_n dX8_pairs_12 rfl rfl ?_
    refine g_callI (vs := [_, _]) (d' := d - 1) rfl (s_X8_noOp (by omega) hT (by first | exact hw | exact mciI (by omega) hw | exact mciI (by omega) (mciI (by omega) hw) | exact mciI (by omega) (mciI (by omega) (mciI (by omega) hw)) | exact mciI (by omega) (mciI (by omega) (mciI (by omega) (mciI (by omega) hw))) | exact mciC (by omega) hw) (by omega)) dX8_pairs_13 kX8_433 (by omega) (by decide) rfl (Nat.le_of_ble_eq_true rfl) (rcv_o (by first | assumption | exact hT.2.1) rfl) (fun x13 M13 h13 => ?_)
    obtain ⟨e13, f13⟩ := h13
    have f13' := f13.symm
    subst f13'
    subst e13
    refine x_if_eq (tgt := 23) dX8_pairs_16 (by decide) (fun h16 => ?_) (fun h16 => ?_)
    · try simp only [vP_0, vP_1, vP_n0, vP_n1, Classical.not_not] at h16
      refine x_iconst dX8_pairs_23 rfl ?_
      refine x_iconst dX8_pairs_24 rfl ?_
      refine g_callI (vs := [_, _, _]) (d' := d - 1) rfl (s_X8_throwsIf (by omega) hT (by first | omega | exact vP_r _)) dX8_pairs_25 kX8_280 (by omega) (by decide) rfl (Nat.le_of_ble_eq_true rfl) (rcv_o (by first | assumption | exact hT.2.1) rfl) (fun x25 M25 h25 => ?_)
      obtain ⟨e25, r25, f25⟩ := h25
      have f25' := (f25.1 (by omega)).symm
      subst f25'
      subst e25
      refine x_if_eq (tgt := 33) dX8_pairs_28 (by decide) (fun h28 => ?_) (fun h28 => ?_)
      · try simp only [vP_0, vP_1, vP_n0, vP_n1, Classical.not_not] at h28
        refine x_aload_n dX8_pairs_33 rfl rfl ?_
        refine g_callN (vs := [_]) (d' := d - 1) rfl (s_X8_laysPairs (by omega) (TP.z (x := 0) hP).1 (TP.z (x := 0) hP).2.1 hv) dX8_pairs_34 kX8_531 (by omega) (by decide) rfl (Nat.le_of_ble_eq_true rfl) (rcv_o (by first | assumption | exact hT.2.1) rfl) (fun M34 h34 => ?_)
        obtain ⟨g34, hM34, hf34, hl34⟩ := h34
        subst hM34
        have hw : g34 (m + 1) = v := (funext fun k => hf34 _ k (by omega)).trans (TP.z (x := 0) hP).2.1
        refine x_iconst dX8_pairs_37 rfl ?_
        refine x_aload_n dX8_pairs_38 rfl rfl ?_
        refine g_callI (vs := [_]) (d' := d - 1) rfl (s_X8_ops (by omega) hT (by first | exact hw | exact mciI (by omega) hw | exact mciI (by omega) (mciI (by omega) hw) | exact mciI (by omega) (mciI (by omega) (mciI (by omega) hw)) | exact mciI (by omega) (mciI (by omega) (mciI (by omega) (mciI (by omega) hw))) | exact mciC (by omega) hw)) dX8_pairs_39 kX8_84 (by omega) (by decide) rfl (Nat.le_of_ble_eq_true rfl) (rcv_o (by first | assumption | exact hT.2.1) rfl) (fun x39 M39 h39 => ?_)
        obtain ⟨e39, f39⟩ := h39
        have f39' := f39.symm
        subst f39'
        subst e39
        refine x_ishl dX8_pairs_42 ?_
        refine x_iconst dX8_pairs_43 rfl ?_
        rw [jshl_1 (by omega)]
        first | refine x_isubN dX8_pairs_44 (by unfold i32; omega) ?_ | refine x_isub dX8_pairs_44 ?_
        refine x_istore_n (L' := [some _, some _, some _, none, none, none, none]) dX8_pairs_45 rfl (by decide) rfl ?_
        refine x_iload_n dX8_pairs_46 rfl rfl ?_
        refine x_iconst dX8_pairs_47 rfl ?_
        refine x_icmp_ne (tgt := 58) dX8_pairs_48 (by decide) (fun h48 => ?_) (fun h48 => ?_)
        · refine x_iconst dX8_pairs_58 rfl ?_
          refine x_istore_n (L' := [some _, some _, some _, some _, none, none, none]) dX8_pairs_59 rfl (by decide) rfl ?_
          refine x_iconst dX8_pairs_60 rfl ?_
          refine x_istore (L' := [some _, some _, some _, some _, some _, none, none]) dX8_pairs_61 (by decide) rfl ?_
          exact full g34 hf34 hl34 (by omega)
        · refine x_aload_n dX8_pairs_51 rfl rfl ?_
          refine g_getR (kI := 30) rfl dX8_pairs_52 fX8_58_8 (by first | assumption | exact hT.2.1) (by first | assumption | exact hT.2.1) ?_
          refine x_iload_n dX8_pairs_55 rfl rfl ?_
          refine x_iald dX8_pairs_56 (by first | assumption | exact hT.2.1) (by omega) (by omega) ?_
          refine x_ireturn rfl dX8_pairs_57 ?_
          refine hQ _ _ ⟨_, rfl, ?_, fun _ => ?_⟩
          · rw [if_pos (Or.inl (by omega))]
            refine RD.mk (g := g34) (l := mcl M) (fun a k _ _ _ _ _ q _ => hf34 a k q) TM.rfl (KnOk.at (TP.z (x := 0) hP).2.2.2.2.1 (fun q => hf34 _ _ (by omega)) fun _ => rfl) ?_
            have := (TP.z (x := 0) hP).2.2.2.2.2
            unfold sk01 at this ⊢
            rw [hf34 _ _ (by omega)]
            exact this
          · unfold pairsAns
            rw [if_pos (by omega), ← hl34 _ (by omega) (by omega)]
            rfl
      · exact absurd h28 (by decide)
    · try simp only [vP_0, vP_1, vP_n0, vP_n1, Classical.not_not] at h16
      refine x_iconst dX8_pairs_19 rfl ?_
      refine x_goto (tgt := 24) dX8_pairs_20 (by decide) ?_
      refine x_iconst dX8_pairs_24 rfl ?_
      refine g_callI (vs := [_, _, _]) (d' := d - 1) rfl (s_X8_throwsIf (by omega) hT (by first | omega | exact vP_r _)) dX8_pairs_25 kX8_280 (by omega) (by decide) rfl (Nat.le_of_ble_eq_true rfl) (rcv_o (by first | assumption | exact hT.2.1) rfl) (fun x25 M25 h25 => ?_)
      obtain ⟨e25, r25, f25⟩ := h25
      have f25' := (f25.2 (by omega)).symm
      subst f25'
      subst e25
      refine x_if_eq (tgt := 33) dX8_pairs_28 (by decide) (fun h28 => ?_) (fun h28 => ?_)
      · exact absurd h28 (by decide)
      · try simp only [vP_0, vP_1, vP_n0, vP_n1, Classical.not_not] at h28
        refine x_iconst dX8_pairs_31 rfl ?_
        refine x_ireturn rfl dX8_pairs_32 ?_
        refine hQ _ _ ⟨_, rfl, ?_, fun q => absurd q (by omega)⟩
        rw [if_neg (by omega)]
        exact RD.t hP
end X8

