/-! GuestViewModel: the most, choices, cells by turns, what is done -/
theorem restN (v : Vw) (p : Int) {t k : Int} (ht : 0 ≤ t) : numR (fun k => restC v p (k / 2) (k % 2)) (t + 1).toNat = numR (fun k => restC v p (k / 2) (k % 2)) t.toNat + (@ite Int (restC v p (t / 2) (t % 2)) (Classical.propDecidable _) (pw t) 0) := by
  rw [show (t + 1).toNat = t.toNat + 1 by omega, num_s, show ((t.toNat : Nat) : Int) = t by omega]
section X8
variable {G : GW} {d : Nat} {M : Mem} {m a b c p k i what n st pc op : Int} {v : Vw}
theorem s_X8_amountOf (hd : 17 ≤ d) (hT : TwS (msh M) (mcr M) m) (hw : mci M (m + 1) = v) (hv : okB v) (hp : 0 ≤ p ∧ p < v 0) (hTr : TrOk (mci M) m v) (hL : lawOK v) (hwh : 0 ≤ what ∧ what ≤ 2) : CS G d mX8_amountOf [dR m, dI what, dI p] M (postI fun x M1 => x = amtV v what p ∧ ∃ g, M1 = wI M g ∧ TV m (mci M) g) := by
  have hv8 := hv.n8
  refine CS.mkQ (by decide) (Nat.le_of_ble_eq_true rfl) fun Q hQ => ?_
  refine x_iload_n dX8_amountOf_0 rfl rfl ?_
  refine x_if_ne (tgt := 13) dX8_amountOf_1 (by decide) (fun h1 => ?_) (fun h1 => ?_)
  · refine x_iload_n dX8_amountOf_13 rfl rfl ?_
    refine x_iconst dX8_amountOf_14 rfl ?_
    refine x_icmp_ne (tgt := 26) dX8_amountOf_15 (by decide) (fun h15 => ?_) (fun h15 => ?_)
    · refine x_aload_n dX8_amountOf_26 rfl rfl ?_
      refine x_iload_n dX8_amountOf_27 rfl rfl ?_
      refine g_callI (vs := [_, _]) (d' := d - 1) rfl (s_X8_usesOf (by omega) hT (by first | exact hw | exact mciI (by omega) hw | exact mciI (by omega) (mciI (by omega) hw) | exact mciI (by omega) (mciI (by omega) (mciI (by omega) hw)) | exact mciI (by omega) (mciI (by omega) (mciI (by omega) (mciI (by omega) hw))) | exact mciC (by omega) hw) hv) dX8_amountOf_28 kX8_368 (by omega) (by decide) rfl (Nat.le_of_ble_eq_true rfl) (rcv_o (by first | assumption | exact hT.2.1) rfl) (fun x28 M28 h28 => ?_)
      obtain ⟨e28, r28, f28⟩ := h28
      have f28' := f28.symm
      subst f28'
      refine x_ireturn rfl dX8_amountOf_31 ?_
      first
      | exact hQ _ _ ⟨_, rfl, (if_pos h1).symm, mci M, rfl, TV.rfl⟩
      | exact hQ _ _ ⟨_, rfl, e20.trans ((if_neg h1).trans (if_pos h15)).symm, g20, hM20, q20⟩
      | exact hQ _ _ ⟨_, rfl, e28.trans ((if_neg h1).trans (if_neg h15)).symm, mci M, rfl, TV.rfl⟩
    · refine x_aload_n dX8_amountOf_18 rfl rfl ?_
      refine x_iload_n dX8_amountOf_19 rfl rfl ?_
      refine g_callI (vs := [_, _]) (d' := d - 1) rfl (s_X8_emulationOf (by omega) hT hw hv hp hTr hL) dX8_amountOf_20 kX8_405 (by omega) (by decide) rfl (Nat.le_of_ble_eq_true rfl) (rcv_o (by first | assumption | exact hT.2.1) rfl) (fun x20 M20 h20 => ?_)
      obtain ⟨⟨e20, r20⟩, g20, hM20, q20⟩ := h20
      refine x_goto (tgt := 31) dX8_amountOf_23 (by decide) ?_
      refine x_ireturn rfl dX8_amountOf_31 ?_
      first
      | exact hQ _ _ ⟨_, rfl, (if_pos h1).symm, mci M, rfl, TV.rfl⟩
      | exact hQ _ _ ⟨_, rfl, e20.trans ((if_neg h1).trans (if_pos h15)).symm, g20, hM20, q20⟩
      | exact hQ _ _ ⟨_, rfl, e28.trans ((if_neg h1).trans (if_neg h15)).symm, mci M, rfl, TV.rfl⟩
  · refine x_aload_n dX8_amountOf_4 rfl rfl ?_
    refine x_iload_n dX8_amountOf_5 rfl rfl ?_
    refine x_iconst dX8_amountOf_6 rfl ?_
    refine g_callI (vs := [_, _, _]) (d' := d - 1) rfl (s_X8_of (by omega) hT (by first | exact hw | exact mciI (by omega) hw | exact mciI (by omega) (mciI (by omega) hw) | exact mciI (by omega) (mciI (by omega) (mciI (by omega) hw)) | exact mciI (by omega) (mciI (by omega) (mciI (by omega) (mciI (by omega) hw))) | exact mciC (by omega) hw) (by omega) (by omega)) dX8_amountOf_7 kX8_78 (by omega) (by decide) rfl (Nat.le_of_ble_eq_true rfl) (rcv_o (by first | assumption | exact hT.2.1) rfl) (fun x7 M7 h7 => ?_)
    obtain ⟨e7, f7⟩ := h7
    have f7' := f7.symm
    subst f7'
    subst e7
    try simp (disch := omega) only [rdI_e, rdI_n, rdC_i, rdC_o, rdW, rdR, rdU_e, rdU_n, rdLW, Int.add_zero, hw]
    refine x_goto (tgt := 31) dX8_amountOf_10 (by decide) ?_
    refine x_ireturn rfl dX8_amountOf_31 ?_
    first
    | exact hQ _ _ ⟨_, rfl, (if_pos h1).symm, mci M, rfl, TV.rfl⟩
    | exact hQ _ _ ⟨_, rfl, e20.trans ((if_neg h1).trans (if_pos h15)).symm, g20, hM20, q20⟩
    | exact hQ _ _ ⟨_, rfl, e28.trans ((if_neg h1).trans (if_neg h15)).symm, mci M, rfl, TV.rfl⟩
theorem mostR_s {w : Int} {t : Nat} : mostR v w (t + 1) = if mostR v w t = -1 ∨ amtV v w t > amtV v w (mostR v w t) then (t : Int) else mostR v w t := rfl
theorem s_X8_most (hd : 18 ≤ d) (hP : TP M m v) : CS G d mX8_most [dR m, dI what] M (postI fun x M1 => RD M m (if 0 ≤ what ∧ what ≤ 2 then 0 else 1) M1 ∧ (0 ≤ what ∧ what ≤ 2 → x = mostAns v what)) := by
  obtain ⟨hT, hw, hA, hL, hK, hsk⟩ := id hP
  have hv := hA.1
  have hv0 := hv.1
  have hT_ := hT; obtain ⟨p0, p1, ⟨c1, c2, c3, c4, c5, c6, c7, c8, c9, c10, c11, c12, c13, c14, c15⟩, ⟨t1, t2, t3, t4, t5, t6, t7, t8, t9, t10, t11, t12, t13, t14, t15⟩⟩ := hT_
  refine CS.mkQ (by decide) (Nat.le_of_ble_eq_true rfl) fun Q hQ => ?_
  have loop : ∀ (g0 l : Ci), g0 (m + 1) = v → TQ m (mci (mI M m 0 0)) g0 → TM m (mcl M) l → KnOk g0 l m → TrOk g0 m v → sk01 g0 m → 0 ≤ what ∧ what ≤ 2 → WP G d mX8_most 37 [some (dR m), some (dI what), some (dI (-1)), some (dI 0)] [] (wL M g0 l) Q := by
    intro g0 l hw0 f1 f2 f3 f4 f5 hwh
    have lp : ∀ (t : Nat) (p x : Int) (g : Ci), (v 0 - p).toNat = t → (0 ≤ p) → (p ≤ v 0) → (x = mostR v what p.toNat) → (TV m g0 g) → WP G d mX8_most 37 [some (dR m), some (dI what), some (dI x), some (dI p)] [] (wL M g l) Q := by
      intro t
      induction t using Nat.strongRecOn with
      | _ t ih =>
        intro p x g ht p0 p1 hx hf
        have hw : g (m + 1) = v := hf.w hw0
        have hTr : TrOk g m v := f4.te hf.te
        have hxr := mostR_r v what p.toNat
        rw [← hx] at hxr
        have es : mostR v what (p + 1).toNat = if x = -1 ∨ amtV v what p > amtV v what x then p else x := by
          rw [show (p + 1).toNat = p.toNat + 1 by omega, mostR_s, hx, show ((p.toNat : Nat) : Int) = p by omega]
        refine x_iload_n dX8_most_37 rfl rfl ?_
        refine x_aload_n dX8_most_38 rfl rfl ?_
        refine g_callI (vs := [_]) (d' := d - 1) rfl (s_X8_ops (by omega) hT (by first | exact hw | exact mciI (by omega) hw | exact mciI (by omega) (mciI (by omega) hw) | exact mciI (by omega) (mciI (by omega) (mciI (by omega) hw)) | exact mciI (by omega) (mciI (by omega) (mciI (by omega) (mciI (by omega) hw))) | exact mciC (by omega) hw)) dX8_most_39 kX8_84 (by omega) (by decide) rfl (Nat.le_of_ble_eq_true rfl) (rcv_o (by first | assumption | exact hT.2.1) rfl) (fun x39 M39 h39 => ?_)
        obtain ⟨e39, f39⟩ := h39
        have f39' := f39.symm
        subst f39'
        subst e39
        try simp (disch := omega) only [rdI_e, rdI_n, rdC_i, rdC_o, rdW, rdR, rdU_e, rdU_n, rdLW, Int.add_zero, hw]
        refine x_icmp_ge (tgt := 77) dX8_most_42 (by decide) (fun h42 => ?_) (fun h42 => ?_)
        · refine x_iload_n dX8_most_77 rfl rfl ?_
          refine x_ireturn rfl dX8_most_78 ?_
          refine hQ _ _ ⟨_, rfl, ?_, fun _ => ?_⟩
          · rw [if_pos hwh]
            exact RD.mk (TQ.trans f1 hf.tq) f2 (f3.te hf.te) (hf.sk f5)
          · unfold mostAns
            rw [hx, show p = v 0 by omega]
        · refine x_iload_n dX8_most_45 rfl rfl ?_
          refine x_iconst dX8_most_46 rfl ?_
          refine x_icmp_eq (tgt := 65) dX8_most_47 (by decide) (fun h47 => ?_) (fun h47 => ?_)
          · refine x_iload_n dX8_most_65 rfl rfl ?_
            refine x_goto (tgt := 70) dX8_most_66 (by decide) ?_
            refine x_istore_n (L' := [some _, some _, some _, some _]) dX8_most_70 rfl (by decide) rfl ?_
            first | refine x_iincN (L' := [some _, some _, some _, some _]) dX8_most_71 rfl (by decide) (by unfold i32; omega) rfl ?_ | refine x_iinc (L' := [some _, some _, some _, some _]) dX8_most_71 rfl (by decide) rfl ?_
            refine x_goto (tgt := 37) dX8_most_74 (by decide) ?_
            first
            | (rw [if_pos (Or.inl h47)] at es
               exact ih _ (by omega) (p + 1) _ g rfl (by omega) (by omega) es.symm hf)
            | (rw [if_pos (Or.inr (by omega))] at es
               exact WP.mem (M1 := wL M g59 l) rfl (ih _ (by omega) (p + 1) _ g59 rfl (by omega) (by omega) es.symm (TV.trans hf (TV.trans q53 q59))))
            | (rw [if_neg (by omega)] at es
               exact WP.mem (M1 := wL M g59 l) rfl (ih _ (by omega) (p + 1) _ g59 rfl (by omega) (by omega) es.symm (TV.trans hf (TV.trans q53 q59))))
          · refine x_aload_n dX8_most_50 rfl rfl ?_
            refine x_iload_n dX8_most_51 rfl rfl ?_
            refine x_iload_n dX8_most_52 rfl rfl ?_
            refine g_callI (vs := [_, _, _]) (d' := d - 1) rfl (s_X8_amountOf (M := wL M g l) (by omega) hT hw hv (by omega) hTr hL hwh) dX8_most_53 kX8_544 (by omega) (by decide) rfl (Nat.le_of_ble_eq_true rfl) (rcv_o (by first | assumption | exact hT.2.1) rfl) (fun x53 M53 h53 => ?_)
            obtain ⟨e53, g53, hM53, q53⟩ := h53
            subst hM53
            have hw2 := TV.w q53 hw
            have hTr2 := hTr.te q53.te
            refine x_aload_n dX8_most_56 rfl rfl ?_
            refine x_iload_n dX8_most_57 rfl rfl ?_
            refine x_iload_n dX8_most_58 rfl rfl ?_
            refine g_callI (vs := [_, _, _]) (d' := d - 1) rfl (s_X8_amountOf (M := wL M g53 l) (by omega) hT hw2 hv (by omega) hTr2 hL hwh) dX8_most_59 kX8_544 (by omega) (by decide) rfl (Nat.le_of_ble_eq_true rfl) (rcv_o (by first | assumption | exact hT.2.1) rfl) (fun x59 M59 h59 => ?_)
            obtain ⟨e59, g59, hM59, q59⟩ := h59
            subst hM59
            rw [e53, e59]
            refine x_icmp_le (tgt := 69) dX8_most_62 (by decide) (fun h62 => ?_) (fun h62 => ?_)
            · refine x_iload_n dX8_most_69 rfl rfl ?_
              refine x_istore_n (L' := [some _, some _, some _, some _]) dX8_most_70 rfl (by decide) rfl ?_
              first | refine x_iincN (L' := [some _, some _, some _, some _]) dX8_most_71 rfl (by decide) (by unfold i32; omega) rfl ?_ | refine x_iinc (L' := [some _, some _, some _, some _]) dX8_most_71 rfl (by decide) rfl ?_
              refine x_goto (tgt := 37) dX8_most_74 (by decide) ?_
              first
              | (rw [if_pos (Or.inl h47)] at es
                 exact ih _ (by omega) (p + 1) _ g rfl (by omega) (by omega) es.symm hf)
              | (rw [if_pos (Or.inr (by omega))] at es
                 exact WP.mem (M1 := wL M g59 l) rfl (ih _ (by omega) (p + 1) _ g59 rfl (by omega) (by omega) es.symm (TV.trans hf (TV.trans q53 q59))))
              | (rw [if_neg (by omega)] at es
                 exact WP.mem (M1 := wL M g59 l) rfl (ih _ (by omega) (p + 1) _ g59 rfl (by omega) (by omega) es.symm (TV.trans hf (TV.trans q53 q59))))
            · refine x_iload_n dX8_most_65 rfl rfl ?_
              refine x_goto (tgt := 70) dX8_most_66 (by decide) ?_
              refine x_istore_n (L' := [some _, some _, some _, some _]) dX8_most_70 rfl (by decide) rfl ?_
              first | refine x_iincN (L' := [some _, some _, some _, some _]) dX8_most_71 rfl (by decide) (by unfold i32; omega) rfl ?_ | refine x_iinc (L' := [some _, some _, some _, some _]) dX8_most_71 rfl (by decide) rfl ?_
              refine x_goto (tgt := 37) dX8_most_74 (by decide) ?_
              first
              | (rw [if_pos (Or.inl h47)] at es
                 exact ih _ (by omega) (p + 1) _ g rfl (by omega) (by omega) es.symm hf)
              | (rw [if_pos (Or.inr (by omega))] at es
                 exact WP.mem (M1 := wL M g59 l) rfl (ih _ (by omega) (p + 1) _ g59 rfl (by omega) (by omega) es.symm (TV.trans hf (TV.trans q53 q59))))
              | (rw [if_neg (by omega)] at es
                 exact WP.mem (M1 := wL M g59 l) rfl (ih _ (by omega) (p + 1) _ g59 rfl (by omega) (by omega) es.symm (TV.trans hf (TV.trans q53 q59))))
    exact lp _ 0 (-1) g0 rfl (by omega) (by omega) rfl TV.rfl
  refine x_aload_n dX8_most_0 rfl rfl ?_
  refine x_iconst dX8_most_1 rfl ?_
  refine g_putI (kI := 0) rfl dX8_most_2 fX8_3_8 (by first | assumption | exact hT.2.1) ?_
  obtain ⟨hT, hw, hA, hL, hK, hsk⟩ := TP.z (x := 0) hP
  refine x_aload_n dX8_most_5 rfl rfl ?_
  refine x_iload_n dX8_most_6 rfl rfl ?_
  refine x_iconst dX8_most_7 rfl ?_
  refine x_iconst dX8_most_8 rfl ?_
  refine g_callI (vs := [_, _, _]) (d' := d - 1) rfl (s_X8_in (by omega)) dX8_most_9 kX8_88 (by omega) (by decide) rfl (Nat.le_of_ble_eq_true rfl) (rcv_n) (fun x9 M9 h9 => ?_)
  obtain ⟨e9, f9⟩ := h9
  have f9' := f9.symm
  subst f9'
  subst e9
  refine x_if_ne (tgt := 19) dX8_most_12 (by decide) (fun h12 => ?_) (fun h12 => ?_)
  · try simp only [vP_0, vP_1, vP_n0, vP_n1, Classical.not_not] at h12
    refine x_iconst dX8_most_19 rfl ?_
    refine x_iconst dX8_most_20 rfl ?_
    refine g_callI (vs := [_, _, _]) (d' := d - 1) rfl (s_X8_throwsIf (by omega) hT (by first | omega | exact vP_r _)) dX8_most_21 kX8_280 (by omega) (by decide) rfl (Nat.le_of_ble_eq_true rfl) (rcv_o (by first | assumption | exact hT.2.1) rfl) (fun x21 M21 h21 => ?_)
    obtain ⟨e21, r21, f21⟩ := h21
    have f21' := (f21.1 (by omega)).symm
    subst f21'
    subst e21
    refine x_if_eq (tgt := 29) dX8_most_24 (by decide) (fun h24 => ?_) (fun h24 => ?_)
    · try simp only [vP_0, vP_1, vP_n0, vP_n1, Classical.not_not] at h24
      refine x_aload_n dX8_most_29 rfl rfl ?_
      refine g_callN (vs := [_]) (d' := d - 1) rfl (s_X8_laysTraits (by omega) hT (by first | exact hw | exact mciI (by omega) hw | exact mciI (by omega) (mciI (by omega) hw) | exact mciI (by omega) (mciI (by omega) (mciI (by omega) hw)) | exact mciI (by omega) (mciI (by omega) (mciI (by omega) (mciI (by omega) hw))) | exact mciC (by omega) hw) hv hK hsk) dX8_most_30 kX8_423 (by omega) (by decide) rfl (Nat.le_of_ble_eq_true rfl) (rcv_o (by first | assumption | exact hT.2.1) rfl) (fun M30 h30 => ?_)
      obtain ⟨g30, l30, hM30, q30, y30, hK, hTr, hsk⟩ := h30
      subst hM30
      have hw := TG.w q30 (by first | exact hw | exact mciI (by omega) hw | exact mciI (by omega) (mciI (by omega) hw) | exact mciI (by omega) (mciI (by omega) (mciI (by omega) hw)) | exact mciI (by omega) (mciI (by omega) (mciI (by omega) (mciI (by omega) hw))) | exact mciC (by omega) hw)
      refine x_iconst dX8_most_33 rfl ?_
      refine x_istore_n (L' := [some _, some _, some _, none]) dX8_most_34 rfl (by decide) rfl ?_
      refine x_iconst dX8_most_35 rfl ?_
      refine x_istore_n (L' := [some _, some _, some _, some _]) dX8_most_36 rfl (by decide) rfl ?_
      exact loop g30 l30 hw q30.tq y30.tm hK hTr hsk (by omega)
    · exact absurd h24 (by decide)
  · try simp only [vP_0, vP_1, vP_n0, vP_n1, Classical.not_not] at h12
    refine x_iconst dX8_most_15 rfl ?_
    refine x_goto (tgt := 20) dX8_most_16 (by decide) ?_
    refine x_iconst dX8_most_20 rfl ?_
    refine g_callI (vs := [_, _, _]) (d' := d - 1) rfl (s_X8_throwsIf (by omega) hT (by first | omega | exact vP_r _)) dX8_most_21 kX8_280 (by omega) (by decide) rfl (Nat.le_of_ble_eq_true rfl) (rcv_o (by first | assumption | exact hT.2.1) rfl) (fun x21 M21 h21 => ?_)
    obtain ⟨e21, r21, f21⟩ := h21
    have f21' := (f21.2 (by omega)).symm
    subst f21'
    subst e21
    refine x_if_eq (tgt := 29) dX8_most_24 (by decide) (fun h24 => ?_) (fun h24 => ?_)
    · exact absurd h24 (by decide)
    · try simp only [vP_0, vP_1, vP_n0, vP_n1, Classical.not_not] at h24
      refine x_iconst dX8_most_27 rfl ?_
      refine x_ireturn rfl dX8_most_28 ?_
      exact hQ _ _ ⟨_, rfl, by rw [if_neg (by omega)]; exact RD.t hP, fun q => absurd q (by omega)⟩
theorem s_X8_guestHas (hd : 16 ≤ d) (hT : TwS (msh M) (mcr M) m) (hw : mci M (m + 1) = v) (hv : okB v) (hp : 0 ≤ p ∧ p < v 0) (hTr : TrOk (mci M) m v) (hL : lawOK v) : CS G d mX8_guestHas [dR m, dI p, dI a, dI b] M (postI fun x M1 => x = ghV v p a b ∧ ∃ g, M1 = wI M g ∧ TV m (mci M) g) := by
  have hv8 := hv.n8
  refine CS.mkQ (by decide) (Nat.le_of_ble_eq_true rfl) fun Q hQ => ?_
  refine x_iload_n dX8_guestHas_0 rfl rfl ?_
  refine x_iconst dX8_guestHas_1 rfl ?_
  refine x_icmp_ne (tgt := 7) dX8_guestHas_2 (by decide) (fun h2 => ?_) (fun h2 => ?_)
  · refine x_iload_n dX8_guestHas_7 rfl rfl ?_
    refine x_if_ne (tgt := 21) dX8_guestHas_8 (by decide) (fun h8 => ?_) (fun h8 => ?_)
    · refine x_aload_n dX8_guestHas_21 rfl rfl ?_
      refine x_iload_n dX8_guestHas_22 rfl rfl ?_
      refine x_iconst dX8_guestHas_23 rfl ?_
      refine g_callI (vs := [_, _, _]) (d' := d - 1) rfl (s_X8_of (by omega) hT (by first | exact hw | exact mciI (by omega) hw | exact mciI (by omega) (mciI (by omega) hw) | exact mciI (by omega) (mciI (by omega) (mciI (by omega) hw)) | exact mciI (by omega) (mciI (by omega) (mciI (by omega) (mciI (by omega) hw))) | exact mciC (by omega) hw) (by omega) (by omega)) dX8_guestHas_24 kX8_78 (by omega) (by decide) rfl (Nat.le_of_ble_eq_true rfl) (rcv_o (by first | assumption | exact hT.2.1) rfl) (fun x24 M24 h24 => ?_)
      obtain ⟨e24, f24⟩ := h24
      have f24' := f24.symm
      subst f24'
      subst e24
      try simp (disch := omega) only [rdI_e, rdI_n, rdC_i, rdC_o, rdW, rdR, rdU_e, rdU_n, rdLW, Int.add_zero, hw]
      refine x_ireturn rfl dX8_guestHas_27 ?_
      first
      | exact hQ _ _ ⟨_, rfl, (if_pos h2).symm, mci M, rfl, TV.rfl⟩
      | exact hQ _ _ ⟨_, rfl, (congrArg (fun z => -z) e14).trans ((if_neg h2).trans (if_pos h8)).symm, g14, hM14, q14⟩
      | exact hQ _ _ ⟨_, rfl, ((if_neg h2).trans (if_neg h8)).symm, mci M, rfl, TV.rfl⟩
    · refine x_aload_n dX8_guestHas_11 rfl rfl ?_
      refine x_iconst dX8_guestHas_12 rfl ?_
      refine x_iload_n dX8_guestHas_13 rfl rfl ?_
      refine g_callI (vs := [_, _, _]) (d' := d - 1) rfl (s_X8_sumOf (by omega) hT hw hv hp hTr hL) dX8_guestHas_14 kX8_381 (by omega) (by decide) rfl (Nat.le_of_ble_eq_true rfl) (rcv_o (by first | assumption | exact hT.2.1) rfl) (fun x14 M14 h14 => ?_)
      obtain ⟨⟨e14, r14⟩, g14, hM14, q14⟩ := h14
      first | refine x_inegN dX8_guestHas_17 (by unfold i32; omega) ?_ | refine x_ineg dX8_guestHas_17 ?_
      refine x_goto (tgt := 27) dX8_guestHas_18 (by decide) ?_
      refine x_ireturn rfl dX8_guestHas_27 ?_
      first
      | exact hQ _ _ ⟨_, rfl, (if_pos h2).symm, mci M, rfl, TV.rfl⟩
      | exact hQ _ _ ⟨_, rfl, (congrArg (fun z => -z) e14).trans ((if_neg h2).trans (if_pos h8)).symm, g14, hM14, q14⟩
      | exact hQ _ _ ⟨_, rfl, ((if_neg h2).trans (if_neg h8)).symm, mci M, rfl, TV.rfl⟩
  · refine x_iconst dX8_guestHas_5 rfl ?_
    refine x_ireturn rfl dX8_guestHas_6 ?_
    first
    | exact hQ _ _ ⟨_, rfl, (if_pos h2).symm, mci M, rfl, TV.rfl⟩
    | exact hQ _ _ ⟨_, rfl, (congrArg (fun z => -z) e14).trans ((if_neg h2).trans (if_pos h8)).symm, g14, hM14, q14⟩
    | exact hQ _ _ ⟨_, rfl, ((if_neg h2).trans (if_neg h8)).symm, mci M, rfl, TV.rfl⟩
theorem s_X8_hostHas (hd : 17 ≤ d) (hT : TwS (msh M) (mcr M) m) (hw : mci M (m + 1) = v) (hv : okB v) (hp : 0 ≤ p ∧ p < v 0) (hTr : TrOk (mci M) m v) (hL : lawOK v) : CS G d mX8_hostHas [dR m, dI p, dI a, dI b] M (postI fun x M1 => x = hhV v p a b ∧ ∃ g, M1 = wI M g ∧ TV m (mci M) g) := by
  refine CS.mkQ (by decide) (Nat.le_of_ble_eq_true rfl) fun Q hQ => ?_
  refine x_iload_n dX8_hostHas_0 rfl rfl ?_
  refine x_iconst dX8_hostHas_1 rfl ?_
  refine x_icmp_ne (tgt := 15) dX8_hostHas_2 (by decide) (fun h2 => ?_) (fun h2 => ?_)
  · refine x_iload_n dX8_hostHas_15 rfl rfl ?_
    refine x_if_ne (tgt := 27) dX8_hostHas_16 (by decide) (fun h16 => ?_) (fun h16 => ?_)
    · refine x_aload_n dX8_hostHas_27 rfl rfl ?_
      refine x_iload_n dX8_hostHas_28 rfl rfl ?_
      refine g_callI (vs := [_, _]) (d' := d - 1) rfl (s_X8_emulationOf (by omega) hT hw hv hp hTr hL) dX8_hostHas_29 kX8_405 (by omega) (by decide) rfl (Nat.le_of_ble_eq_true rfl) (rcv_o (by first | assumption | exact hT.2.1) rfl) (fun x29 M29 h29 => ?_)
      obtain ⟨⟨e29, r29⟩, g29, hM29, q29⟩ := h29
      first | refine x_inegN dX8_hostHas_32 (by unfold i32; omega) ?_ | refine x_ineg dX8_hostHas_32 ?_
      refine x_ireturn rfl dX8_hostHas_33 ?_
      first
      | exact hQ _ _ ⟨_, rfl, ((if_pos h2).trans (if_pos h6)).symm, mci M, rfl, TV.rfl⟩
      | exact hQ _ _ ⟨_, rfl, ((if_pos h2).trans (if_neg h6)).symm, mci M, rfl, TV.rfl⟩
      | exact hQ _ _ ⟨_, rfl, e21.trans ((if_neg h2).trans (if_pos h16)).symm, g21, hM21, q21⟩
      | exact hQ _ _ ⟨_, rfl, (congrArg (fun z => -z) e29).trans ((if_neg h2).trans (if_neg h16)).symm, g29, hM29, q29⟩
    · refine x_aload_n dX8_hostHas_19 rfl rfl ?_
      refine x_iload_n dX8_hostHas_20 rfl rfl ?_
      refine g_callI (vs := [_, _]) (d' := d - 1) rfl (s_X8_worthOf (by omega) hT hw hv hp hTr hL) dX8_hostHas_21 kX8_420 (by omega) (by decide) rfl (Nat.le_of_ble_eq_true rfl) (rcv_o (by first | assumption | exact hT.2.1) rfl) (fun x21 M21 h21 => ?_)
      obtain ⟨⟨e21, r21⟩, g21, hM21, q21⟩ := h21
      refine x_goto (tgt := 33) dX8_hostHas_24 (by decide) ?_
      refine x_ireturn rfl dX8_hostHas_33 ?_
      first
      | exact hQ _ _ ⟨_, rfl, ((if_pos h2).trans (if_pos h6)).symm, mci M, rfl, TV.rfl⟩
      | exact hQ _ _ ⟨_, rfl, ((if_pos h2).trans (if_neg h6)).symm, mci M, rfl, TV.rfl⟩
      | exact hQ _ _ ⟨_, rfl, e21.trans ((if_neg h2).trans (if_pos h16)).symm, g21, hM21, q21⟩
      | exact hQ _ _ ⟨_, rfl, (congrArg (fun z => -z) e29).trans ((if_neg h2).trans (if_neg h16)).symm, g29, hM29, q29⟩
  · refine x_iload_n dX8_hostHas_5 rfl rfl ?_
    refine x_if_ne (tgt := 13) dX8_hostHas_6 (by decide) (fun h6 => ?_) (fun h6 => ?_)
    · refine x_iconst dX8_hostHas_13 rfl ?_
      refine x_ireturn rfl dX8_hostHas_14 ?_
      first
      | exact hQ _ _ ⟨_, rfl, ((if_pos h2).trans (if_pos h6)).symm, mci M, rfl, TV.rfl⟩
      | exact hQ _ _ ⟨_, rfl, ((if_pos h2).trans (if_neg h6)).symm, mci M, rfl, TV.rfl⟩
      | exact hQ _ _ ⟨_, rfl, e21.trans ((if_neg h2).trans (if_pos h16)).symm, g21, hM21, q21⟩
      | exact hQ _ _ ⟨_, rfl, (congrArg (fun z => -z) e29).trans ((if_neg h2).trans (if_neg h16)).symm, g29, hM29, q29⟩
    · refine x_iconst dX8_hostHas_9 rfl ?_
      refine x_goto (tgt := 14) dX8_hostHas_10 (by decide) ?_
      refine x_ireturn rfl dX8_hostHas_14 ?_
      first
      | exact hQ _ _ ⟨_, rfl, ((if_pos h2).trans (if_pos h6)).symm, mci M, rfl, TV.rfl⟩
      | exact hQ _ _ ⟨_, rfl, ((if_pos h2).trans (if_neg h6)).symm, mci M, rfl, TV.rfl⟩
      | exact hQ _ _ ⟨_, rfl, e21.trans ((if_neg h2).trans (if_pos h16)).symm, g21, hM21, q21⟩
      | exact hQ _ _ ⟨_, rfl, (congrArg (fun z => -z) e29).trans ((if_neg h2).trans (if_neg h16)).symm, g29, hM29, q29⟩
theorem s_X8_rests (hd : 19 ≤ d) (hP : TP M m v) : CS G d mX8_rests [dR m, dI p] M (postI fun x M1 => RD M m (if 0 ≤ p ∧ p < v 0 then 0 else 1) M1 ∧ (0 ≤ p ∧ p < v 0 → x = restAns v p)) := by
  obtain ⟨hT, hw, hA, hL, hK, hsk⟩ := id hP
  have hv := hA.1
  have hv0 := hv.1
  have hv8 := hv.n8
  have hT_ := hT; obtain ⟨p0, p1, ⟨c1, c2, c3, c4, c5, c6, c7, c8, c9, c10, c11, c12, c13, c14, c15⟩, ⟨t1, t2, t3, t4, t5, t6, t7, t8, t9, t10, t11, t12, t13, t14, t15⟩⟩ := hT_
  refine CS.mkQ (by decide) (Nat.le_of_ble_eq_true rfl) fun Q hQ => ?_
  have loop : ∀ (g0 l : Ci), g0 (m + 1) = v → TQ m (mci (mI M m 0 0)) g0 → TM m (mcl M) l → KnOk g0 l m → TrOk g0 m v → sk01 g0 m → 0 ≤ p ∧ p < v 0 → WP G d mX8_rests 28 [some (dR m), some (dI p), some (dI 0), some (dI 0), none] [] (wL M g0 l) Q := by
    intro g0 l hw0 f1 f2 f3 f4 f5 hp
    have lp : ∀ (t : Nat) (a x : Int) (g : Ci), (2 - a).toNat = t → (0 ≤ a) → (a ≤ 2) → (x = numR (fun k => restC v p (k / 2) (k % 2)) (2 * a).toNat) → (TV m g0 g) → WP G d mX8_rests 28 [some (dR m), some (dI p), some (dI x), some (dI a), none] [] (wL M g l) Q := by
      intro t
      induction t using Nat.strongRecOn with
      | _ t ih =>
        intro a x g ht a0 a1 hx hf
        by_cases ha : a < 2
        · skip
          have inner : ∀ (t2 : Nat) (b x : Int) (g : Ci), (2 - b).toNat = t2 → (0 ≤ b) → (b ≤ 2) → (x = numR (fun k => restC v p (k / 2) (k % 2)) (2 * a + b).toNat) → (TV m g0 g) → WP G d mX8_rests 36 [some (dR m), some (dI p), some (dI x), some (dI a), some (dI b)] [] (wL M g l) Q := by
            intro t2
            induction t2 using Nat.strongRecOn with
            | _ t2 ih2 =>
              intro b x g ht2 b0 b1 hx hf
              by_cases hb : b < 2
              · have hw : g (m + 1) = v := hf.w hw0
                have hTr : TrOk g m v := f4.te hf.te
                have hr := num_r (fun k => restC v p (k / 2) (k % 2)) (2 * a + b).toNat
                have h8 := pw_mono (a := (2 * a + b).toNat) (b := 3) (by omega)
                rw [show (((2 * a + b).toNat : Nat) : Int) = 2 * a + b by omega] at hr h8
                have h83 : pw ((3 : Nat) : Int) = 8 := rfl
                have hs := restN v p (k := 0) (t := 2 * a + b) (by omega)
                rw [show (2 * a + b) / 2 = a by omega, show (2 * a + b) % 2 = b by omega, ← hx] at hs
                rw [← hx] at hr
                have nx : ∀ (x' : Int) (g' : Ci), x' = numR (fun k => restC v p (k / 2) (k % 2)) (2 * a + b + 1).toNat → TV m g g' → WP G d mX8_rests 36 [some (dR m), some (dI p), some (dI x'), some (dI a), some (dI (b + 1))] [] (wL M g' l) Q := fun x' g' n1 n2 =>
                  ih2 _ (by omega) (b + 1) x' g' rfl (by omega) (by omega) (by rw [n1, show 2 * a + (b + 1) = 2 * a + b + 1 by omega]) (TV.trans hf n2)
                refine x_iload dX8_rests_36 rfl ?_
                refine x_iconst dX8_rests_38 rfl ?_
                refine x_icmp_ge (tgt := 105) dX8_rests_39 (by decide) (fun h39 => ?_) (fun h39 => ?_)
                · omega
                · refine x_iload_n dX8_rests_42 rfl rfl ?_
                  refine x_aload_n dX8_rests_43 rfl rfl ?_
                  refine x_iload_n dX8_rests_44 rfl rfl ?_
                  refine x_iload_n dX8_rests_45 rfl rfl ?_
                  refine x_iload dX8_rests_46 rfl ?_
                  refine g_callI (vs := [_, _, _, _]) (d' := d - 1) rfl (s_X8_guestHas (M := wL M g l) (by omega) hT hw hv hp hTr hL) dX8_rests_48 kX8_534 (by omega) (by decide) rfl (Nat.le_of_ble_eq_true rfl) (rcv_o (by first | assumption | exact hT.2.1) rfl) (fun x48 M48 h48 => ?_)
                  obtain ⟨e48, g48, hM48, q48⟩ := h48
                  subst hM48
                  refine x_aload_n dX8_rests_51 rfl rfl ?_
                  refine x_iload_n dX8_rests_52 rfl rfl ?_
                  refine x_iconst dX8_rests_53 rfl ?_
                  refine x_iload_n dX8_rests_54 rfl rfl ?_
                  first | refine x_isubN dX8_rests_55 (by unfold i32; omega) ?_ | refine x_isub dX8_rests_55 ?_
                  refine x_iload dX8_rests_56 rfl ?_
                  refine g_callI (vs := [_, _, _, _]) (d' := d - 1) rfl (s_X8_guestHas (M := wL M g48 l) (by omega) hT (TV.w q48 hw) hv hp (hTr.te q48.te) hL) dX8_rests_58 kX8_534 (by omega) (by decide) rfl (Nat.le_of_ble_eq_true rfl) (rcv_o (by first | assumption | exact hT.2.1) rfl) (fun x58 M58 h58 => ?_)
                  obtain ⟨e58, g58, hM58, q58⟩ := h58
                  subst hM58
                  have q2 : TV m g g58 := TV.trans q48 q58
                  rw [e48, e58]
                  refine x_icmp_lt (tgt := 96) dX8_rests_61 (by decide) (fun h61 => ?_) (fun h61 => ?_)
                  · refine x_iconst dX8_rests_96 rfl ?_
                    refine x_ior dX8_rests_97 ?_
                    first
                    | rw [jshl_1 (by omega), jor_lt (by omega) hr]
                    | rw [jor_z (by omega)]
                    refine x_istore_n (L' := [some _, some _, some _, some _, some _]) dX8_rests_98 rfl (by decide) rfl ?_
                    first | refine x_iincN (L' := [some _, some _, some _, some _, some _]) dX8_rests_99 rfl (by decide) (by unfold i32; omega) rfl ?_ | refine x_iinc (L' := [some _, some _, some _, some _, some _]) dX8_rests_99 rfl (by decide) rfl ?_
                    refine x_goto (tgt := 36) dX8_rests_102 (by decide) ?_
                    first
                    | (rw [if_pos (show restC v p a b from ⟨by omega, by omega⟩)] at hs
                       exact WP.mem (M1 := wL M g79 l) rfl (nx _ g79 hs.symm q4))
                    | (rw [if_neg (show ¬ restC v p a b from fun q => absurd q.2 (by omega)), Int.add_zero] at hs
                       exact WP.mem (M1 := wL M g79 l) rfl (nx _ g79 hs.symm q4))
                    | (rw [if_neg (show ¬ restC v p a b from fun q => absurd q.1 (by omega)), Int.add_zero] at hs
                       exact WP.mem (M1 := wL M g58 l) rfl (nx _ g58 hs.symm q2))
                  · refine x_aload_n dX8_rests_64 rfl rfl ?_
                    refine x_iload_n dX8_rests_65 rfl rfl ?_
                    refine x_iload_n dX8_rests_66 rfl rfl ?_
                    refine x_iload dX8_rests_67 rfl ?_
                    refine g_callI (vs := [_, _, _, _]) (d' := d - 1) rfl (s_X8_hostHas (M := wL M g58 l) (by omega) hT (TV.w q2 hw) hv hp (hTr.te q2.te) hL) dX8_rests_69 kX8_537 (by omega) (by decide) rfl (Nat.le_of_ble_eq_true rfl) (rcv_o (by first | assumption | exact hT.2.1) rfl) (fun x69 M69 h69 => ?_)
                    obtain ⟨e69, g69, hM69, q69⟩ := h69
                    subst hM69
                    refine x_aload_n dX8_rests_72 rfl rfl ?_
                    refine x_iload_n dX8_rests_73 rfl rfl ?_
                    refine x_iload_n dX8_rests_74 rfl rfl ?_
                    refine x_iconst dX8_rests_75 rfl ?_
                    refine x_iload dX8_rests_76 rfl ?_
                    first | refine x_isubN dX8_rests_78 (by unfold i32; omega) ?_ | refine x_isub dX8_rests_78 ?_
                    refine g_callI (vs := [_, _, _, _]) (d' := d - 1) rfl (s_X8_hostHas (M := wL M g69 l) (by omega) hT (TV.w q69 (TV.w q2 hw)) hv hp ((hTr.te q2.te).te q69.te) hL) dX8_rests_79 kX8_537 (by omega) (by decide) rfl (Nat.le_of_ble_eq_true rfl) (rcv_o (by first | assumption | exact hT.2.1) rfl) (fun x79 M79 h79 => ?_)
                    obtain ⟨e79, g79, hM79, q79⟩ := h79
                    subst hM79
                    have q4 : TV m g g79 := TV.trans q2 (TV.trans q69 q79)
                    rw [e69, e79]
                    refine x_icmp_lt (tgt := 96) dX8_rests_82 (by decide) (fun h82 => ?_) (fun h82 => ?_)
                    · refine x_iconst dX8_rests_96 rfl ?_
                      refine x_ior dX8_rests_97 ?_
                      first
                      | rw [jshl_1 (by omega), jor_lt (by omega) hr]
                      | rw [jor_z (by omega)]
                      refine x_istore_n (L' := [some _, some _, some _, some _, some _]) dX8_rests_98 rfl (by decide) rfl ?_
                      first | refine x_iincN (L' := [some _, some _, some _, some _, some _]) dX8_rests_99 rfl (by decide) (by unfold i32; omega) rfl ?_ | refine x_iinc (L' := [some _, some _, some _, some _, some _]) dX8_rests_99 rfl (by decide) rfl ?_
                      refine x_goto (tgt := 36) dX8_rests_102 (by decide) ?_
                      first
                      | (rw [if_pos (show restC v p a b from ⟨by omega, by omega⟩)] at hs
                         exact WP.mem (M1 := wL M g79 l) rfl (nx _ g79 hs.symm q4))
                      | (rw [if_neg (show ¬ restC v p a b from fun q => absurd q.2 (by omega)), Int.add_zero] at hs
                         exact WP.mem (M1 := wL M g79 l) rfl (nx _ g79 hs.symm q4))
                      | (rw [if_neg (show ¬ restC v p a b from fun q => absurd q.1 (by omega)), Int.add_zero] at hs
                         exact WP.mem (M1 := wL M g58 l) rfl (nx _ g58 hs.symm q2))
                    · refine x_iconst dX8_rests_85 rfl ?_
                      refine x_iconst dX8_rests_86 rfl ?_
                      refine x_iload_n dX8_rests_87 rfl rfl ?_
                      first | refine x_imulN dX8_rests_88 (by unfold i32; omega) ?_ | refine x_imul dX8_rests_88 ?_
                      refine x_iload dX8_rests_89 rfl ?_
                      first | refine x_iaddN dX8_rests_91 (by unfold i32; omega) ?_ | refine x_iadd dX8_rests_91 ?_
                      refine x_ishl dX8_rests_92 ?_
                      refine x_goto (tgt := 97) dX8_rests_93 (by decide) ?_
                      refine x_ior dX8_rests_97 ?_
                      first
                      | rw [jshl_1 (by omega), jor_lt (by omega) hr]
                      | rw [jor_z (by omega)]
                      refine x_istore_n (L' := [some _, some _, some _, some _, some _]) dX8_rests_98 rfl (by decide) rfl ?_
                      first | refine x_iincN (L' := [some _, some _, some _, some _, some _]) dX8_rests_99 rfl (by decide) (by unfold i32; omega) rfl ?_ | refine x_iinc (L' := [some _, some _, some _, some _, some _]) dX8_rests_99 rfl (by decide) rfl ?_
                      refine x_goto (tgt := 36) dX8_rests_102 (by decide) ?_
                      first
                      | (rw [if_pos (show restC v p a b from ⟨by omega, by omega⟩)] at hs
                         exact WP.mem (M1 := wL M g79 l) rfl (nx _ g79 hs.symm q4))
                      | (rw [if_neg (show ¬ restC v p a b from fun q => absurd q.2 (by omega)), Int.add_zero] at hs
                         exact WP.mem (M1 := wL M g79 l) rfl (nx _ g79 hs.symm q4))
                      | (rw [if_neg (show ¬ restC v p a b from fun q => absurd q.1 (by omega)), Int.add_zero] at hs
                         exact WP.mem (M1 := wL M g58 l) rfl (nx _ g58 hs.symm q2))
              · refine x_iload dX8_rests_36 rfl ?_
                refine x_iconst dX8_rests_38 rfl ?_
                refine x_icmp_ge (tgt := 105) dX8_rests_39 (by decide) (fun h39 => ?_) (fun h39 => ?_)
                · first | refine x_iincN (L' := [some _, some _, some _, some _, some _]) dX8_rests_105 rfl (by decide) (by unfold i32; omega) rfl ?_ | refine x_iinc (L' := [some _, some _, some _, some _, some _]) dX8_rests_105 rfl (by decide) rfl ?_
                  refine x_goto (tgt := 28) dX8_rests_108 (by decide) ?_
                  exact x_fgt (by repeat (first | exact trivial | refine ⟨rfl, ?_⟩)) (ih _ (by omega) (a + 1) _ g rfl (by omega) (by omega) (by rw [hx, show 2 * (a + 1) = 2 * a + b by omega]) hf)
                · omega
          refine x_iload_n dX8_rests_28 rfl rfl ?_
          refine x_iconst dX8_rests_29 rfl ?_
          refine x_icmp_ge (tgt := 111) dX8_rests_30 (by decide) (fun h30 => ?_) (fun h30 => ?_)
          · omega
          · refine x_iconst dX8_rests_33 rfl ?_
            refine x_istore (L' := [some _, some _, some _, some _, some _]) dX8_rests_34 (by decide) rfl ?_
            exact inner _ 0 _ g rfl (by omega) (by omega) (by rw [hx, show 2 * a + 0 = 2 * a by omega]) hf
        · refine x_iload_n dX8_rests_28 rfl rfl ?_
          refine x_iconst dX8_rests_29 rfl ?_
          refine x_icmp_ge (tgt := 111) dX8_rests_30 (by decide) (fun h30 => ?_) (fun h30 => ?_)
          · refine x_iload_n dX8_rests_111 rfl rfl ?_
            refine x_ireturn rfl dX8_rests_112 ?_
            refine hQ _ _ ⟨_, rfl, ?_, fun _ => ?_⟩
            · rw [if_pos hp]
              exact RD.mk (TQ.trans f1 hf.tq) f2 (f3.te hf.te) (hf.sk f5)
            · unfold restAns
              rw [hx, show (2 * a).toNat = 4 by omega]
          · omega
    exact lp _ 0 0 g0 rfl (by omega) (by omega) rfl TV.rfl
  refine x_aload_n dX8_rests_0 rfl rfl ?_
  refine x_iconst dX8_rests_1 rfl ?_
  refine g_putI (kI := 0) rfl dX8_rests_2 fX8_3_8 (by first | assumption | exact hT.2.1) ?_
  obtain ⟨hT, hw, hA, hL, hK, hsk⟩ := TP.z (x := 0) hP
  refine x_aload_n dX8_rests_5 rfl rfl ?_
  refine x_aload_n dX8_rests_6 rfl rfl ?_
  refine x_iload_n dX8_rests_7 rfl rfl ?_
  refine g_callI (vs := [_, _]) (d' := d - 1) rfl (s_X8_noOp (by omega) hT (by first | exact hw | exact mciI (by omega) hw | exact mciI (by omega) (mciI (by omega) hw) | exact mciI (by omega) (mciI (by omega) (mciI (by omega) hw)) | exact mciI (by omega) (mciI (by omega) (mciI (by omega) (mciI (by omega) hw))) | exact mciC (by omega) hw) (by omega)) dX8_rests_8 kX8_433 (by omega) (by decide) rfl (Nat.le_of_ble_eq_true rfl) (rcv_o (by first | assumption | exact hT.2.1) rfl) (fun x8 M8 h8 => ?_)
  obtain ⟨e8, f8⟩ := h8
  have f8' := f8.symm
  subst f8'
  subst e8
  refine x_iconst dX8_rests_11 rfl ?_
  refine g_callI (vs := [_, _, _]) (d' := d - 1) rfl (s_X8_throwsIf (by omega) hT (by first | omega | exact vP_r _)) dX8_rests_12 kX8_280 (by omega) (by decide) rfl (Nat.le_of_ble_eq_true rfl) (rcv_o (by first | assumption | exact hT.2.1) rfl) (fun x12 M12 h12 => ?_)
  obtain ⟨e12, r12, f12⟩ := h12
  refine x_if_eq (tgt := 20) dX8_rests_15 (by decide) (fun h15 => ?_) (fun h15 => ?_)
  · first | have f12' := (f12.1 (by omega)).symm | have f12' := (f12.2 (by omega)).symm
    subst f12'
    rw [e12] at h15
    try simp only [vP_0, vP_1, vP_n0, vP_n1, Classical.not_not] at h15
    refine x_aload_n dX8_rests_20 rfl rfl ?_
    refine g_callN (vs := [_]) (d' := d - 1) rfl (s_X8_laysTraits (by omega) hT (by first | exact hw | exact mciI (by omega) hw | exact mciI (by omega) (mciI (by omega) hw) | exact mciI (by omega) (mciI (by omega) (mciI (by omega) hw)) | exact mciI (by omega) (mciI (by omega) (mciI (by omega) (mciI (by omega) hw))) | exact mciC (by omega) hw) hv hK hsk) dX8_rests_21 kX8_423 (by omega) (by decide) rfl (Nat.le_of_ble_eq_true rfl) (rcv_o (by first | assumption | exact hT.2.1) rfl) (fun M21 h21 => ?_)
    obtain ⟨g21, l21, hM21, q21, y21, hK, hTr, hsk⟩ := h21
    subst hM21
    have hw := TG.w q21 (by first | exact hw | exact mciI (by omega) hw | exact mciI (by omega) (mciI (by omega) hw) | exact mciI (by omega) (mciI (by omega) (mciI (by omega) hw)) | exact mciI (by omega) (mciI (by omega) (mciI (by omega) (mciI (by omega) hw))) | exact mciC (by omega) hw)
    refine x_iconst dX8_rests_24 rfl ?_
    refine x_istore_n (L' := [some _, some _, some _, none, none]) dX8_rests_25 rfl (by decide) rfl ?_
    refine x_iconst dX8_rests_26 rfl ?_
    refine x_istore_n (L' := [some _, some _, some _, some _, none]) dX8_rests_27 rfl (by decide) rfl ?_
    exact loop g21 l21 hw q21.tq y21.tm hK hTr hsk (by omega)
  · first | have f12' := (f12.1 (by omega)).symm | have f12' := (f12.2 (by omega)).symm
    subst f12'
    rw [e12] at h15
    try simp only [vP_0, vP_1, vP_n0, vP_n1, Classical.not_not] at h15
    refine x_iconst dX8_rests_18 rfl ?_
    refine x_ireturn rfl dX8_rests_19 ?_
    exact hQ _ _ ⟨_, rfl, by rw [if_neg (by omega)]; exact RD.t hP, fun q => absurd q (by omega)⟩
/-- of all stretches from f on what they are -/
theorem s_X8_leftFirst (hd : 11 ≤ d) (hT : TwS (msh M) (mcr M) m) (hw : mci M (m + 1) = v) (hi : 0 ≤ i ∧ i < 8) (hk : i < k ∧ k ≤ 8) (hx : mci M (m + 13) (9 * (i + 1) + k) = c) (hr : -100 ≤ c ∧ c ≤ 100) (hc : 0 ≤ v (22 + i) ∧ v (22 + i) < 4) : CS G d mX8_leftFirst [dR m, dI i, dI k] M (pur M (v (22 + i) - c)) := by
  have hT_ := hT; obtain ⟨p0, p1, ⟨c1, c2, c3, c4, c5, c6, c7, c8, c9, c10, c11, c12, c13, c14, c15⟩, ⟨t1, t2, t3, t4, t5, t6, t7, t8, t9, t10, t11, t12, t13, t14, t15⟩⟩ := hT_
  refine CS.mkQ (by decide) (Nat.le_of_ble_eq_true rfl) fun Q hQ => ?_
  refine x_aload_n dX8_leftFirst_0 rfl rfl ?_
  refine g_getR (kI := 1) rfl dX8_leftFirst_1 fX8_13_8 (by first | assumption | exact hT.2.1) (by first | assumption | exact hT.2.1) ?_
  refine x_bipush dX8_leftFirst_4 rfl ?_
  refine x_iload_n dX8_leftFirst_6 rfl rfl ?_
  first | refine x_iaddN dX8_leftFirst_7 (by unfold i32; omega) ?_ | refine x_iadd dX8_leftFirst_7 ?_
  refine x_iald dX8_leftFirst_8 (by first | assumption | exact hT.2.1) (by omega) (by omega) ?_
  try simp (disch := omega) only [rdI_e, rdI_n, rdC_i, rdC_o, rdW, rdR, rdU_e, rdU_n, rdLW, Int.add_zero, hw, hx]
  refine x_aload_n dX8_leftFirst_9 rfl rfl ?_
  refine g_getR (kI := 29) rfl dX8_leftFirst_10 fX8_55_8 (by first | assumption | exact hT.2.1) (by first | assumption | exact hT.2.1) ?_
  refine x_iload_n dX8_leftFirst_13 rfl rfl ?_
  refine x_iconst dX8_leftFirst_14 rfl ?_
  first | refine x_iaddN dX8_leftFirst_15 (by unfold i32; omega) ?_ | refine x_iadd dX8_leftFirst_15 ?_
  refine x_iload_n dX8_leftFirst_16 rfl rfl ?_
  refine g_callI (vs := [_, _]) (d' := d - 1) rfl (s_X8_moreAt (by omega) (by omega) (by omega)) dX8_leftFirst_17 kX8_516 (by omega) (by decide) rfl (Nat.le_of_ble_eq_true rfl) (rcv_n) (fun x17 M17 h17 => ?_)
  obtain ⟨e17, f17⟩ := h17
  have f17' := f17.symm
  subst f17'
  subst e17
  try simp (disch := omega) only [rdI_e, rdI_n, rdC_i, rdC_o, rdW, rdR, rdU_e, rdU_n, rdLW, Int.add_zero, hw, hx]
  refine x_iald dX8_leftFirst_20 (by first | assumption | exact hT.2.1) (by omega) (by omega) ?_
  try simp (disch := omega) only [rdI_e, rdI_n, rdC_i, rdC_o, rdW, rdR, rdU_e, rdU_n, rdLW, Int.add_zero, hw, hx]
  first | refine x_isubN dX8_leftFirst_21 (by unfold i32; omega) ?_ | refine x_isub dX8_leftFirst_21 ?_
  refine x_ireturn rfl dX8_leftFirst_22 ?_
  exact hQ _ _ ⟨_, rfl, (by first | rfl | omega | exact (vP_t (by omega)).symm | exact (vP_f (by omega)).symm), rfl⟩
theorem s_X8_rightFirst (hd : 11 ≤ d) (hT : TwS (msh M) (mcr M) m) (hw : mci M (m + 1) = v) (hi : 0 ≤ i ∧ i < 8) (hk : i < k ∧ k ≤ 8) (hx : mci M (m + 13) (9 * i + (k - 1)) = c) (hr : -100 ≤ c ∧ c ≤ 100) (hc : 0 ≤ v (22 + k - 1) ∧ v (22 + k - 1) < 4) : CS G d mX8_rightFirst [dR m, dI i, dI k] M (pur M (v (22 + k - 1) - c)) := by
  have hT_ := hT; obtain ⟨p0, p1, ⟨c1, c2, c3, c4, c5, c6, c7, c8, c9, c10, c11, c12, c13, c14, c15⟩, ⟨t1, t2, t3, t4, t5, t6, t7, t8, t9, t10, t11, t12, t13, t14, t15⟩⟩ := hT_
  refine CS.mkQ (by decide) (Nat.le_of_ble_eq_true rfl) fun Q hQ => ?_
  refine x_aload_n dX8_rightFirst_0 rfl rfl ?_
  refine g_getR (kI := 1) rfl dX8_rightFirst_1 fX8_13_8 (by first | assumption | exact hT.2.1) (by first | assumption | exact hT.2.1) ?_
  refine x_bipush dX8_rightFirst_4 rfl ?_
  refine x_iload_n dX8_rightFirst_6 rfl rfl ?_
  first | refine x_iaddN dX8_rightFirst_7 (by unfold i32; omega) ?_ | refine x_iadd dX8_rightFirst_7 ?_
  refine x_iconst dX8_rightFirst_8 rfl ?_
  first | refine x_isubN dX8_rightFirst_9 (by unfold i32; omega) ?_ | refine x_isub dX8_rightFirst_9 ?_
  refine x_iald dX8_rightFirst_10 (by first | assumption | exact hT.2.1) (by omega) (by omega) ?_
  try simp (disch := omega) only [rdI_e, rdI_n, rdC_i, rdC_o, rdW, rdR, rdU_e, rdU_n, rdLW, Int.add_zero, hw, hx]
  refine x_aload_n dX8_rightFirst_11 rfl rfl ?_
  refine g_getR (kI := 29) rfl dX8_rightFirst_12 fX8_55_8 (by first | assumption | exact hT.2.1) (by first | assumption | exact hT.2.1) ?_
  refine x_iload_n dX8_rightFirst_15 rfl rfl ?_
  refine x_iload_n dX8_rightFirst_16 rfl rfl ?_
  refine x_iconst dX8_rightFirst_17 rfl ?_
  first | refine x_isubN dX8_rightFirst_18 (by unfold i32; omega) ?_ | refine x_isub dX8_rightFirst_18 ?_
  refine g_callI (vs := [_, _]) (d' := d - 1) rfl (s_X8_moreAt (by omega) (by omega) (by omega)) dX8_rightFirst_19 kX8_516 (by omega) (by decide) rfl (Nat.le_of_ble_eq_true rfl) (rcv_n) (fun x19 M19 h19 => ?_)
  obtain ⟨e19, f19⟩ := h19
  have f19' := f19.symm
  subst f19'
  subst e19
  try simp (disch := omega) only [rdI_e, rdI_n, rdC_i, rdC_o, rdW, rdR, rdU_e, rdU_n, rdLW, Int.add_zero, hw, hx]
  refine x_iald dX8_rightFirst_22 (by first | assumption | exact hT.2.1) (by omega) (by omega) ?_
  try simp (disch := omega) only [rdI_e, rdI_n, rdC_i, rdC_o, rdW, rdR, rdU_e, rdU_n, rdLW, Int.add_zero, hw, hx]
  first | refine x_isubN dX8_rightFirst_23 (by unfold i32; omega) ?_ | refine x_isub dX8_rightFirst_23 ?_
  refine x_ireturn rfl dX8_rightFirst_24 ?_
  exact hQ _ _ ⟨_, rfl, (by first | rfl | omega | exact (vP_t (by omega)).symm | exact (vP_f (by omega)).symm), rfl⟩
def LdOk (f : Int → Int) (c : Int → Int) (lo lt : Int) : Prop := ∀ i k, (lo < i ∨ i = lo ∧ k < lt) → i ≤ k → k ≤ 8 → 0 ≤ i → f (9 * i + k) = ldV c (k - i).toNat i
theorem ldV_s {c : Int → Int} {n : Nat} {f : Int} : ldV c (n + 1) f = if c f - ldV c n (f + 1) ≤ c (f + n) - ldV c n f then c (f + n) - ldV c n f else c f - ldV c n (f + 1) := rfl
theorem s_X8_laysMore (hd : 12 ≤ d) (hT : TwS (msh M) (mcr M) m) (hw : mci M (m + 1) = v) (hv : okB v) : CS G d mX8_laysMore [dR m] M (postN fun M1 => ∃ g, M1 = wI M g ∧ LdOk (g (m + 13)) (fun k => v (22 + k)) (-1) 0 ∧ ∀ a k, ¬ a = m + 13 → g a k = mci M a k) := by
  have hc : ∀ k, 0 ≤ k → k < 8 → 0 ≤ (fun k => v (22 + k)) k ∧ (fun k => v (22 + k)) k < 4 := fun k a b => hv.ce k a b
  have hT_ := hT; obtain ⟨p0, p1, ⟨c1, c2, c3, c4, c5, c6, c7, c8, c9, c10, c11, c12, c13, c14, c15⟩, ⟨t1, t2, t3, t4, t5, t6, t7, t8, t9, t10, t11, t12, t13, t14, t15⟩⟩ := hT_
  refine CS.mkQ (by decide) (Nat.le_of_ble_eq_true rfl) fun Q hQ => ?_
  have loop : ∀ (t : Nat) (i : Int) (g : Ci), (i + 1).toNat = t → (-1 ≤ i) → (i ≤ 8) → (LdOk (g (m + 13)) (fun k => v (22 + k)) i 0) → (∀ a k, ¬ a = m + 13 → g a k = mci M a k) → WP G d mX8_laysMore 3 [some (dR m), some (dI i), none] [] (wI M g) Q := by
    intro t
    induction t using Nat.strongRecOn with
    | _ t ih =>
      intro i g ht i0 i1 hl hf
      by_cases hi : 0 ≤ i
      · skip
        have inner : ∀ (t2 : Nat) (k : Int) (g : Ci), (9 - k).toNat = t2 → (i < k) → (k ≤ 9) → (LdOk (g (m + 13)) (fun k => v (22 + k)) i k) → (∀ a k, ¬ a = m + 13 → g a k = mci M a k) → WP G d mX8_laysMore 22 [some (dR m), some (dI i), some (dI k)] [] (wI M g) Q := by
          intro t2
          induction t2 using Nat.strongRecOn with
          | _ t2 ih2 =>
            intro k g ht2 k0 k1 hl hf
            have hw : g (m + 1) = v := (funext fun j => hf _ _ (by omega)).trans hw
            by_cases hk : k ≤ 8
            · have e1 : g (m + 13) (9 * (i + 1) + k) = ldV (fun k => v (22 + k)) (k - (i + 1)).toNat (i + 1) := hl (i + 1) k (Or.inl (by omega)) (by omega) hk (by omega)
              have e2 : g (m + 13) (9 * i + (k - 1)) = ldV (fun k => v (22 + k)) (k - 1 - i).toNat i := hl i (k - 1) (Or.inr (by omega)) (by omega) (by omega) hi
              have r1 := ldV_r hc (k - (i + 1)).toNat (i + 1) (by omega) (by omega)
              have r2 := ldV_r hc (k - 1 - i).toNat i hi (by omega)
              have c1 := hc i hi (by omega)
              have c2 : 0 ≤ v (22 + k - 1) ∧ v (22 + k - 1) < 4 := by
                have := hc (k - 1) (by omega) (by omega)
                rw [show 22 + k - 1 = 22 + (k - 1) by omega]
                exact this
              have es : ldV (fun k => v (22 + k)) (k - i).toNat i = if v (22 + i) - ldV (fun k => v (22 + k)) (k - (i + 1)).toNat (i + 1) ≤ v (22 + k - 1) - ldV (fun k => v (22 + k)) (k - 1 - i).toNat i then v (22 + k - 1) - ldV (fun k => v (22 + k)) (k - 1 - i).toNat i else v (22 + i) - ldV (fun k => v (22 + k)) (k - (i + 1)).toNat (i + 1) := by
                rw [show (k - i).toNat = (k - (i + 1)).toNat + 1 by omega, ldV_s, show (k - 1 - i).toNat = (k - (i + 1)).toNat by omega]
                show (if v (22 + i) - _ ≤ v (22 + (i + ((k - (i + 1)).toNat : Int))) - _ then v (22 + (i + ((k - (i + 1)).toNat : Int))) - _ else _) = _
                rw [show 22 + (i + ((k - (i + 1)).toNat : Int)) = 22 + k - 1 by omega]
              refine x_iload_n dX8_laysMore_22 rfl rfl ?_
              refine x_bipush dX8_laysMore_23 rfl ?_
              refine x_icmp_gt (tgt := 59) dX8_laysMore_25 (by decide) (fun h25 => ?_) (fun h25 => ?_)
              · omega
              · refine x_aload_n dX8_laysMore_28 rfl rfl ?_
                refine g_getR (kI := 29) rfl dX8_laysMore_29 fX8_55_8 (by first | assumption | exact hT.2.1) (by first | assumption | exact hT.2.1) ?_
                refine x_iload_n dX8_laysMore_32 rfl rfl ?_
                refine x_iload_n dX8_laysMore_33 rfl rfl ?_
                refine g_callI (vs := [_, _]) (d' := d - 1) rfl (s_X8_moreAt (by omega) (by omega) (by omega)) dX8_laysMore_34 kX8_516 (by omega) (by decide) rfl (Nat.le_of_ble_eq_true rfl) (rcv_n) (fun x34 M34 h34 => ?_)
                obtain ⟨e34, f34⟩ := h34
                have f34' := f34.symm
                subst f34'
                subst e34
                refine x_aload_n dX8_laysMore_37 rfl rfl ?_
                refine x_iload_n dX8_laysMore_38 rfl rfl ?_
                refine x_iload_n dX8_laysMore_39 rfl rfl ?_
                refine g_callI (vs := [_, _, _]) (d' := d - 1) rfl (s_X8_leftFirst (M := wI M g) (by omega) hT hw (by omega) (by omega) e1 (by omega) c1) dX8_laysMore_40 kX8_519 (by omega) (by decide) rfl (Nat.le_of_ble_eq_true rfl) (rcv_o (by first | assumption | exact hT.2.1) rfl) (fun x40 M40 h40 => ?_)
                obtain ⟨e40, f40⟩ := h40
                have f40' := f40.symm
                subst f40'
                refine x_aload_n dX8_laysMore_43 rfl rfl ?_
                refine x_iload_n dX8_laysMore_44 rfl rfl ?_
                refine x_iload_n dX8_laysMore_45 rfl rfl ?_
                refine g_callI (vs := [_, _, _]) (d' := d - 1) rfl (s_X8_rightFirst (M := wI M g) (by omega) hT hw (by omega) (by omega) e2 (by omega) c2) dX8_laysMore_46 kX8_522 (by omega) (by decide) rfl (Nat.le_of_ble_eq_true rfl) (rcv_o (by first | assumption | exact hT.2.1) rfl) (fun x46 M46 h46 => ?_)
                obtain ⟨e46, f46⟩ := h46
                have f46' := f46.symm
                subst f46'
                refine g_callI (vs := [_, _]) (d' := d - 1) rfl (s_max (by omega)) dX8_laysMore_49 kX8_509 (by omega) (by decide) rfl (Nat.le_of_ble_eq_true rfl) (rcv_n) (fun x49 M49 h49 => ?_)
                obtain ⟨e49, f49⟩ := h49
                have f49' := f49.symm
                subst f49'
                refine x_iast (by omega) dX8_laysMore_52 (by first | assumption | exact hT.2.1) (by omega) (by omega) ?_
                first | refine x_iincN (L' := [some _, some _, some _]) dX8_laysMore_53 rfl (by decide) (by unfold i32; omega) rfl ?_ | refine x_iinc (L' := [some _, some _, some _]) dX8_laysMore_53 rfl (by decide) rfl ?_
                refine x_goto (tgt := 22) dX8_laysMore_56 (by decide) ?_
                have ex : x49 = ldV (fun k => v (22 + k)) (k - i).toNat i := by
                  rw [es, ← e40, ← e46]
                  split <;> omega
                refine ih2 _ (by omega) (k + 1) (up g (m + 13) (9 * i + k) x49) rfl (by omega) (by omega) (fun i' k' q1 q2 q3 q4 => ?_) (fun a' k' q => (rdU_n (by omega)).trans (hf a' k' q))
                by_cases e : i' = i ∧ k' = k
                · rw [e.1, e.2, ← ex]
                  exact rdU_e ⟨rfl, rfl⟩
                · exact (rdU_n (by omega)).trans (hl i' k' (by omega) q2 q3 q4)
            · refine x_iload_n dX8_laysMore_22 rfl rfl ?_
              refine x_bipush dX8_laysMore_23 rfl ?_
              refine x_icmp_gt (tgt := 59) dX8_laysMore_25 (by decide) (fun h25 => ?_) (fun h25 => ?_)
              · first | refine x_iincN (L' := [some _, some _, some _]) dX8_laysMore_59 rfl (by decide) (by unfold i32; omega) rfl ?_ | refine x_iinc (L' := [some _, some _, some _]) dX8_laysMore_59 rfl (by decide) rfl ?_
                refine x_goto (tgt := 3) dX8_laysMore_62 (by decide) ?_
                exact x_fgt (by repeat (first | exact trivial | refine ⟨rfl, ?_⟩)) (ih _ (by omega) (i + -1) g rfl (by omega) (by omega) (fun i' k' q1 q2 q3 q4 => hl i' k' (by omega) q2 q3 q4) hf)
              · omega
        refine x_iload_n dX8_laysMore_3 rfl rfl ?_
        refine x_if_lt (tgt := 65) dX8_laysMore_4 (by decide) (fun h4 => ?_) (fun h4 => ?_)
        · omega
        · refine x_aload_n dX8_laysMore_7 rfl rfl ?_
          refine g_getR (kI := 29) rfl dX8_laysMore_8 fX8_55_8 (by first | assumption | exact hT.2.1) (by first | assumption | exact hT.2.1) ?_
          refine x_iload_n dX8_laysMore_11 rfl rfl ?_
          refine x_iload_n dX8_laysMore_12 rfl rfl ?_
          refine g_callI (vs := [_, _]) (d' := d - 1) rfl (s_X8_moreAt (by omega) (by omega) (by omega)) dX8_laysMore_13 kX8_516 (by omega) (by decide) rfl (Nat.le_of_ble_eq_true rfl) (rcv_n) (fun x13 M13 h13 => ?_)
          obtain ⟨e13, f13⟩ := h13
          have f13' := f13.symm
          subst f13'
          subst e13
          refine x_iconst dX8_laysMore_16 rfl ?_
          refine x_iast (by omega) dX8_laysMore_17 (by first | assumption | exact hT.2.1) (by omega) (by omega) ?_
          refine x_iload_n dX8_laysMore_18 rfl rfl ?_
          refine x_iconst dX8_laysMore_19 rfl ?_
          first | refine x_iaddN dX8_laysMore_20 (by unfold i32; omega) ?_ | refine x_iadd dX8_laysMore_20 ?_
          refine x_istore_n (L' := [some _, some _, some _]) dX8_laysMore_21 rfl (by decide) rfl ?_
          refine inner _ (i + 1) (up g (m + 13) (9 * i + i) 0) rfl (by omega) (by omega) (fun i' k' q1 q2 q3 q4 => ?_) (fun a' k' q => (rdU_n (by omega)).trans (hf a' k' q))
          by_cases e : i' = i
          · rw [e, show k' = i by omega, show (i - i).toNat = 0 by omega]
            exact rdU_e ⟨rfl, rfl⟩
          · exact (rdU_n (by omega)).trans (hl i' k' (by omega) q2 q3 q4)
      · refine x_iload_n dX8_laysMore_3 rfl rfl ?_
        refine x_if_lt (tgt := 65) dX8_laysMore_4 (by decide) (fun h4 => ?_) (fun h4 => ?_)
        · refine x_vreturn rfl dX8_laysMore_65 ?_
          exact hQ _ _ ⟨rfl, g, rfl, fun i' k' q1 q2 q3 q4 => hl i' k' (by omega) q2 q3 q4, hf⟩
        · omega
  refine x_bipush dX8_laysMore_0 rfl ?_
  refine x_istore_n (L' := [some _, some _, none]) dX8_laysMore_2 rfl (by decide) rfl ?_
  exact x_fgt (by repeat (first | exact trivial | refine ⟨rfl, ?_⟩)) (loop _ 8 (mci M) rfl (by omega) (by omega) (fun i' k' q1 q2 q3 q4 => by omega) fun _ _ _ => rfl)
theorem RD.ar {g : Ci} {M : Mem} {m : Int} {v : Vw} (hP : TP M m v) (hg : ∀ a k, ¬ a = m + 13 → ¬ a = m + 14 → g a k = mci (mI M m 0 0) a k) : RD M m 0 (wI (mI M m 0 0) g) := by
  have h := hP.z (x := 0)
  refine RD.mk (g := g) (l := mcl M) (fun a k p1 p2 p3 p4 p5 p6 p7 => hg a k p5 p6) TM.rfl (KnOk.at h.2.2.2.2.1 (fun p => hg _ _ (by omega) (by omega)) (fun p => rfl)) (sk01.at h.2.2.2.2.2 (hg _ _ (by omega) (by omega)))
theorem s_X8_lead (hd : 13 ≤ d) (hP : TP M m v) : CS G d mX8_lead [dR m] M (postI fun x M1 => RD M m 0 M1 ∧ x = leadAns v) := by
  obtain ⟨hT, hw, hA, hL, hK, hsk⟩ := id hP
  have hT_ := hT; obtain ⟨p0, p1, ⟨c1, c2, c3, c4, c5, c6, c7, c8, c9, c10, c11, c12, c13, c14, c15⟩, ⟨t1, t2, t3, t4, t5, t6, t7, t8, t9, t10, t11, t12, t13, t14, t15⟩⟩ := hT_
  refine CS.mkQ (by decide) (Nat.le_of_ble_eq_true rfl) fun Q hQ => ?_
  refine x_aload_n dX8_lead_0 rfl rfl ?_
  refine x_iconst dX8_lead_1 rfl ?_
  refine g_putI (kI := 0) rfl dX8_lead_2 fX8_3_8 (by first | assumption | exact hT.2.1) ?_
  refine x_aload_n dX8_lead_5 rfl rfl ?_
  refine g_callN (vs := [_]) (d' := d - 1) rfl (s_X8_laysMore (M := mI M m 0 0) (by omega) hT (mciI (by omega) hw) hA.1) dX8_lead_6 kX8_525 (by omega) (by decide) rfl (Nat.le_of_ble_eq_true rfl) (rcv_o (by first | assumption | exact hT.2.1) rfl) (fun M6 h6 => ?_)
  obtain ⟨g6, hM6, l6, q6⟩ := h6
  subst hM6
  refine x_aload_n dX8_lead_9 rfl rfl ?_
  refine g_getR (kI := 29) rfl dX8_lead_10 fX8_55_8 (by first | assumption | exact hT.2.1) (by first | assumption | exact hT.2.1) ?_
  refine x_iconst dX8_lead_13 rfl ?_
  refine x_bipush dX8_lead_14 rfl ?_
  refine g_callI (vs := [_, _]) (d' := d - 1) rfl (s_X8_moreAt (by omega) (by omega) (by omega)) dX8_lead_16 kX8_516 (by omega) (by decide) rfl (Nat.le_of_ble_eq_true rfl) (rcv_n) (fun x16 M16 h16 => ?_)
  obtain ⟨e16, f16⟩ := h16
  have f16' := f16.symm
  subst f16'
  subst e16
  try simp (disch := omega) only [rdI_e, rdI_n, rdC_i, rdC_o, rdW, rdR, rdU_e, rdU_n, rdLW, Int.add_zero, rdW]
  refine x_iald dX8_lead_19 (by first | assumption | exact hT.2.1) (by omega) (by omega) ?_
  try simp (disch := omega) only [rdI_e, rdI_n, rdC_i, rdC_o, rdW, rdR, rdU_e, rdU_n, rdLW, Int.add_zero, rdW]
  refine x_ireturn rfl dX8_lead_20 ?_
  exact hQ _ _ ⟨_, rfl, RD.ar hP fun a k q1 q2 => q6 a k q1, l6 0 8 (by omega) (by omega) (by omega) (by omega)⟩
theorem s_X8_side (hd : 13 ≤ d) (hP : TP M m v) : CS G d mX8_side [dR m] M (postI fun x M1 => RD M m 0 M1 ∧ x = sideAns v) := by
  obtain ⟨hT, hw, hA, hL, hK, hsk⟩ := id hP
  have hc : ∀ k, 0 ≤ k → k < 8 → 0 ≤ (fun k => v (22 + k)) k ∧ (fun k => v (22 + k)) k < 4 := fun k a b => hA.1.ce k a b
  have r1 := ldV_r hc 7 1 (by omega) (by omega)
  have r2 := ldV_r hc 7 0 (by omega) (by omega)
  have cc1 : 0 ≤ v (22 + 0) ∧ v (22 + 0) < 4 := hc 0 (by omega) (by omega)
  have cc2 : 0 ≤ v (22 + 8 - 1) ∧ v (22 + 8 - 1) < 4 := hc 7 (by omega) (by omega)
  have hT_ := hT; obtain ⟨p0, p1, ⟨c1, c2, c3, c4, c5, c6, c7, c8, c9, c10, c11, c12, c13, c14, c15⟩, ⟨t1, t2, t3, t4, t5, t6, t7, t8, t9, t10, t11, t12, t13, t14, t15⟩⟩ := hT_
  refine CS.mkQ (by decide) (Nat.le_of_ble_eq_true rfl) fun Q hQ => ?_
  refine x_aload_n dX8_side_0 rfl rfl ?_
  refine x_iconst dX8_side_1 rfl ?_
  refine g_putI (kI := 0) rfl dX8_side_2 fX8_3_8 (by first | assumption | exact hT.2.1) ?_
  refine x_aload_n dX8_side_5 rfl rfl ?_
  refine g_callN (vs := [_]) (d' := d - 1) rfl (s_X8_laysMore (M := mI M m 0 0) (by omega) hT (mciI (by omega) hw) hA.1) dX8_side_6 kX8_525 (by omega) (by decide) rfl (Nat.le_of_ble_eq_true rfl) (rcv_o (by first | assumption | exact hT.2.1) rfl) (fun M6 h6 => ?_)
  obtain ⟨g6, hM6, l6, q6⟩ := h6
  subst hM6
  have hw1 : g6 (m + 1) = v := (funext fun j => (q6 _ _ (by omega)).trans (rdI_n (by omega))).trans hw
  have e1 : g6 (m + 13) (9 * (0 + 1) + 8) = ldV (fun k => v (22 + k)) 7 1 := l6 1 8 (by omega) (by omega) (by omega) (by omega)
  have e2 : g6 (m + 13) (9 * 0 + (8 - 1)) = ldV (fun k => v (22 + k)) 7 0 := l6 0 7 (by omega) (by omega) (by omega) (by omega)
  refine x_aload_n dX8_side_9 rfl rfl ?_
  refine x_iconst dX8_side_10 rfl ?_
  refine x_bipush dX8_side_11 rfl ?_
  refine g_callI (vs := [_, _, _]) (d' := d - 1) rfl (s_X8_leftFirst (M := wI (mI M m 0 0) g6) (by omega) hT hw1 (by omega) (by omega) e1 (by omega) cc1) dX8_side_13 kX8_519 (by omega) (by decide) rfl (Nat.le_of_ble_eq_true rfl) (rcv_o (by first | assumption | exact hT.2.1) rfl) (fun x13 M13 h13 => ?_)
  obtain ⟨e13, f13⟩ := h13
  have f13' := f13.symm
  subst f13'
  refine x_aload_n dX8_side_16 rfl rfl ?_
  refine x_iconst dX8_side_17 rfl ?_
  refine x_bipush dX8_side_18 rfl ?_
  refine g_callI (vs := [_, _, _]) (d' := d - 1) rfl (s_X8_rightFirst (M := wI (mI M m 0 0) g6) (by omega) hT hw1 (by omega) (by omega) e2 (by omega) cc2) dX8_side_20 kX8_522 (by omega) (by decide) rfl (Nat.le_of_ble_eq_true rfl) (rcv_o (by first | assumption | exact hT.2.1) rfl) (fun x20 M20 h20 => ?_)
  obtain ⟨e20, f20⟩ := h20
  have f20' := f20.symm
  subst f20'
  refine x_icmp_lt (tgt := 30) dX8_side_23 (by decide) (fun h23 => ?_) (fun h23 => ?_)
  · refine x_iconst dX8_side_30 rfl ?_
    refine x_ireturn rfl dX8_side_31 ?_
    refine hQ _ _ ⟨_, rfl, RD.ar hP fun a k q1 q2 => q6 a k q1, ?_⟩
    rw [e13, e20] at h23
    unfold sideAns
    first
    | exact (if_pos (show v 29 - ldV (fun k => v (22 + k)) 7 0 ≤ v 22 - ldV (fun k => v (22 + k)) 7 1 from Int.not_lt.mp h23)).symm
    | exact (if_neg (show ¬ v 29 - ldV (fun k => v (22 + k)) 7 0 ≤ v 22 - ldV (fun k => v (22 + k)) 7 1 from Int.not_le.mpr h23)).symm
  · refine x_iconst dX8_side_26 rfl ?_
    refine x_goto (tgt := 31) dX8_side_27 (by decide) ?_
    refine x_ireturn rfl dX8_side_31 ?_
    refine hQ _ _ ⟨_, rfl, RD.ar hP fun a k q1 q2 => q6 a k q1, ?_⟩
    rw [e13, e20] at h23
    unfold sideAns
    first
    | exact (if_pos (show v 29 - ldV (fun k => v (22 + k)) 7 0 ≤ v 22 - ldV (fun k => v (22 + k)) 7 1 from Int.not_lt.mp h23)).symm
    | exact (if_neg (show ¬ v 29 - ldV (fun k => v (22 + k)) 7 0 ≤ v 22 - ldV (fun k => v (22 + k)) 7 1 from Int.not_le.mpr h23)).symm
end X8

