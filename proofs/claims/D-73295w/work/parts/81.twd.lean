/-! GuestViewModel: what steps take -/
theorem depthR_s {ea dp : Int} {t : Nat} {u : Vw} : depthR ea dp (t + 1) u = (if hostH u = 6 then 0 else ea) + (if hostH u ≤ 1 then (if dp < 0 then 1 else dp * emuV u (opAtV u 1)) else 0) + depthR ea dp t (hostV u) := rfl
theorem hostH_r (v : Vw) : hostH v = 0 ∨ hostH v = 1 ∨ hostH v = 2 ∨ hostH v = 5 ∨ hostH v = 6 := by
  unfold hostH
  split
  · omega
  · split
    · omega
    · split
      · omega
      · split <;> omega
theorem hostH_6 {v : Vw} : hostH v = 6 ↔ v 3 ≤ v (guA 1) := by
  constructor
  · intro h
    by_cases q : v 3 ≤ v (guA 1)
    · exact q
    · unfold hostH at h
      rw [if_neg q] at h
      split at h
      · omega
      · split at h
        · omega
        · split at h <;> omega
  · intro h
    unfold hostH
    rw [if_pos h]
theorem depthR_h {ea dp : Int} {u : Vw} (h : u 3 ≤ u (guA 1)) : ∀ t : Nat, depthR ea dp t u = 0 := by
  intro t
  induction t with
  | zero => rfl
  | succ t ih =>
    have e : hostV u = u := by
      unfold hostV
      rw [if_pos h]
    have e6 := hostH_6.mpr h
    rw [depthR_s, e, ih, if_pos e6, if_neg (by omega)]
    rfl
theorem okA_hostV {v : Vw} (h : okA v) : okA (hostV v) := ⟨h.1.eqB hostV_eqB, h.2.1.eqv fun k a b => hostV_o (by unfold guA at *; omega), hostV_ok h.1 h.2.2⟩
section X8
variable {G : GW} {d : Nat} {M : Mem} {m a b c p k i what n st pc op : Int} {v : Vw}
theorem s_X8_depthOf {ea dp : Int} (hd : 20 ≤ d) (hT : TwS (msh M) (mcr M) m) (hw : mci M (m + 1) = v) (hA : okA v) (hL : lawOK v) (hK : KnOk (mci M) (mcl M) m) (hsk : sk01 (mci M) m) (hn : 0 ≤ n ∧ n ≤ 60) (he : ea = 0 ∨ ea = 1) (hdp : -1 ≤ dp ∧ dp ≤ 5) : CS G d mX8_depthOf [dR m, dI n, dI ea, dI dp] M (postI fun x M1 => x = depthV v n ea dp ∧ ∃ g l, M1 = wL M g l ∧ TQ m (mci M) g ∧ TM m (mcl M) l ∧ KnOk g l m ∧ sk01 g m) := by
  have hT_ := hT; obtain ⟨p0, p1, ⟨c1, c2, c3, c4, c5, c6, c7, c8, c9, c10, c11, c12, c13, c14, c15⟩, ⟨t1, t2, t3, t4, t5, t6, t7, t8, t9, t10, t11, t12, t13, t14, t15⟩⟩ := hT_
  have hv := hA.1
  refine CS.mkQ (by decide) (Nat.le_of_ble_eq_true rfl) fun Q hQ => ?_
  have loop : ∀ (g0 l : Ci) (hw0 : g0 (m + 1) = v) (hTr : TrOk g0 m v), TQ m (mci M) g0 → TM m (mcl M) l → KnOk g0 l m → ∀ (g1 : Ci), g1 (m + 1) = bootV v → TW m (mci (mC (wL M g0 l) (m + 1) 0 (m + 4) 0 368)) g1 → sk01 g1 m → WP G d mX8_depthOf 18 [some (dR m), some (dI n), some (dI ea), some (dI dp), some (dI 0), some (dI 0), none, none] [] (wL M g1 l) Q := by
    intro g0 l hw0 hTr f1 f2 f3 g1 w1 f4 f5
    have lp : ∀ (t : Nat) (k x : Int) (u : Vw) (g : Ci), (n - k).toNat = t → (0 ≤ k) → (k ≤ n) → (g (m + 1) = u) → (okA u) → (eqB v u) → (depthV v n ea dp = x + depthR ea dp t u) → (0 ≤ x ∧ x ≤ 3000 * k) → (TF m (mci (mC (wL M g0 l) (m + 1) 0 (m + 4) 0 368)) g) → (sk01 g m) → WP G d mX8_depthOf 18 [some (dR m), some (dI n), some (dI ea), some (dI dp), some (dI x), some (dI k), none, none] [] (wL M g l) Q := by
      intro t
      induction t using Nat.strongRecOn with
      | _ t ih =>
        intro k x u g ht k0 k1 hw hu hB hx hx0 hf hs
        have h10 : TrOk g m v := fun p a b => (hf.t10 p).trans ((rdC_o (by omega)).trans (hTr p a b))
        have hTu : TrOk g m u := h10.eqM hv hB.m
        have hLu : lawOK u := hL.eqM hB.m
        have hpc := hu.2.2.1
        have hv3 := hu.1.2.2.2.1
        have hv8 := hu.1.1
        have exit : ∀ h97 : (n ≤ k ∨ u 3 ≤ u (guA 1)), WP G d mX8_depthOf 97 [some (dR m), some (dI n), some (dI ea), some (dI dp), some (dI x), some (dI k), none, none] [] (wL M g l) Q := by
          intro h97
          have ex : depthV v n ea dp = x := by
            rcases h97 with q | q
            · rw [show t = 0 by omega] at hx
              rw [hx]
              show x + 0 = x
              omega
            · rw [depthR_h q] at hx
              omega
          refine x_aload_n dX8_depthOf_97 rfl rfl ?_
          refine g_callN (vs := [_]) (d' := d - 1) rfl (s_X8_bringsBack (M := wL M g l) (by omega) hT) dX8_depthOf_98 kX8_470 (by omega) (by decide) rfl (Nat.le_of_ble_eq_true rfl) (rcv_o (by first | assumption | exact hT.2.1) rfl) (fun M98 h98 => ?_)
          subst h98
          refine x_iload dX8_depthOf_101 rfl ?_
          refine x_ireturn rfl dX8_depthOf_103 ?_
          have hb := TQ.back (M := wL M g0 l) hw0 hf.th (fun k hk => by rw [hw]; exact hB k (by omega))
          refine hQ _ _ ⟨_, rfl, ex.symm, mci (mC (wI (wL M g0 l) g) (m + 4) 0 (m + 1) 0 368), l, rfl, TQ.trans f1 hb.2, f2, KnOk.at f3 (fun p => ?_) (fun p => rfl), ?_⟩
          · exact (rdC_o (by omega)).trans ((hf.t10 p).trans (rdC_o (by omega)))
          · unfold sk01 at hs ⊢
            rw [rdC_o (by omega)]
            exact hs
        by_cases hk : n ≤ k ∨ u 3 ≤ u (guA 1)
        · refine x_iload dX8_depthOf_18 rfl ?_
          refine x_iload_n dX8_depthOf_20 rfl rfl ?_
          refine x_icmp_ge (tgt := 97) dX8_depthOf_21 (by decide) (fun h21 => ?_) (fun h21 => ?_)
          · exact exit hk
          · refine x_aload_n dX8_depthOf_24 rfl rfl ?_
            refine x_iconst dX8_depthOf_25 rfl ?_
            refine g_callI (vs := [_, _]) (d' := d - 1) rfl (s_X8_isHalted (by omega) hT (by first | exact hw | exact mciI (by omega) hw | exact mciI (by omega) (mciI (by omega) hw) | exact mciI (by omega) (mciI (by omega) (mciI (by omega) hw)) | exact mciI (by omega) (mciI (by omega) (mciI (by omega) (mciI (by omega) hw))) | exact mciC (by omega) hw) (by omega)) dX8_depthOf_26 kX8_392 (by omega) (by decide) rfl (Nat.le_of_ble_eq_true rfl) (rcv_o (by first | assumption | exact hT.2.1) rfl) (fun x26 M26 h26 => ?_)
            obtain ⟨e26, f26⟩ := h26
            have f26' := f26.symm
            subst f26'
            subst e26
            refine x_if_ne (tgt := 97) dX8_depthOf_29 (by decide) (fun h29 => ?_) (fun h29 => ?_)
            · try simp only [vP_0, vP_1, vP_n0, vP_n1, Classical.not_not] at h29
              exact exit hk
            · try simp only [vP_0, vP_1, vP_n0, vP_n1, Classical.not_not] at h29
              omega
        · have hp : 0 ≤ opAtV u 1 ∧ opAtV u 1 < u 0 := hu.1.pr (u (guA 1)) hpc.1 (by omega)
          have e6 : ¬ hostH u = 6 := fun q => hk (Or.inr (hostH_6.mp q))
          have hr := hostH_r u
          have hMu : eqM u (hostV u) := hostV_eqB.m
          rw [show t = (n - (k + 1)).toNat + 1 by omega, depthR_s, if_neg e6] at hx
          have nx : ∀ (y : Int) (g' : Ci), y = (if hostH u ≤ 1 then (if dp < 0 then 1 else dp * emuV u (opAtV u 1)) else 0) → (0 ≤ y ∧ y ≤ 2435) → g' (m + 1) = hostV u → TF m g g' → sk01 g' m → ∀ x' k', x' = x + (ea + y) → k' = k + 1 → WP G d mX8_depthOf 18 [some (dR m), some (dI n), some (dI ea), some (dI dp), some (dI x'), some (dI k'), none, none] [] (wL M g' l) Q := fun y g' n1 n2 n3 n4 n5 x' k' e1 e2 => by
            subst e1
            subst e2
            exact ih _ (by omega) (k + 1) (x + (ea + y)) (hostV u) g' rfl (by omega) (by omega) n3 (okA_hostV hu) (hB.trans hostV_eqB) (by rw [hx, n1]; omega) (by omega) (TF.trans hf n4) n5
          refine x_iload dX8_depthOf_18 rfl ?_
          refine x_iload_n dX8_depthOf_20 rfl rfl ?_
          refine x_icmp_ge (tgt := 97) dX8_depthOf_21 (by decide) (fun h21 => ?_) (fun h21 => ?_)
          · omega
          · refine x_aload_n dX8_depthOf_24 rfl rfl ?_
            refine x_iconst dX8_depthOf_25 rfl ?_
            refine g_callI (vs := [_, _]) (d' := d - 1) rfl (s_X8_isHalted (by omega) hT (by first | exact hw | exact mciI (by omega) hw | exact mciI (by omega) (mciI (by omega) hw) | exact mciI (by omega) (mciI (by omega) (mciI (by omega) hw)) | exact mciI (by omega) (mciI (by omega) (mciI (by omega) (mciI (by omega) hw))) | exact mciC (by omega) hw) (by omega)) dX8_depthOf_26 kX8_392 (by omega) (by decide) rfl (Nat.le_of_ble_eq_true rfl) (rcv_o (by first | assumption | exact hT.2.1) rfl) (fun x26 M26 h26 => ?_)
            obtain ⟨e26, f26⟩ := h26
            have f26' := f26.symm
            subst f26'
            subst e26
            try simp (disch := omega) only [rdI_e, rdI_n, rdC_i, rdC_o, rdW, rdR, rdU_e, rdU_n, rdLW, Int.add_zero, hw]
            refine x_if_ne (tgt := 97) dX8_depthOf_29 (by decide) (fun h29 => ?_) (fun h29 => ?_)
            · try simp only [vP_0, vP_1, vP_n0, vP_n1, Classical.not_not] at h29
              omega
            · try simp only [vP_0, vP_1, vP_n0, vP_n1, Classical.not_not] at h29
              refine x_aload_n dX8_depthOf_32 rfl rfl ?_
              refine g_getR (kI := 1) rfl dX8_depthOf_33 fX8_13_8 (by first | assumption | exact hT.2.1) (by first | assumption | exact hT.2.1) ?_
              refine x_bipush dX8_depthOf_36 rfl ?_
              refine x_aload_n dX8_depthOf_38 rfl rfl ?_
              refine x_iconst dX8_depthOf_39 rfl ?_
              refine x_iconst dX8_depthOf_40 rfl ?_
              refine g_callI (vs := [_, _, _]) (d' := d - 1) rfl (s_X8_ofGuest (by omega) hT (by first | exact hw | exact mciI (by omega) hw | exact mciI (by omega) (mciI (by omega) hw) | exact mciI (by omega) (mciI (by omega) (mciI (by omega) hw)) | exact mciI (by omega) (mciI (by omega) (mciI (by omega) (mciI (by omega) hw))) | exact mciC (by omega) hw) (by omega) (by omega)) dX8_depthOf_41 kX8_384 (by omega) (by decide) rfl (Nat.le_of_ble_eq_true rfl) (rcv_o (by first | assumption | exact hT.2.1) rfl) (fun x41 M41 h41 => ?_)
              obtain ⟨e41, f41⟩ := h41
              have f41' := f41.symm
              subst f41'
              subst e41
              try simp (disch := omega) only [rdI_e, rdI_n, rdC_i, rdC_o, rdW, rdR, rdU_e, rdU_n, rdLW, Int.add_zero, hw]
              first | refine x_iaddN dX8_depthOf_44 (by unfold i32; omega) ?_ | refine x_iadd dX8_depthOf_44 ?_
              refine x_iald dX8_depthOf_45 (by first | assumption | exact hT.2.1) (by omega) (by omega) ?_
              try simp (disch := omega) only [rdI_e, rdI_n, rdC_i, rdC_o, rdW, rdR, rdU_e, rdU_n, rdLW, Int.add_zero, hw]
              refine x_istore (L' := [some _, some _, some _, some _, some _, some _, some _, none]) dX8_depthOf_46 (by decide) rfl ?_
              refine x_aload_n dX8_depthOf_48 rfl rfl ?_
              refine g_callI (vs := [_]) (d' := d - 1) rfl (s_X8_hostedSteps (M := wL M g l) (by omega) hT hw hu.1 hu.2.2 hTu hLu hs) dX8_depthOf_49 kX8_417 (by omega) (by decide) rfl (Nat.le_of_ble_eq_true rfl) (rcv_o (by first | assumption | exact hT.2.1) rfl) (fun x49 M49 h49 => ?_)
              obtain ⟨e49, g49, hM49, r49, q49, z49⟩ := h49
              subst hM49
              refine x_iconst dX8_depthOf_52 rfl ?_
              refine x_iconst dX8_depthOf_53 rfl ?_
              refine g_callI (vs := [_, _, _]) (d' := d - 1) rfl (s_X8_in (by omega)) dX8_depthOf_54 kX8_88 (by omega) (by decide) rfl (Nat.le_of_ble_eq_true rfl) (rcv_n) (fun x54 M54 h54 => ?_)
              obtain ⟨e54, f54⟩ := h54
              have f54' := f54.symm
              subst f54'
              subst e54
              try simp (disch := omega) only [rdI_e, rdI_n, rdC_i, rdC_o, rdW, rdR, rdU_e, rdU_n, rdLW, Int.add_zero, hw]
              refine x_istore (L' := [some _, some _, some _, some _, some _, some _, some _, some _]) dX8_depthOf_57 (by decide) rfl ?_
              refine x_iload dX8_depthOf_59 rfl ?_
              refine x_iload_n dX8_depthOf_61 rfl rfl ?_
              refine x_iload dX8_depthOf_62 rfl ?_
              refine x_if_eq (tgt := 86) dX8_depthOf_64 (by decide) (fun h64 => ?_) (fun h64 => ?_)
              · try simp only [vP_0, vP_1, vP_n0, vP_n1, Classical.not_not] at h64
                refine x_iconst dX8_depthOf_86 rfl ?_
                first | refine x_iaddN dX8_depthOf_87 (by unfold i32; omega) ?_ | refine x_iadd dX8_depthOf_87 ?_
                first | refine x_iaddN dX8_depthOf_88 (by unfold i32; omega) ?_ | refine x_iadd dX8_depthOf_88 ?_
                refine x_istore (L' := [some _, some _, some _, some _, some _, some _, some _, some _]) dX8_depthOf_89 (by decide) rfl ?_
                first | refine x_iincN (L' := [some _, some _, some _, some _, some _, some _, some _, some _]) dX8_depthOf_91 rfl (by decide) (by unfold i32; omega) rfl ?_ | refine x_iinc (L' := [some _, some _, some _, some _, some _, some _, some _, some _]) dX8_depthOf_91 rfl (by decide) rfl ?_
                refine x_goto (tgt := 18) dX8_depthOf_94 (by decide) ?_
                have h1 : 0 ≤ x49 ∧ x49 ≤ 1 ↔ hostH u ≤ 1 := by rw [e49]; split <;> omega
                first
                | (rw [emuV_eqL hu.1 hp hMu hLu] at e79
                   refine WP.mem (M1 := wL M g79 l) rfl (x_fgt (by simp [subL]) (nx (dp * x79) g79 ?_ (by omega) (TV.w q79 r49) (TF.trans q49 q79.te.tf) (q79.sk z49) (x + (ea + dp * x79)) (k + 1) rfl rfl))
                   rw [if_pos (h1.mp h64), if_neg (by omega), e79])
                | (refine WP.mem (M1 := wL M g49 l) rfl (x_fgt (by simp [subL]) (nx 1 g49 ?_ (by omega) r49 q49 z49 (x + (ea + 1)) (k + 1) rfl rfl))
                   rw [if_pos (h1.mp h64), if_pos (by omega)])
                | (refine WP.mem (M1 := wL M g49 l) rfl (x_fgt (by simp [subL]) (nx 0 g49 ?_ (by omega) r49 q49 z49 (x + (ea + 0)) (k + 1) rfl rfl))
                   rw [if_neg fun q => h64 (h1.mpr q)])
              · try simp only [vP_0, vP_1, vP_n0, vP_n1, Classical.not_not] at h64
                refine x_iload_n dX8_depthOf_67 rfl rfl ?_
                refine x_if_ge (tgt := 75) dX8_depthOf_68 (by decide) (fun h68 => ?_) (fun h68 => ?_)
                · refine x_iload_n dX8_depthOf_75 rfl rfl ?_
                  refine x_aload_n dX8_depthOf_76 rfl rfl ?_
                  refine x_iload dX8_depthOf_77 rfl ?_
                  refine g_callI (vs := [_, _]) (d' := d - 1) rfl (s_X8_emulationOf (M := wL M g49 l) (p := opAtV u 1) (by omega) hT r49 (okA_hostV hu).1 (by rw [hMu 0 (by omega) (by omega) (by omega)]; exact hp) ((q49.tr hTu).eqM hu.1 hMu) (hLu.eqM hMu)) dX8_depthOf_79 kX8_405 (by omega) (by decide) rfl (Nat.le_of_ble_eq_true rfl) (rcv_o (by first | assumption | exact hT.2.1) rfl) (fun x79 M79 h79 => ?_)
                  obtain ⟨⟨e79, b79⟩, g79, hM79, q79⟩ := h79
                  subst hM79
                  have hmul : 0 ≤ dp * x79 := Int.mul_nonneg (by omega) (by omega)
                  have hmul2 : dp * x79 ≤ 5 * 487 := Int.mul_le_mul (by omega) (by omega) (by omega) (by omega)
                  first | refine x_imulN dX8_depthOf_82 (by unfold i32; omega) ?_ | refine x_imul dX8_depthOf_82 ?_
                  refine x_goto (tgt := 87) dX8_depthOf_83 (by decide) ?_
                  first | refine x_iaddN dX8_depthOf_87 (by unfold i32; omega) ?_ | refine x_iadd dX8_depthOf_87 ?_
                  first | refine x_iaddN dX8_depthOf_88 (by unfold i32; omega) ?_ | refine x_iadd dX8_depthOf_88 ?_
                  refine x_istore (L' := [some _, some _, some _, some _, some _, some _, some _, some _]) dX8_depthOf_89 (by decide) rfl ?_
                  first | refine x_iincN (L' := [some _, some _, some _, some _, some _, some _, some _, some _]) dX8_depthOf_91 rfl (by decide) (by unfold i32; omega) rfl ?_ | refine x_iinc (L' := [some _, some _, some _, some _, some _, some _, some _, some _]) dX8_depthOf_91 rfl (by decide) rfl ?_
                  refine x_goto (tgt := 18) dX8_depthOf_94 (by decide) ?_
                  have h1 : 0 ≤ x49 ∧ x49 ≤ 1 ↔ hostH u ≤ 1 := by rw [e49]; split <;> omega
                  first
                  | (rw [emuV_eqL hu.1 hp hMu hLu] at e79
                     refine WP.mem (M1 := wL M g79 l) rfl (x_fgt (by simp [subL]) (nx (dp * x79) g79 ?_ (by omega) (TV.w q79 r49) (TF.trans q49 q79.te.tf) (q79.sk z49) (x + (ea + dp * x79)) (k + 1) rfl rfl))
                     rw [if_pos (h1.mp h64), if_neg (by omega), e79])
                  | (refine WP.mem (M1 := wL M g49 l) rfl (x_fgt (by simp [subL]) (nx 1 g49 ?_ (by omega) r49 q49 z49 (x + (ea + 1)) (k + 1) rfl rfl))
                     rw [if_pos (h1.mp h64), if_pos (by omega)])
                  | (refine WP.mem (M1 := wL M g49 l) rfl (x_fgt (by simp [subL]) (nx 0 g49 ?_ (by omega) r49 q49 z49 (x + (ea + 0)) (k + 1) rfl rfl))
                     rw [if_neg fun q => h64 (h1.mpr q)])
                · refine x_iconst dX8_depthOf_71 rfl ?_
                  refine x_goto (tgt := 87) dX8_depthOf_72 (by decide) ?_
                  first | refine x_iaddN dX8_depthOf_87 (by unfold i32; omega) ?_ | refine x_iadd dX8_depthOf_87 ?_
                  first | refine x_iaddN dX8_depthOf_88 (by unfold i32; omega) ?_ | refine x_iadd dX8_depthOf_88 ?_
                  refine x_istore (L' := [some _, some _, some _, some _, some _, some _, some _, some _]) dX8_depthOf_89 (by decide) rfl ?_
                  first | refine x_iincN (L' := [some _, some _, some _, some _, some _, some _, some _, some _]) dX8_depthOf_91 rfl (by decide) (by unfold i32; omega) rfl ?_ | refine x_iinc (L' := [some _, some _, some _, some _, some _, some _, some _, some _]) dX8_depthOf_91 rfl (by decide) rfl ?_
                  refine x_goto (tgt := 18) dX8_depthOf_94 (by decide) ?_
                  have h1 : 0 ≤ x49 ∧ x49 ≤ 1 ↔ hostH u ≤ 1 := by rw [e49]; split <;> omega
                  first
                  | (rw [emuV_eqL hu.1 hp hMu hLu] at e79
                     refine WP.mem (M1 := wL M g79 l) rfl (x_fgt (by simp [subL]) (nx (dp * x79) g79 ?_ (by omega) (TV.w q79 r49) (TF.trans q49 q79.te.tf) (q79.sk z49) (x + (ea + dp * x79)) (k + 1) rfl rfl))
                     rw [if_pos (h1.mp h64), if_neg (by omega), e79])
                  | (refine WP.mem (M1 := wL M g49 l) rfl (x_fgt (by simp [subL]) (nx 1 g49 ?_ (by omega) r49 q49 z49 (x + (ea + 1)) (k + 1) rfl rfl))
                     rw [if_pos (h1.mp h64), if_pos (by omega)])
                  | (refine WP.mem (M1 := wL M g49 l) rfl (x_fgt (by simp [subL]) (nx 0 g49 ?_ (by omega) r49 q49 z49 (x + (ea + 0)) (k + 1) rfl rfl))
                     rw [if_neg fun q => h64 (h1.mpr q)])
    exact lp _ 0 0 (bootV v) g1 rfl (by omega) (by omega) w1 (bootV_ok hv) bootV_eqB (by unfold depthV; rw [show (n - 0).toNat = n.toNat by omega]; omega) (by omega) f4.tf f5
  refine x_aload_n dX8_depthOf_0 rfl rfl ?_
  refine g_callN (vs := [_]) (d' := d - 1) rfl (s_X8_laysTraits (by omega) hT (by first | exact hw | exact mciI (by omega) hw | exact mciI (by omega) (mciI (by omega) hw) | exact mciI (by omega) (mciI (by omega) (mciI (by omega) hw)) | exact mciI (by omega) (mciI (by omega) (mciI (by omega) (mciI (by omega) hw))) | exact mciC (by omega) hw) hv hK hsk) dX8_depthOf_1 kX8_423 (by omega) (by decide) rfl (Nat.le_of_ble_eq_true rfl) (rcv_o (by first | assumption | exact hT.2.1) rfl) (fun M1 h1 => ?_)
  obtain ⟨g1, l1, hM1, q1, y1, hK, hTr, hsk⟩ := h1
  subst hM1
  have hw := TG.w q1 (by first | exact hw | exact mciI (by omega) hw | exact mciI (by omega) (mciI (by omega) hw) | exact mciI (by omega) (mciI (by omega) (mciI (by omega) hw)) | exact mciI (by omega) (mciI (by omega) (mciI (by omega) (mciI (by omega) hw))) | exact mciC (by omega) hw)
  refine x_aload_n dX8_depthOf_4 rfl rfl ?_
  refine g_callN (vs := [_]) (d' := d - 1) rfl (s_X8_keepsAll (M := wL M g1 l1) (by omega) hT) dX8_depthOf_5 kX8_464 (by omega) (by decide) rfl (Nat.le_of_ble_eq_true rfl) (rcv_o (by first | assumption | exact hT.2.1) rfl) (fun M5 h5 => ?_)
  subst h5
  refine x_aload_n dX8_depthOf_8 rfl rfl ?_
  refine g_callN (vs := [_]) (d' := d - 1) rfl (s_X8_bothBoot (M := mC (wL M g1 l1) (m + 1) 0 (m + 4) 0 368) (by omega) hT (mciC (by omega) hw)) dX8_depthOf_9 kX8_64 (by omega) (by decide) rfl (Nat.le_of_ble_eq_true rfl) (rcv_o (by first | assumption | exact hT.2.1) rfl) (fun M9 h9 => ?_)
  obtain ⟨g9, hM9, r9, q9⟩ := h9
  refine x_iconst dX8_depthOf_12 rfl ?_
  refine x_istore (L' := [some _, some _, some _, some _, some _, none, none, none]) dX8_depthOf_13 (by decide) rfl ?_
  refine x_iconst dX8_depthOf_15 rfl ?_
  refine x_istore (L' := [some _, some _, some _, some _, some _, some _, none, none]) dX8_depthOf_16 (by decide) rfl ?_
  subst hM9
  refine WP.mem (M1 := wL M g9 l1) rfl (loop g1 l1 hw hTr q1.tq y1.tm hK g9 r9 q9 (q9.sk ?_))
  unfold sk01 at hsk ⊢
  rw [rdC_o (by omega)]
  exact hsk
theorem s_X8_traps (hd : 21 ≤ d) (hP : TP M m v) : CS G d mX8_traps [dR m, dI n] M (postI fun x M1 => RD M m (if 0 ≤ n ∧ n ≤ 60 then 0 else 1) M1 ∧ (0 ≤ n ∧ n ≤ 60 → x = depthV v n 0 (-1))) := by
  obtain ⟨hT, hw, hA, hL, hK, hsk⟩ := id hP
  have hv := hA.1
  have hT_ := hT; obtain ⟨p0, p1, ⟨c1, c2, c3, c4, c5, c6, c7, c8, c9, c10, c11, c12, c13, c14, c15⟩, ⟨t1, t2, t3, t4, t5, t6, t7, t8, t9, t10, t11, t12, t13, t14, t15⟩⟩ := hT_
  refine CS.mkQ (by decide) (Nat.le_of_ble_eq_true rfl) fun Q hQ => ?_
  refine x_aload_n dX8_traps_0 rfl rfl ?_
  refine x_iconst dX8_traps_1 rfl ?_
  refine g_putI (kI := 0) rfl dX8_traps_2 fX8_3_8 (by first | assumption | exact hT.2.1) ?_
  obtain ⟨hT, hw, hA, hL, hK, hsk⟩ := TP.z (x := 0) hP
  refine x_aload_n dX8_traps_5 rfl rfl ?_
  refine x_iload_n dX8_traps_6 rfl rfl ?_
  refine x_iconst dX8_traps_7 rfl ?_
  refine x_bipush dX8_traps_8 rfl ?_
  refine g_callI (vs := [_, _, _]) (d' := d - 1) rfl (s_X8_in (by omega)) dX8_traps_10 kX8_88 (by omega) (by decide) rfl (Nat.le_of_ble_eq_true rfl) (rcv_n) (fun x10 M10 h10 => ?_)
  obtain ⟨e10, f10⟩ := h10
  have f10' := f10.symm
  subst f10'
  subst e10
  refine x_if_ne (tgt := 20) dX8_traps_13 (by decide) (fun h13 => ?_) (fun h13 => ?_)
  · try simp only [vP_0, vP_1, vP_n0, vP_n1, Classical.not_not] at h13
    refine x_iconst dX8_traps_20 rfl ?_
    refine x_iconst dX8_traps_21 rfl ?_
    refine g_callI (vs := [_, _, _]) (d' := d - 1) rfl (s_X8_throwsIf (by omega) hT (by first | omega | exact vP_r _)) dX8_traps_22 kX8_280 (by omega) (by decide) rfl (Nat.le_of_ble_eq_true rfl) (rcv_o (by first | assumption | exact hT.2.1) rfl) (fun x22 M22 h22 => ?_)
    obtain ⟨e22, r22, f22⟩ := h22
    have f22' := (f22.1 (by omega)).symm
    subst f22'
    subst e22
    refine x_if_eq (tgt := 32) dX8_traps_25 (by decide) (fun h25 => ?_) (fun h25 => ?_)
    · try simp only [vP_0, vP_1, vP_n0, vP_n1, Classical.not_not] at h25
      refine x_aload_n dX8_traps_32 rfl rfl ?_
      refine x_iload_n dX8_traps_33 rfl rfl ?_
      refine x_iconst dX8_traps_34 rfl ?_
      refine x_iconst dX8_traps_35 rfl ?_
      refine g_callI (vs := [_, _, _, _]) (d' := d - 1) rfl (s_X8_depthOf (by omega) hT hw hA hL hK hsk (by omega) (Or.inl rfl) (by omega)) dX8_traps_36 kX8_473 (by omega) (by decide) rfl (Nat.le_of_ble_eq_true rfl) (rcv_o (by first | assumption | exact hT.2.1) rfl) (fun x36 M36 h36 => ?_)
      obtain ⟨e36, g36, l36, hM36, q36, y36, k36, z36⟩ := h36
      refine x_ireturn rfl dX8_traps_39 ?_
      first
      | (refine hQ _ _ ⟨_, rfl, ?_, fun _ => e36⟩
         rw [if_pos (by omega), hM36]
         exact RD.mk q36 y36 k36 z36)
      | exact hQ _ _ ⟨_, rfl, by rw [if_neg (by omega)]; exact RD.t hP, fun q => by omega⟩
    · exact absurd h25 (by decide)
  · try simp only [vP_0, vP_1, vP_n0, vP_n1, Classical.not_not] at h13
    refine x_iconst dX8_traps_16 rfl ?_
    refine x_goto (tgt := 21) dX8_traps_17 (by decide) ?_
    refine x_iconst dX8_traps_21 rfl ?_
    refine g_callI (vs := [_, _, _]) (d' := d - 1) rfl (s_X8_throwsIf (by omega) hT (by first | omega | exact vP_r _)) dX8_traps_22 kX8_280 (by omega) (by decide) rfl (Nat.le_of_ble_eq_true rfl) (rcv_o (by first | assumption | exact hT.2.1) rfl) (fun x22 M22 h22 => ?_)
    obtain ⟨e22, r22, f22⟩ := h22
    have f22' := (f22.2 (by omega)).symm
    subst f22'
    subst e22
    refine x_if_eq (tgt := 32) dX8_traps_25 (by decide) (fun h25 => ?_) (fun h25 => ?_)
    · exact absurd h25 (by decide)
    · try simp only [vP_0, vP_1, vP_n0, vP_n1, Classical.not_not] at h25
      refine x_iconst dX8_traps_28 rfl ?_
      refine x_goto (tgt := 39) dX8_traps_29 (by decide) ?_
      refine x_ireturn rfl dX8_traps_39 ?_
      first
      | (refine hQ _ _ ⟨_, rfl, ?_, fun _ => e36⟩
         rw [if_pos (by omega), hM36]
         exact RD.mk q36 y36 k36 z36)
      | exact hQ _ _ ⟨_, rfl, by rw [if_neg (by omega)]; exact RD.t hP, fun q => by omega⟩
theorem s_X8_depth (hd : 21 ≤ d) (hP : TP M m v) : CS G d mX8_depth [dR m, dI n, dI k] M (postI fun x M1 => RD M m (if (0 ≤ n ∧ n ≤ 60) ∧ 0 ≤ k ∧ k ≤ 5 then 0 else 1) M1 ∧ ((0 ≤ n ∧ n ≤ 60) ∧ 0 ≤ k ∧ k ≤ 5 → x = depthV v n 1 k)) := by
  obtain ⟨hT, hw, hA, hL, hK, hsk⟩ := id hP
  have hv := hA.1
  have hT_ := hT; obtain ⟨p0, p1, ⟨c1, c2, c3, c4, c5, c6, c7, c8, c9, c10, c11, c12, c13, c14, c15⟩, ⟨t1, t2, t3, t4, t5, t6, t7, t8, t9, t10, t11, t12, t13, t14, t15⟩⟩ := hT_
  refine CS.mkQ (by decide) (Nat.le_of_ble_eq_true rfl) fun Q hQ => ?_
  refine x_aload_n dX8_depth_0 rfl rfl ?_
  refine x_iconst dX8_depth_1 rfl ?_
  refine g_putI (kI := 0) rfl dX8_depth_2 fX8_3_8 (by first | assumption | exact hT.2.1) ?_
  obtain ⟨hT, hw, hA, hL, hK, hsk⟩ := TP.z (x := 0) hP
  refine x_aload_n dX8_depth_5 rfl rfl ?_
  refine x_iload_n dX8_depth_6 rfl rfl ?_
  refine x_iconst dX8_depth_7 rfl ?_
  refine x_bipush dX8_depth_8 rfl ?_
  refine g_callI (vs := [_, _, _]) (d' := d - 1) rfl (s_X8_in (by omega)) dX8_depth_10 kX8_88 (by omega) (by decide) rfl (Nat.le_of_ble_eq_true rfl) (rcv_n) (fun x10 M10 h10 => ?_)
  obtain ⟨e10, f10⟩ := h10
  have f10' := f10.symm
  subst f10'
  subst e10
  refine x_if_eq (tgt := 25) dX8_depth_13 (by decide) (fun h13 => ?_) (fun h13 => ?_)
  · try simp only [vP_0, vP_1, vP_n0, vP_n1, Classical.not_not] at h13
    refine x_iconst dX8_depth_25 rfl ?_
    refine x_goto (tgt := 30) dX8_depth_26 (by decide) ?_
    refine x_iconst dX8_depth_30 rfl ?_
    refine g_callI (vs := [_, _, _]) (d' := d - 1) rfl (s_X8_throwsIf (by omega) hT (by first | omega | exact vP_r _)) dX8_depth_31 kX8_280 (by omega) (by decide) rfl (Nat.le_of_ble_eq_true rfl) (rcv_o (by first | assumption | exact hT.2.1) rfl) (fun x31 M31 h31 => ?_)
    obtain ⟨e31, r31, f31⟩ := h31
    have f31' := (f31.2 (by omega)).symm
    subst f31'
    subst e31
    refine x_if_eq (tgt := 41) dX8_depth_34 (by decide) (fun h34 => ?_) (fun h34 => ?_)
    · exact absurd h34 (by decide)
    · try simp only [vP_0, vP_1, vP_n0, vP_n1, Classical.not_not] at h34
      refine x_iconst dX8_depth_37 rfl ?_
      refine x_goto (tgt := 48) dX8_depth_38 (by decide) ?_
      refine x_ireturn rfl dX8_depth_48 ?_
      first
      | (refine hQ _ _ ⟨_, rfl, ?_, fun _ => e45⟩
         rw [if_pos (by omega), hM45]
         exact RD.mk q45 y45 k45 z45)
      | exact hQ _ _ ⟨_, rfl, by rw [if_neg (by omega)]; exact RD.t hP, fun q => by omega⟩
  · try simp only [vP_0, vP_1, vP_n0, vP_n1, Classical.not_not] at h13
    refine x_iload_n dX8_depth_16 rfl rfl ?_
    refine x_iconst dX8_depth_17 rfl ?_
    refine x_iconst dX8_depth_18 rfl ?_
    refine g_callI (vs := [_, _, _]) (d' := d - 1) rfl (s_X8_in (by omega)) dX8_depth_19 kX8_88 (by omega) (by decide) rfl (Nat.le_of_ble_eq_true rfl) (rcv_n) (fun x19 M19 h19 => ?_)
    obtain ⟨e19, f19⟩ := h19
    have f19' := f19.symm
    subst f19'
    subst e19
    refine x_if_ne (tgt := 29) dX8_depth_22 (by decide) (fun h22 => ?_) (fun h22 => ?_)
    · try simp only [vP_0, vP_1, vP_n0, vP_n1, Classical.not_not] at h22
      refine x_iconst dX8_depth_29 rfl ?_
      refine x_iconst dX8_depth_30 rfl ?_
      refine g_callI (vs := [_, _, _]) (d' := d - 1) rfl (s_X8_throwsIf (by omega) hT (by first | omega | exact vP_r _)) dX8_depth_31 kX8_280 (by omega) (by decide) rfl (Nat.le_of_ble_eq_true rfl) (rcv_o (by first | assumption | exact hT.2.1) rfl) (fun x31 M31 h31 => ?_)
      obtain ⟨e31, r31, f31⟩ := h31
      have f31' := (f31.1 (by omega)).symm
      subst f31'
      subst e31
      refine x_if_eq (tgt := 41) dX8_depth_34 (by decide) (fun h34 => ?_) (fun h34 => ?_)
      · try simp only [vP_0, vP_1, vP_n0, vP_n1, Classical.not_not] at h34
        refine x_aload_n dX8_depth_41 rfl rfl ?_
        refine x_iload_n dX8_depth_42 rfl rfl ?_
        refine x_iconst dX8_depth_43 rfl ?_
        refine x_iload_n dX8_depth_44 rfl rfl ?_
        refine g_callI (vs := [_, _, _, _]) (d' := d - 1) rfl (s_X8_depthOf (by omega) hT hw hA hL hK hsk (by omega) (Or.inr rfl) (by omega)) dX8_depth_45 kX8_473 (by omega) (by decide) rfl (Nat.le_of_ble_eq_true rfl) (rcv_o (by first | assumption | exact hT.2.1) rfl) (fun x45 M45 h45 => ?_)
        obtain ⟨e45, g45, l45, hM45, q45, y45, k45, z45⟩ := h45
        refine x_ireturn rfl dX8_depth_48 ?_
        first
        | (refine hQ _ _ ⟨_, rfl, ?_, fun _ => e45⟩
           rw [if_pos (by omega), hM45]
           exact RD.mk q45 y45 k45 z45)
        | exact hQ _ _ ⟨_, rfl, by rw [if_neg (by omega)]; exact RD.t hP, fun q => by omega⟩
      · exact absurd h34 (by decide)
    · try simp only [vP_0, vP_1, vP_n0, vP_n1, Classical.not_not] at h22
      refine x_iconst dX8_depth_25 rfl ?_
      refine x_goto (tgt := 30) dX8_depth_26 (by decide) ?_
      refine x_iconst dX8_depth_30 rfl ?_
      refine g_callI (vs := [_, _, _]) (d' := d - 1) rfl (s_X8_throwsIf (by omega) hT (by first | omega | exact vP_r _)) dX8_depth_31 kX8_280 (by omega) (by decide) rfl (Nat.le_of_ble_eq_true rfl) (rcv_o (by first | assumption | exact hT.2.1) rfl) (fun x31 M31 h31 => ?_)
      obtain ⟨e31, r31, f31⟩ := h31
      have f31' := (f31.2 (by omega)).symm
      subst f31'
      subst e31
      refine x_if_eq (tgt := 41) dX8_depth_34 (by decide) (fun h34 => ?_) (fun h34 => ?_)
      · exact absurd h34 (by decide)
      · try simp only [vP_0, vP_1, vP_n0, vP_n1, Classical.not_not] at h34
        refine x_iconst dX8_depth_37 rfl ?_
        refine x_goto (tgt := 48) dX8_depth_38 (by decide) ?_
        refine x_ireturn rfl dX8_depth_48 ?_
        first
        | (refine hQ _ _ ⟨_, rfl, ?_, fun _ => e45⟩
           rw [if_pos (by omega), hM45]
           exact RD.mk q45 y45 k45 z45)
        | exact hQ _ _ ⟨_, rfl, by rw [if_neg (by omega)]; exact RD.t hP, fun q => by omega⟩
end X8

