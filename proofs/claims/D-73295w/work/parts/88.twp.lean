/-! GuestViewModel: proof -/
section X8
variable {G : GW} {d : Nat} {M : Mem} {m a b c p k i what n st pc op num : Int} {v : Vw}
theorem nearV.up {u : Vw} {n' : Int} (h : nearV v u n) (hn : n ≤ n') : nearV v u n' := fun k a b c => h k a b (by omega)
theorem nearV.prg {u : Vw} {f : Int → Int} (h : eqB (prgV v n f) u) : nearV v u n := fun k a b c => by
  rw [h k a]
  unfold prgV
  rw [if_neg b, if_neg c]
theorem prfR_r (ho : 1 ≤ v 0 ∧ v 0 ≤ 8) (hn : 1 ≤ n ∧ n ≤ 3) : ∀ (t : Nat) (num : Int), prfR v n t num = -1 ∨ 0 < prfR v n t num := by
  intro t
  induction t with
  | zero => intro num; exact Or.inl rfl
  | succ t ih =>
    intro num
    rw [prfR_s]
    split
    · exact ih (num + 1)
    · have := figR_r (f := digV (v 0) num n) (fun k => by have := digV_r (o := v 0) (num := num) (n := n) (k := k) (by omega); omega) n.toNat
      exact Or.inr (by omega)
theorem s_X8_proof (hd : 22 ≤ d) (hP : TP M m v) : CS G d mX8_proof [dR m] M (postI fun x M1 => RD M m 0 M1 ∧ x = proofAns v) := by
  obtain ⟨hT, hw, hA, hL, hK, hsk⟩ := id hP
  have hv := hA.1
  have hv0 := hv.1
  have hT_ := hT; obtain ⟨p0, p1, ⟨c1, c2, c3, c4, c5, c6, c7, c8, c9, c10, c11, c12, c13, c14, c15⟩, ⟨t1, t2, t3, t4, t5, t6, t7, t8, t9, t10, t11, t12, t13, t14, t15⟩⟩ := hT_
  refine CS.mkQ (by decide) (Nat.le_of_ble_eq_true rfl) fun Q hQ => ?_
  by_cases h0 : v 0 = 0
  · refine x_aload_n dX8_proof_0 rfl rfl ?_
    refine x_iconst dX8_proof_1 rfl ?_
    refine g_putI (kI := 0) rfl dX8_proof_2 fX8_3_8 (by first | assumption | exact hT.2.1) ?_
    refine x_aload_n dX8_proof_5 rfl rfl ?_
    refine g_callI (vs := [_]) (d' := d - 1) rfl (s_X8_ops (by omega) hT (by first | exact hw | exact mciI (by omega) hw | exact mciI (by omega) (mciI (by omega) hw) | exact mciI (by omega) (mciI (by omega) (mciI (by omega) hw)) | exact mciI (by omega) (mciI (by omega) (mciI (by omega) (mciI (by omega) hw))) | exact mciC (by omega) hw)) dX8_proof_6 kX8_84 (by omega) (by decide) rfl (Nat.le_of_ble_eq_true rfl) (rcv_o (by first | assumption | exact hT.2.1) rfl) (fun x6 M6 h6 => ?_)
    obtain ⟨e6, f6⟩ := h6
    have f6' := f6.symm
    subst f6'
    subst e6
    refine x_if_ne (tgt := 14) dX8_proof_9 (by decide) (fun h9 => ?_) (fun h9 => ?_)
    · exact absurd h0 h9
    · refine x_iconst dX8_proof_12 rfl ?_
      refine x_ireturn rfl dX8_proof_13 ?_
      exact hQ _ _ ⟨_, rfl, RD.r hP, (if_pos h0).symm⟩
  · have loop : ∀ (g0 l : Ci) (hw0 : g0 (m + 1) = v) (hTr : TrOk g0 m v), TQ m (mci (mI M m 0 0)) g0 → TM m (mcl M) l → KnOk g0 l m → sk01 g0 m → WP G d mX8_proof 28 [some (dR m), some (dI (-1)), some (dI 1), some (dI 1), none, none] [] (mC (wL M g0 l) (m + 1) 0 (m + 4) 0 368) Q := by
      intro g0 l hw0 hTr f1 f2 f3 f4
      have lp : ∀ (t : Nat) (n due al : Int) (u : Vw) (g : Ci), (4 - n).toNat = t → (1 ≤ n) → (n ≤ 4) → (al = v 0 ^ (n - 1).toNat) → (1 ≤ al ∧ (n = 1 → al ≤ 1) ∧ (n = 2 → al ≤ 8) ∧ (n = 3 → al ≤ 64)) → (g (m + 1) = u) → (nearV v u (n - 1)) → (due = -1 ∧ prfS v 3 1 = prfS v t n ∨ ¬ due = -1 ∧ due = prfS v 3 1) → (TF m (mci (mC (wL M g0 l) (m + 1) 0 (m + 4) 0 368)) g) → (sk01 g m) → WP G d mX8_proof 28 [some (dR m), some (dI due), some (dI al), some (dI n), none, none] [] (wL M g l) Q := by
        intro t
        induction t using Nat.strongRecOn with
        | _ t ih =>
          intro n due al u g ht n0 n1 hal hab hw hu hdue hf hs
          by_cases hgo : n ≤ 3 ∧ due = -1
          · have hP1 : prfS v 3 1 = prfS v t n := by
              rcases hdue with q | q
              · exact q.2
              · exact absurd hgo.2 q.1
            have et : t = (4 - (n + 1)).toNat + 1 := by omega
            rw [et, prfS_s (t := (4 - (n + 1)).toNat)] at hP1
            have hmul1 : 1 ≤ al * v 0 := by
              have : 1 * 1 ≤ al * v 0 := Int.mul_le_mul hab.1 (by omega) (by omega) (by omega)
              omega
            have hmul2 : (n = 1 → al * v 0 ≤ 8) ∧ (n = 2 → al * v 0 ≤ 64) ∧ (n = 3 → al * v 0 ≤ 512) := by
              refine ⟨fun q => ?_, fun q => ?_, fun q => ?_⟩
              · have : al * v 0 ≤ 1 * 8 := Int.mul_le_mul (hab.2.1 q) hv0.2 hv0.1 (by omega)
                omega
              · have : al * v 0 ≤ 8 * 8 := Int.mul_le_mul (hab.2.2.1 q) hv0.2 hv0.1 (by omega)
                omega
              · have : al * v 0 ≤ 64 * 8 := Int.mul_le_mul (hab.2.2.2 q) hv0.2 hv0.1 (by omega)
                omega
            have hal2 : al * v 0 = v 0 ^ n.toNat := by
              rw [show n.toNat = (n - 1).toNat + 1 by omega, Int.pow_succ, hal]
            have c121 : ∀ (due' : Int) (u' : Vw) (g' : Ci), due' = prfR v n (v 0 ^ n.toNat).toNat 0 → g' (m + 1) = u' → nearV v u' n → TF m (mci (mC (wL M g0 l) (m + 1) 0 (m + 4) 0 368)) g' → sk01 g' m → WP G d mX8_proof 121 [some (dR m), some (dI due'), some (dI (al * v 0)), some (dI n), none, none] [] (wL M g' l) Q := by
              intro due' u' g' c1 c2 c3 c4 c5
              first | refine x_iincN (L' := [some _, some _, some _, some _, none, none]) dX8_proof_121 rfl (by decide) (by unfold i32; omega) rfl ?_ | refine x_iinc (L' := [some _, some _, some _, some _, none, none]) dX8_proof_121 rfl (by decide) rfl ?_
              refine x_goto (tgt := 28) dX8_proof_124 (by decide) ?_
              refine ih _ (by omega) (n + 1) due' (al * v 0) u' g' rfl (by omega) (by omega) (by rw [hal2, show n + 1 - 1 = n by omega]) ⟨hmul1, fun q => by omega, fun q => hmul2.1 (by omega), fun q => hmul2.2.1 (by omega)⟩ c2 (c3.up (by omega)) ?_ c4 c5
              rw [← c1] at hP1
              by_cases q : due' = -1
              · rw [if_pos q] at hP1
                exact Or.inl ⟨q, hP1⟩
              · rw [if_neg q] at hP1
                exact Or.inr ⟨q, hP1.symm⟩
            have inner : ∀ (t2 : Nat) (num due : Int) (u : Vw) (g : Ci), (al * v 0 - num).toNat = t2 → (0 ≤ num) → (num ≤ al * v 0) → (g (m + 1) = u) → (nearV v u n) → (due = -1 ∧ prfR v n (v 0 ^ n.toNat).toNat 0 = prfR v n t2 num ∨ ¬ due = -1 ∧ due = prfR v n (v 0 ^ n.toNat).toNat 0) → (TF m (mci (mC (wL M g0 l) (m + 1) 0 (m + 4) 0 368)) g) → (sk01 g m) → WP G d mX8_proof 48 [some (dR m), some (dI due), some (dI (al * v 0)), some (dI n), some (dI num), none] [] (wL M g l) Q := by
              intro t2
              induction t2 using Nat.strongRecOn with
              | _ t2 ih2 =>
                intro num due u g ht2 m0 m1 hw hu hd1 hf hs
                have hTg : TrOk g m v := fun p a b => (hf.t10 p).trans ((rdC_o (by omega)).trans (hTr p a b))
                by_cases hgo2 : num < al * v 0 ∧ due = -1
                · have hP2 : prfR v n (v 0 ^ n.toNat).toNat 0 = prfR v n t2 num := by
                    rcases hd1 with q | q
                    · exact q.2
                    · exact absurd hgo2.2 q.1
                  have et2 : t2 = (al * v 0 - (num + 1)).toNat + 1 := by omega
                  rw [et2, prfR_s] at hP2
                  have hdig : ∀ k, 0 ≤ digV (v 0) num n k ∧ digV (v 0) num n k < 8 := fun k => by have := digV_r (o := v 0) (num := num) (n := n) (k := k) (by omega); omega
                  have c115 : ∀ (due' : Int) (g' : Ci), (due' = -1 ∧ prfR v n (v 0 ^ n.toNat).toNat 0 = prfR v n (al * v 0 - (num + 1)).toNat (num + 1) ∨ ¬ due' = -1 ∧ due' = prfR v n (v 0 ^ n.toNat).toNat 0) → eqB (prgV v n (digV (v 0) num n)) (g' (m + 1)) → TF m (mci (mC (wL M g0 l) (m + 1) 0 (m + 4) 0 368)) g' → sk01 g' m → WP G d mX8_proof 115 [some (dR m), some (dI due'), some (dI (al * v 0)), some (dI n), some (dI num), none] [] (wL M g' l) Q := by
                    intro due' g' c1 c2 c3 c4
                    first | refine x_iincN (L' := [some _, some _, some _, some _, some _, none]) dX8_proof_115 rfl (by decide) (by unfold i32; omega) rfl ?_ | refine x_iinc (L' := [some _, some _, some _, some _, some _, none]) dX8_proof_115 rfl (by decide) rfl ?_
                    refine x_goto (tgt := 48) dX8_proof_118 (by decide) ?_
                    exact ih2 _ (by omega) (num + 1) due' _ g' rfl (by omega) (by omega) rfl (nearV.prg c2) c1 c3 c4
                  have figs : ∀ (g' : Ci), ¬ leakV (prgV v n (digV (v 0) num n)) = -1 → eqB (prgV v n (digV (v 0) num n)) (g' (m + 1)) → TF m (mci (mC (wL M g0 l) (m + 1) 0 (m + 4) 0 368)) g' → sk01 g' m → WP G d mX8_proof 77 [some (dR m), some (dI 0), some (dI (al * v 0)), some (dI n), some (dI num), some (dI 0)] [] (wL M g' l) Q := by
                    intro g' c1 c2 c3 c4
                    rw [if_neg c1] at hP2
                    have fl : ∀ (t3 : Nat) (k x : Int), (n - k).toNat = t3 → (0 ≤ k) → (k ≤ n) → (x = figR (digV (v 0) num n) k.toNat) → WP G d mX8_proof 77 [some (dR m), some (dI x), some (dI (al * v 0)), some (dI n), some (dI num), some (dI k)] [] (wL M g' l) Q := by
                      intro t3
                      induction t3 using Nat.strongRecOn with
                      | _ t3 ih3 =>
                        intro k x ht3 k0 k1 hx
                        have hfr := figR_r hdig k.toNat
                        rw [← hx] at hfr
                        by_cases hk : k < n
                        · have hc : g' (m + 1) (12 + k) = digV (v 0) num n k := by
                            rw [c2 (12 + k) (by omega)]
                            unfold prgV
                            rw [if_neg (by omega), if_pos (by omega), show 12 + k - 12 = k by omega]
                          have hd := hdig k
                          have es : figR (digV (v 0) num n) (k + 1).toNat = 10 * x + digV (v 0) num n k + 1 := by
                            rw [show (k + 1).toNat = k.toNat + 1 by omega, hx]
                            show 10 * figR (digV (v 0) num n) k.toNat + digV (v 0) num n ((k.toNat : Nat) : Int) + 1 = _
                            rw [show ((k.toNat : Nat) : Int) = k by omega]
                          refine x_iload dX8_proof_77 rfl ?_
                          refine x_iload_n dX8_proof_79 rfl rfl ?_
                          refine x_icmp_ge (tgt := 107) dX8_proof_80 (by decide) (fun h80 => ?_) (fun h80 => ?_)
                          · omega
                          · refine x_bipush dX8_proof_83 rfl ?_
                            refine x_iload_n dX8_proof_85 rfl rfl ?_
                            first | refine x_imulN dX8_proof_86 (by unfold i32; omega) ?_ | refine x_imul dX8_proof_86 ?_
                            refine x_aload_n dX8_proof_87 rfl rfl ?_
                            refine g_getR (kI := 1) rfl dX8_proof_88 fX8_13_8 (by first | assumption | exact hT.2.1) (by first | assumption | exact hT.2.1) ?_
                            refine x_bipush dX8_proof_91 rfl ?_
                            refine x_iload dX8_proof_93 rfl ?_
                            first | refine x_iaddN dX8_proof_95 (by unfold i32; omega) ?_ | refine x_iadd dX8_proof_95 ?_
                            refine x_iald dX8_proof_96 (by first | assumption | exact hT.2.1) (by omega) (by omega) ?_
                            try simp (disch := omega) only [rdI_e, rdI_n, rdC_i, rdC_o, rdW, rdR, rdU_e, rdU_n, rdLW, Int.add_zero, hc]
                            first | refine x_iaddN dX8_proof_97 (by unfold i32; omega) ?_ | refine x_iadd dX8_proof_97 ?_
                            refine x_iconst dX8_proof_98 rfl ?_
                            first | refine x_iaddN dX8_proof_99 (by unfold i32; omega) ?_ | refine x_iadd dX8_proof_99 ?_
                            refine x_istore_n (L' := [some _, some _, some _, some _, some _, some _]) dX8_proof_100 rfl (by decide) rfl ?_
                            first | refine x_iincN (L' := [some _, some _, some _, some _, some _, some _]) dX8_proof_101 rfl (by decide) (by unfold i32; omega) rfl ?_ | refine x_iinc (L' := [some _, some _, some _, some _, some _, some _]) dX8_proof_101 rfl (by decide) rfl ?_
                            refine x_goto (tgt := 77) dX8_proof_104 (by decide) ?_
                            exact ih3 _ (by omega) (k + 1) _ rfl (by omega) (by omega) es.symm
                        · refine x_iload dX8_proof_77 rfl ?_
                          refine x_iload_n dX8_proof_79 rfl rfl ?_
                          refine x_icmp_ge (tgt := 107) dX8_proof_80 (by decide) (fun h80 => ?_) (fun h80 => ?_)
                          · refine x_iload_n dX8_proof_107 rfl rfl ?_
                            refine x_sipush dX8_proof_108 rfl ?_
                            refine x_iload_n dX8_proof_111 rfl rfl ?_
                            first | refine x_imulN dX8_proof_112 (by unfold i32; omega) ?_ | refine x_imul dX8_proof_112 ?_
                            first | refine x_iaddN dX8_proof_113 (by unfold i32; omega) ?_ | refine x_iadd dX8_proof_113 ?_
                            refine x_istore_n (L' := [some _, some _, some _, some _, some _, some _]) dX8_proof_114 rfl (by decide) rfl ?_
                            refine x_fgt (by repeat (first | exact trivial | refine ⟨rfl, ?_⟩)) (c115 _ g' (Or.inr ⟨?_, ?_⟩) c2 c3 c4)
                            · omega
                            · rw [hP2, hx, show k.toNat = n.toNat by omega]
                              omega
                          · omega
                    exact fl _ 0 0 rfl (by omega) (by omega) rfl
                  refine x_iload dX8_proof_48 rfl ?_
                  refine x_iload_n dX8_proof_50 rfl rfl ?_
                  refine x_icmp_ge (tgt := 121) dX8_proof_51 (by decide) (fun h51 => ?_) (fun h51 => ?_)
                  · omega
                  · refine x_iload_n dX8_proof_54 rfl rfl ?_
                    refine x_iconst dX8_proof_55 rfl ?_
                    refine x_icmp_ne (tgt := 121) dX8_proof_56 (by decide) (fun h56 => ?_) (fun h56 => ?_)
                    · omega
                    · refine x_aload_n dX8_proof_59 rfl rfl ?_
                      refine x_iload_n dX8_proof_60 rfl rfl ?_
                      refine x_iload dX8_proof_61 rfl ?_
                      refine g_callI (vs := [_, _, _]) (d' := d - 1) rfl (s_X8_isProof (M := wL M g l) (by omega) hT hw hv hTg hL hs hu (by omega) (by omega) (by omega)) dX8_proof_63 kX8_476 (by omega) (by decide) rfl (Nat.le_of_ble_eq_true rfl) (rcv_o (by first | assumption | exact hT.2.1) rfl) (fun x63 M63 h63 => ?_)
                      obtain ⟨e63, g63, hM63, r63, q63, z63⟩ := h63
                      subst hM63
                      rw [e63]
                      refine x_if_ne (tgt := 72) dX8_proof_66 (by decide) (fun h66 => ?_) (fun h66 => ?_)
                      · try simp only [vP_0, vP_1, vP_n0, vP_n1, Classical.not_not] at h66
                        refine x_iconst dX8_proof_72 rfl ?_
                        refine x_istore_n (L' := [some _, some _, some _, some _, some _, none]) dX8_proof_73 rfl (by decide) rfl ?_
                        refine x_iconst dX8_proof_74 rfl ?_
                        refine x_istore (L' := [some _, some _, some _, some _, some _, some _]) dX8_proof_75 (by decide) rfl ?_
                        exact WP.mem (M1 := wL M g63 l) rfl (figs g63 h66 r63 (TF.trans hf q63) z63)
                      · try simp only [vP_0, vP_1, vP_n0, vP_n1, Classical.not_not] at h66
                        refine x_goto (tgt := 115) dX8_proof_69 (by decide) ?_
                        rw [if_pos h66] at hP2
                        exact WP.mem (M1 := wL M g63 l) rfl (c115 due g63 (Or.inl ⟨hgo2.2, hP2⟩) r63 (TF.trans hf q63) z63)
                · refine x_iload dX8_proof_48 rfl ?_
                  refine x_iload_n dX8_proof_50 rfl rfl ?_
                  refine x_icmp_ge (tgt := 121) dX8_proof_51 (by decide) (fun h51 => ?_) (fun h51 => ?_)
                  · have hd2 : due = prfR v n (v 0 ^ n.toNat).toNat 0 := by
                      rcases hd1 with q | q
                      · rw [q.1, q.2, show t2 = 0 by omega]
                        rfl
                      · exact q.2
                    exact x_fgt (by repeat (first | exact trivial | refine ⟨rfl, ?_⟩)) (c121 due u g hd2 hw hu hf hs)
                  · refine x_iload_n dX8_proof_54 rfl rfl ?_
                    refine x_iconst dX8_proof_55 rfl ?_
                    refine x_icmp_ne (tgt := 121) dX8_proof_56 (by decide) (fun h56 => ?_) (fun h56 => ?_)
                    · have hd2 : due = prfR v n (v 0 ^ n.toNat).toNat 0 := by
                        rcases hd1 with q | q
                        · rw [q.1, q.2, show t2 = 0 by omega]
                          rfl
                        · exact q.2
                      exact x_fgt (by repeat (first | exact trivial | refine ⟨rfl, ?_⟩)) (c121 due u g hd2 hw hu hf hs)
                    · omega
            refine x_iload_n dX8_proof_28 rfl rfl ?_
            refine x_iconst dX8_proof_29 rfl ?_
            refine x_icmp_gt (tgt := 127) dX8_proof_30 (by decide) (fun h30 => ?_) (fun h30 => ?_)
            · omega
            · refine x_iload_n dX8_proof_33 rfl rfl ?_
              refine x_iconst dX8_proof_34 rfl ?_
              refine x_icmp_ne (tgt := 127) dX8_proof_35 (by decide) (fun h35 => ?_) (fun h35 => ?_)
              · omega
              · refine x_iload_n dX8_proof_38 rfl rfl ?_
                refine x_aload_n dX8_proof_39 rfl rfl ?_
                refine g_callI (vs := [_]) (d' := d - 1) rfl (s_X8_ops (M := wL M g l) (by omega) hT hw) dX8_proof_40 kX8_84 (by omega) (by decide) rfl (Nat.le_of_ble_eq_true rfl) (rcv_o (by first | assumption | exact hT.2.1) rfl) (fun x40 M40 h40 => ?_)
                obtain ⟨e40, f40⟩ := h40
                have f40' := f40.symm
                subst f40'
                rw [hu 0 (by omega) (by omega) (by omega)] at e40
                subst e40
                first | refine x_imulN dX8_proof_43 (by unfold i32; omega) ?_ | refine x_imul dX8_proof_43 ?_
                refine x_istore_n (L' := [some _, some _, some _, some _, none, none]) dX8_proof_44 rfl (by decide) rfl ?_
                refine x_iconst dX8_proof_45 rfl ?_
                refine x_istore (L' := [some _, some _, some _, some _, some _, none]) dX8_proof_46 (by decide) rfl ?_
                exact x_fgt (by repeat (first | exact trivial | refine ⟨rfl, ?_⟩)) (inner _ 0 due u g rfl (by omega) (by omega) hw (hu.up (by omega)) (Or.inl ⟨hgo.2, by rw [hal2, Int.sub_zero]⟩) hf hs)
          · have hxx : due = prfS v 3 1 := by
              rcases hdue with q | q
              · rw [q.1, q.2, show t = 0 by omega]
                rfl
              · exact q.2
            refine x_iload_n dX8_proof_28 rfl rfl ?_
            refine x_iconst dX8_proof_29 rfl ?_
            refine x_icmp_gt (tgt := 127) dX8_proof_30 (by decide) (fun h30 => ?_) (fun h30 => ?_)
            · refine x_aload_n dX8_proof_127 rfl rfl ?_
              refine g_callN (vs := [_]) (d' := d - 1) rfl (s_X8_bringsBack (M := wL M g l) (by omega) hT) dX8_proof_128 kX8_470 (by omega) (by decide) rfl (Nat.le_of_ble_eq_true rfl) (rcv_o (by first | assumption | exact hT.2.1) rfl) (fun M128 h128 => ?_)
              subst h128
              refine x_iload_n dX8_proof_131 rfl rfl ?_
              refine x_ireturn rfl dX8_proof_132 ?_
              have hb := TQ.back (M := wL M g0 l) hw0 hf.th (fun k hk => by rw [hw]; exact hu k (by omega) (by omega) (by omega))
              refine hQ _ _ ⟨_, rfl, RD.mk (g := mci (mC (wI (wL M g0 l) g) (m + 4) 0 (m + 1) 0 368)) (l := l) (TQ.trans f1 hb.2) f2 (KnOk.at f3 (fun p => ?_) (fun p => rfl)) (sk01.at hs (rdC_o (by omega))), ?_⟩
              · exact (rdC_o (by omega)).trans ((hf.t10 p).trans (rdC_o (by omega)))
              · unfold proofAns
                rw [if_neg h0]
                exact hxx
            · refine x_iload_n dX8_proof_33 rfl rfl ?_
              refine x_iconst dX8_proof_34 rfl ?_
              refine x_icmp_ne (tgt := 127) dX8_proof_35 (by decide) (fun h35 => ?_) (fun h35 => ?_)
              · refine x_aload_n dX8_proof_127 rfl rfl ?_
                refine g_callN (vs := [_]) (d' := d - 1) rfl (s_X8_bringsBack (M := wL M g l) (by omega) hT) dX8_proof_128 kX8_470 (by omega) (by decide) rfl (Nat.le_of_ble_eq_true rfl) (rcv_o (by first | assumption | exact hT.2.1) rfl) (fun M128 h128 => ?_)
                subst h128
                refine x_iload_n dX8_proof_131 rfl rfl ?_
                refine x_ireturn rfl dX8_proof_132 ?_
                have hb := TQ.back (M := wL M g0 l) hw0 hf.th (fun k hk => by rw [hw]; exact hu k (by omega) (by omega) (by omega))
                refine hQ _ _ ⟨_, rfl, RD.mk (g := mci (mC (wI (wL M g0 l) g) (m + 4) 0 (m + 1) 0 368)) (l := l) (TQ.trans f1 hb.2) f2 (KnOk.at f3 (fun p => ?_) (fun p => rfl)) (sk01.at hs (rdC_o (by omega))), ?_⟩
                · exact (rdC_o (by omega)).trans ((hf.t10 p).trans (rdC_o (by omega)))
                · unfold proofAns
                  rw [if_neg h0]
                  exact hxx
              · omega
      refine WP.mem (M1 := wL M (mci (mC (wL M g0 l) (m + 1) 0 (m + 4) 0 368)) l) rfl (lp _ 1 (-1) 1 v _ rfl (by omega) (by omega) (by rw [show ((1 : Int) - 1).toNat = 0 from rfl, Int.pow_zero]) (by omega) (mciC (by omega) hw0) (fun _ _ _ _ => rfl) (Or.inl ⟨rfl, rfl⟩) TF.rfl (sk01.at f4 (rdC_o (by omega))))
    refine x_aload_n dX8_proof_0 rfl rfl ?_
    refine x_iconst dX8_proof_1 rfl ?_
    refine g_putI (kI := 0) rfl dX8_proof_2 fX8_3_8 (by first | assumption | exact hT.2.1) ?_
    obtain ⟨hT, hw, hA, hL, hK, hsk⟩ := TP.z (x := 0) hP
    refine x_aload_n dX8_proof_5 rfl rfl ?_
    refine g_callI (vs := [_]) (d' := d - 1) rfl (s_X8_ops (by omega) hT (by first | exact hw | exact mciI (by omega) hw | exact mciI (by omega) (mciI (by omega) hw) | exact mciI (by omega) (mciI (by omega) (mciI (by omega) hw)) | exact mciI (by omega) (mciI (by omega) (mciI (by omega) (mciI (by omega) hw))) | exact mciC (by omega) hw)) dX8_proof_6 kX8_84 (by omega) (by decide) rfl (Nat.le_of_ble_eq_true rfl) (rcv_o (by first | assumption | exact hT.2.1) rfl) (fun x6 M6 h6 => ?_)
    obtain ⟨e6, f6⟩ := h6
    have f6' := f6.symm
    subst f6'
    subst e6
    refine x_if_ne (tgt := 14) dX8_proof_9 (by decide) (fun h9 => ?_) (fun h9 => ?_)
    · refine x_aload_n dX8_proof_14 rfl rfl ?_
      refine g_callN (vs := [_]) (d' := d - 1) rfl (s_X8_laysTraits (by omega) hT (by first | exact hw | exact mciI (by omega) hw | exact mciI (by omega) (mciI (by omega) hw) | exact mciI (by omega) (mciI (by omega) (mciI (by omega) hw)) | exact mciI (by omega) (mciI (by omega) (mciI (by omega) (mciI (by omega) hw))) | exact mciC (by omega) hw) hv hK hsk) dX8_proof_15 kX8_423 (by omega) (by decide) rfl (Nat.le_of_ble_eq_true rfl) (rcv_o (by first | assumption | exact hT.2.1) rfl) (fun M15 h15 => ?_)
      obtain ⟨g15, l15, hM15, q15, y15, hK, hTr, hsk⟩ := h15
      subst hM15
      have hw := TG.w q15 (by first | exact hw | exact mciI (by omega) hw | exact mciI (by omega) (mciI (by omega) hw) | exact mciI (by omega) (mciI (by omega) (mciI (by omega) hw)) | exact mciI (by omega) (mciI (by omega) (mciI (by omega) (mciI (by omega) hw))) | exact mciC (by omega) hw)
      refine x_aload_n dX8_proof_18 rfl rfl ?_
      refine g_callN (vs := [_]) (d' := d - 1) rfl (s_X8_keepsAll (M := wL M g15 l15) (by omega) hT) dX8_proof_19 kX8_464 (by omega) (by decide) rfl (Nat.le_of_ble_eq_true rfl) (rcv_o (by first | assumption | exact hT.2.1) rfl) (fun M19 h19 => ?_)
      subst h19
      refine x_iconst dX8_proof_22 rfl ?_
      refine x_istore_n (L' := [some _, some _, none, none, none, none]) dX8_proof_23 rfl (by decide) rfl ?_
      refine x_iconst dX8_proof_24 rfl ?_
      refine x_istore_n (L' := [some _, some _, some _, none, none, none]) dX8_proof_25 rfl (by decide) rfl ?_
      refine x_iconst dX8_proof_26 rfl ?_
      refine x_istore_n (L' := [some _, some _, some _, some _, none, none]) dX8_proof_27 rfl (by decide) rfl ?_
      exact x_fgt (by repeat (first | exact trivial | refine ⟨rfl, ?_⟩)) (loop g15 l15 hw hTr q15.tq y15.tm hK hsk)
    · exact absurd h9 h0
end X8

