/-! GuestViewModel: reading of numbers, of lines of a bench -/
theorem decP_s {tp : Int → Int} {b : Int} {t : Nat} : decP tp b (t + 1) = 10 * decP tp b t + tp (b + t) - 48 := rfl
/-- a law under way lies behind -/
def hiW (w w' : Vw) : Prop := ∀ k, k < 0 ∨ 1217 ≤ k → w' k = w k
theorem hiW.rfl {w : Vw} : hiW w w := fun _ _ => _root_.rfl
theorem hiW.trans {a b c : Vw} (h : hiW a b) (h' : hiW b c) : hiW a c := fun k q => (h' k q).trans (h k q)
theorem hiW.us {w w' : Vw} {i x : Int} (h : hiW w w') (hi : 0 ≤ i ∧ i < 1217) : hiW w (us w' i x) := fun k q => (us_n (by omega)).trans (h k q)
/-- what a step of reading a bench leaves -/
def BOut (M : Mem) (m dp c e : Int) (w : Vw) (r : BR) (x : Int) (M1 : Mem) : Prop :=
  (∀ f, r = .inl f → x = 0 ∧ ∃ p' w', M1 = mQr M m p' f dp c w' ∧ hiW w w') ∧ ∀ y, r = .inr y → x = 1 ∧ (∃ b', M1 = mQr M m y.1 b' dp c y.2) ∧ (0 ≤ y.1 ∧ y.1 ≤ e) ∧ hiW w y.2
theorem BOut.f {M : Mem} {m dp c e f p' : Int} {w w' : Vw} {r : BR} (hr : r = .inl f) (h : hiW w w') : BOut M m dp c e w r 0 (mQr M m p' f dp c w') := by
  subst hr
  refine ⟨fun g q => ?_, fun y q => by cases q⟩
  cases q
  exact ⟨rfl, p', w', rfl, h⟩
theorem BOut.s {M : Mem} {m dp c e b' q : Int} {w w' : Vw} {r : BR} (hr : r = .inr (q, w')) (hq : 0 ≤ q ∧ q ≤ e) (h : hiW w w') : BOut M m dp c e w r 1 (mQr M m q b' dp c w') := by
  subst hr
  refine ⟨fun g q => (by cases q), fun y q => ?_⟩
  cases q
  exact ⟨rfl, ⟨b', rfl⟩, hq, h⟩
theorem kndX {tp : Int → Int} {b q : Int} : kndW tp b q = (if isW tp b q (txB 10) then 0 else (if isW tp b q (txB 11) then 1 else (if isW tp b q (txB 12) then 2 else (if isW tp b q (txB 13) then 3 else (if isW tp b q (txB 14) then 4 else (if isW tp b q (txB 15) then 5 else (if isW tp b q (txB 16) then 6 else (if isW tp b q (txB 17) then 7 else (if isW tp b q (txB 18) then 8 else (if isW tp b q (txB 19) then 9 else (if isW tp b q (txB 20) then 10 else -1))))))))))) := rfl
section X8
variable {G : GW} {d : Nat} {M : Mem} {m p b dp c e lo hi k n o a : Int} {w : Vw} {tp : Int → Int}
theorem s_X8_number (hd : 12 ≤ d) (hR : RdH M m tp e) (hp : 0 ≤ p ∧ p ≤ e) : CS G d mX8_number [dR m, dI lo, dI hi] (mQr M m p b dp c w) (postI fun x M1 => ∃ q, M1 = mQr M m q (skB tp e p) dp c w ∧ (∀ y z, numP tp e p lo hi = some (y, z) → q = y ∧ x = z) ∧ (numP tp e p lo hi = none → x = -1)) := by
  obtain ⟨hT, he, htp, he2, hX⟩ := id hR
  have hs := skB_r (tp := tp) hp.2
  have hT_ := hT; obtain ⟨p0, p1, ⟨c1, c2, c3, c4, c5, c6, c7, c8, c9, c10, c11, c12, c13, c14, c15⟩, ⟨t1, t2, t3, t4, t5, t6, t7, t8, t9, t10, t11, t12, t13, t14, t15⟩⟩ := hT_
  have hte : ∀ k, mci M (m + 6) k = tp k := fun k => congrFun htp k
  refine CS.mkQ (by decide) (Nat.le_of_ble_eq_true rfl) fun Q hQ => ?_
  have lp : ∀ (t : Nat) (q v : Int), (e - q).toNat = t → (skB tp e p ≤ q ∧ q ≤ e) → (fgB tp e q = fgB tp e (skB tp e p)) → (q - skB tp e p ≤ 3 → v = decP tp (skB tp e p) (q - skB tp e p).toNat) → (0 ≤ v ∧ v ≤ 999 ∧ (q - skB tp e p = 0 → v ≤ 0) ∧ (q - skB tp e p = 1 → v ≤ 9) ∧ (q - skB tp e p = 2 → v ≤ 99)) → WP G d mX8_number 6 [some (dR m), some (dI lo), some (dI hi), some (dI v)] [] (mQr M m q (skB tp e p) dp c w) Q := by
    intro t
    induction t using Nat.strongRecOn with
    | _ t ih =>
      intro q v ht h0 hq hv hv2
      by_cases h : chP tp e 48 57 q
      · have h1 := h.1
        have h2 := h.2
        have ec := hte q
        refine x_aload_n dX8_number_6 rfl rfl ?_
        refine x_bipush dX8_number_7 rfl ?_
        refine x_bipush dX8_number_9 rfl ?_
        refine g_callI (vs := [_, _, _]) (d' := d - 1) rfl (s_X8_isAt (by omega) hR (by omega)) dX8_number_11 kX8_102 (by omega) (by decide) rfl (Nat.le_of_ble_eq_true rfl) (rcv_o (by first | assumption | exact hT.2.1) rfl) (fun x11 M11 h11 => ?_)
        obtain ⟨e11, f11⟩ := h11
        have f11' := f11.symm
        subst f11'
        subst e11
        try simp (disch := omega) only [rdI_e, rdI_n, rdC_i, rdC_o, rdW, rdR, rdU_e, rdU_n, rdLW, Int.add_zero, mQ_p, mQ_b, mQ_d, mQ_c, mQ_w, mQ_e, mQ_t, he, htp]
        refine x_if_eq (tgt := 65) dX8_number_14 (by decide) (fun h14 => ?_) (fun h14 => ?_)
        · try simp only [vP_0, vP_1, vP_n0, vP_n1, Classical.not_not] at h14
          exact absurd h h14
        · try simp only [vP_0, vP_1, vP_n0, vP_n1, Classical.not_not] at h14
          refine x_aload_n dX8_number_17 rfl rfl ?_
          refine g_getI (kI := 10) rfl dX8_number_18 fX8_96_8 (by first | assumption | exact hT.2.1) ?_
          try simp (disch := omega) only [rdI_e, rdI_n, rdC_i, rdC_o, rdW, rdR, rdU_e, rdU_n, rdLW, Int.add_zero, mQ_p, mQ_b, mQ_d, mQ_c, mQ_w, mQ_e, mQ_t, he, htp]
          refine x_aload_n dX8_number_21 rfl rfl ?_
          refine g_getI (kI := 12) rfl dX8_number_22 fX8_106_8 (by first | assumption | exact hT.2.1) ?_
          try simp (disch := omega) only [rdI_e, rdI_n, rdC_i, rdC_o, rdW, rdR, rdU_e, rdU_n, rdLW, Int.add_zero, mQ_p, mQ_b, mQ_d, mQ_c, mQ_w, mQ_e, mQ_t, he, htp]
          first | refine x_isubN dX8_number_25 (by unfold i32; omega) ?_ | refine x_isub dX8_number_25 ?_
          refine x_iconst dX8_number_26 rfl ?_
          refine x_icmp_ge (tgt := 50) dX8_number_27 (by decide) (fun h27 => ?_) (fun h27 => ?_)
          · refine x_iload_n dX8_number_50 rfl rfl ?_
            refine x_istore_n (L' := [some _, some _, some _, some _]) dX8_number_51 rfl (by decide) rfl ?_
            refine x_aload_n dX8_number_52 rfl rfl ?_
            refine x_dup dX8_number_53 rfl ?_
            refine g_getI (kI := 10) rfl dX8_number_54 fX8_96_8 (by first | assumption | exact hT.2.1) ?_
            try simp (disch := omega) only [rdI_e, rdI_n, rdC_i, rdC_o, rdW, rdR, rdU_e, rdU_n, rdLW, Int.add_zero, mQ_p, mQ_b, mQ_d, mQ_c, mQ_w, mQ_e, mQ_t, he, htp]
            refine x_iconst dX8_number_57 rfl ?_
            first | refine x_iaddN dX8_number_58 (by unfold i32; omega) ?_ | refine x_iadd dX8_number_58 ?_
            refine g_putI (kI := 10) rfl dX8_number_59 fX8_96_8 (by first | assumption | exact hT.2.1) ?_
            try simp only [mQ_wp, mQ_wb, mQ_wd, mQ_wc, mQ_ww]
            refine x_goto (tgt := 6) dX8_number_62 (by decide) ?_
            first
            | (refine ih _ (by omega) (q + 1) _ rfl (by omega) ((spB_s h).symm.trans hq) (fun z => by omega) (by omega))
            | (refine ih _ (by omega) (q + 1) _ rfl (by omega) ((spB_s h).symm.trans hq) (fun z => ?_) (by omega)
               rw [show (q + 1 - skB tp e p).toNat = (q - skB tp e p).toNat + 1 by omega, decP_s, ← hv (by omega), show skB tp e p + (((q - skB tp e p).toNat : Nat) : Int) = q by omega])
          · refine x_bipush dX8_number_30 rfl ?_
            refine x_iload_n dX8_number_32 rfl rfl ?_
            first | refine x_imulN dX8_number_33 (by unfold i32; omega) ?_ | refine x_imul dX8_number_33 ?_
            refine x_aload_n dX8_number_34 rfl rfl ?_
            refine g_getR (kI := 8) rfl dX8_number_35 fX8_29_8 (by first | assumption | exact hT.2.1) (by first | assumption | exact hT.2.1) ?_
            refine x_aload_n dX8_number_38 rfl rfl ?_
            refine g_getI (kI := 10) rfl dX8_number_39 fX8_96_8 (by first | assumption | exact hT.2.1) ?_
            try simp (disch := omega) only [rdI_e, rdI_n, rdC_i, rdC_o, rdW, rdR, rdU_e, rdU_n, rdLW, Int.add_zero, mQ_p, mQ_b, mQ_d, mQ_c, mQ_w, mQ_e, mQ_t, he, htp]
            refine x_bald dX8_number_42 (by first | assumption | exact hT.2.1) (by omega) (by omega) ?_
            try simp (disch := omega) only [rdI_e, rdI_n, rdC_i, rdC_o, rdW, rdR, rdU_e, rdU_n, rdLW, Int.add_zero, mQ_p, mQ_b, mQ_d, mQ_c, mQ_w, mQ_e, mQ_t, he, htp]
            first | refine x_iaddN dX8_number_43 (by unfold i32; omega) ?_ | refine x_iadd dX8_number_43 ?_
            refine x_bipush dX8_number_44 rfl ?_
            first | refine x_isubN dX8_number_46 (by unfold i32; omega) ?_ | refine x_isub dX8_number_46 ?_
            refine x_goto (tgt := 51) dX8_number_47 (by decide) ?_
            refine x_istore_n (L' := [some _, some _, some _, some _]) dX8_number_51 rfl (by decide) rfl ?_
            refine x_aload_n dX8_number_52 rfl rfl ?_
            refine x_dup dX8_number_53 rfl ?_
            refine g_getI (kI := 10) rfl dX8_number_54 fX8_96_8 (by first | assumption | exact hT.2.1) ?_
            try simp (disch := omega) only [rdI_e, rdI_n, rdC_i, rdC_o, rdW, rdR, rdU_e, rdU_n, rdLW, Int.add_zero, mQ_p, mQ_b, mQ_d, mQ_c, mQ_w, mQ_e, mQ_t, he, htp]
            refine x_iconst dX8_number_57 rfl ?_
            first | refine x_iaddN dX8_number_58 (by unfold i32; omega) ?_ | refine x_iadd dX8_number_58 ?_
            refine g_putI (kI := 10) rfl dX8_number_59 fX8_96_8 (by first | assumption | exact hT.2.1) ?_
            try simp only [mQ_wp, mQ_wb, mQ_wd, mQ_wc, mQ_ww]
            refine x_goto (tgt := 6) dX8_number_62 (by decide) ?_
            first
            | (refine ih _ (by omega) (q + 1) _ rfl (by omega) ((spB_s h).symm.trans hq) (fun z => by omega) (by omega))
            | (refine ih _ (by omega) (q + 1) _ rfl (by omega) ((spB_s h).symm.trans hq) (fun z => ?_) (by omega)
               rw [show (q + 1 - skB tp e p).toNat = (q - skB tp e p).toNat + 1 by omega, decP_s, ← hv (by omega), show skB tp e p + (((q - skB tp e p).toNat : Nat) : Int) = q by omega])
      · have eq : fgB tp e q = q := spB_e h
        rw [eq] at hq
        have hN : (q = skB tp e p ∨ 3 < q - skB tp e p ∨ v < lo ∨ hi < v) → numP tp e p lo hi = none := fun z => by
          unfold numP
          rw [← hq]
          by_cases z3 : 3 < q - skB tp e p
          · rw [if_pos (Or.inr (Or.inl z3))]
          · rw [← hv (by omega), if_pos z]
        have hS : ¬ (q = skB tp e p ∨ 3 < q - skB tp e p ∨ v < lo ∨ hi < v) → numP tp e p lo hi = some (q, v) := fun z => by
          unfold numP
          rw [← hq, ← hv (by omega), if_neg z]
        refine x_aload_n dX8_number_6 rfl rfl ?_
        refine x_bipush dX8_number_7 rfl ?_
        refine x_bipush dX8_number_9 rfl ?_
        refine g_callI (vs := [_, _, _]) (d' := d - 1) rfl (s_X8_isAt (by omega) hR (by omega)) dX8_number_11 kX8_102 (by omega) (by decide) rfl (Nat.le_of_ble_eq_true rfl) (rcv_o (by first | assumption | exact hT.2.1) rfl) (fun x11 M11 h11 => ?_)
        obtain ⟨e11, f11⟩ := h11
        have f11' := f11.symm
        subst f11'
        subst e11
        try simp (disch := omega) only [rdI_e, rdI_n, rdC_i, rdC_o, rdW, rdR, rdU_e, rdU_n, rdLW, Int.add_zero, mQ_p, mQ_b, mQ_d, mQ_c, mQ_w, mQ_e, mQ_t, he, htp]
        refine x_if_eq (tgt := 65) dX8_number_14 (by decide) (fun h14 => ?_) (fun h14 => ?_)
        · try simp only [vP_0, vP_1, vP_n0, vP_n1, Classical.not_not] at h14
          refine x_aload_n dX8_number_65 rfl rfl ?_
          refine g_getI (kI := 10) rfl dX8_number_66 fX8_96_8 (by first | assumption | exact hT.2.1) ?_
          try simp (disch := omega) only [rdI_e, rdI_n, rdC_i, rdC_o, rdW, rdR, rdU_e, rdU_n, rdLW, Int.add_zero, mQ_p, mQ_b, mQ_d, mQ_c, mQ_w, mQ_e, mQ_t, he, htp]
          refine x_aload_n dX8_number_69 rfl rfl ?_
          refine g_getI (kI := 12) rfl dX8_number_70 fX8_106_8 (by first | assumption | exact hT.2.1) ?_
          try simp (disch := omega) only [rdI_e, rdI_n, rdC_i, rdC_o, rdW, rdR, rdU_e, rdU_n, rdLW, Int.add_zero, mQ_p, mQ_b, mQ_d, mQ_c, mQ_w, mQ_e, mQ_t, he, htp]
          refine x_icmp_eq (tgt := 99) dX8_number_73 (by decide) (fun h73 => ?_) (fun h73 => ?_)
          · refine x_iconst dX8_number_99 rfl ?_
            refine x_goto (tgt := 104) dX8_number_100 (by decide) ?_
            refine x_ireturn rfl dX8_number_104 ?_
            first
            | exact hQ _ _ ⟨_, rfl, q, rfl, fun y z g => (by rw [hN (by omega)] at g; cases g), fun _ => rfl⟩
            | exact hQ _ _ ⟨_, rfl, q, rfl, fun y z g => (by rw [hS (by omega)] at g; cases g; exact ⟨rfl, rfl⟩), fun g => (by rw [hS (by omega)] at g; cases g)⟩
          · refine x_aload_n dX8_number_76 rfl rfl ?_
            refine g_getI (kI := 10) rfl dX8_number_77 fX8_96_8 (by first | assumption | exact hT.2.1) ?_
            try simp (disch := omega) only [rdI_e, rdI_n, rdC_i, rdC_o, rdW, rdR, rdU_e, rdU_n, rdLW, Int.add_zero, mQ_p, mQ_b, mQ_d, mQ_c, mQ_w, mQ_e, mQ_t, he, htp]
            refine x_aload_n dX8_number_80 rfl rfl ?_
            refine g_getI (kI := 12) rfl dX8_number_81 fX8_106_8 (by first | assumption | exact hT.2.1) ?_
            try simp (disch := omega) only [rdI_e, rdI_n, rdC_i, rdC_o, rdW, rdR, rdU_e, rdU_n, rdLW, Int.add_zero, mQ_p, mQ_b, mQ_d, mQ_c, mQ_w, mQ_e, mQ_t, he, htp]
            first | refine x_isubN dX8_number_84 (by unfold i32; omega) ?_ | refine x_isub dX8_number_84 ?_
            refine x_iconst dX8_number_85 rfl ?_
            refine x_icmp_gt (tgt := 99) dX8_number_86 (by decide) (fun h86 => ?_) (fun h86 => ?_)
            · refine x_iconst dX8_number_99 rfl ?_
              refine x_goto (tgt := 104) dX8_number_100 (by decide) ?_
              refine x_ireturn rfl dX8_number_104 ?_
              first
              | exact hQ _ _ ⟨_, rfl, q, rfl, fun y z g => (by rw [hN (by omega)] at g; cases g), fun _ => rfl⟩
              | exact hQ _ _ ⟨_, rfl, q, rfl, fun y z g => (by rw [hS (by omega)] at g; cases g; exact ⟨rfl, rfl⟩), fun g => (by rw [hS (by omega)] at g; cases g)⟩
            · refine x_iload_n dX8_number_89 rfl rfl ?_
              refine x_iload_n dX8_number_90 rfl rfl ?_
              refine x_icmp_lt (tgt := 99) dX8_number_91 (by decide) (fun h91 => ?_) (fun h91 => ?_)
              · refine x_iconst dX8_number_99 rfl ?_
                refine x_goto (tgt := 104) dX8_number_100 (by decide) ?_
                refine x_ireturn rfl dX8_number_104 ?_
                first
                | exact hQ _ _ ⟨_, rfl, q, rfl, fun y z g => (by rw [hN (by omega)] at g; cases g), fun _ => rfl⟩
                | exact hQ _ _ ⟨_, rfl, q, rfl, fun y z g => (by rw [hS (by omega)] at g; cases g; exact ⟨rfl, rfl⟩), fun g => (by rw [hS (by omega)] at g; cases g)⟩
              · refine x_iload_n dX8_number_94 rfl rfl ?_
                refine x_iload_n dX8_number_95 rfl rfl ?_
                refine x_icmp_le (tgt := 103) dX8_number_96 (by decide) (fun h96 => ?_) (fun h96 => ?_)
                · refine x_iload_n dX8_number_103 rfl rfl ?_
                  refine x_ireturn rfl dX8_number_104 ?_
                  first
                  | exact hQ _ _ ⟨_, rfl, q, rfl, fun y z g => (by rw [hN (by omega)] at g; cases g), fun _ => rfl⟩
                  | exact hQ _ _ ⟨_, rfl, q, rfl, fun y z g => (by rw [hS (by omega)] at g; cases g; exact ⟨rfl, rfl⟩), fun g => (by rw [hS (by omega)] at g; cases g)⟩
                · refine x_iconst dX8_number_99 rfl ?_
                  refine x_goto (tgt := 104) dX8_number_100 (by decide) ?_
                  refine x_ireturn rfl dX8_number_104 ?_
                  first
                  | exact hQ _ _ ⟨_, rfl, q, rfl, fun y z g => (by rw [hN (by omega)] at g; cases g), fun _ => rfl⟩
                  | exact hQ _ _ ⟨_, rfl, q, rfl, fun y z g => (by rw [hS (by omega)] at g; cases g; exact ⟨rfl, rfl⟩), fun g => (by rw [hS (by omega)] at g; cases g)⟩
        · try simp only [vP_0, vP_1, vP_n0, vP_n1, Classical.not_not] at h14
          exact absurd h14 h
  refine x_aload_n dX8_number_0 rfl rfl ?_
  refine g_callN (vs := [_]) (d' := d - 1) rfl (s_X8_blanks (by omega) hR (by omega)) dX8_number_1 kX8_109 (by omega) (by decide) rfl (Nat.le_of_ble_eq_true rfl) (rcv_o (by first | assumption | exact hT.2.1) rfl) (fun M1 h1 => ?_)
  have f1 := h1.symm
  subst f1
  refine x_iconst dX8_number_4 rfl ?_
  refine x_istore_n (L' := [some _, some _, some _, some _]) dX8_number_5 rfl (by decide) rfl ?_
  exact lp _ (skB tp e p) 0 rfl (by omega) rfl (fun _ => by rw [show (skB tp e p - skB tp e p).toNat = 0 by omega]; rfl) (by omega)
theorem s_X8_readNumber (hd : 13 ≤ d) (hR : RdH M m tp e) (hp : 0 ≤ p ∧ p ≤ e) (ha : 0 ≤ a ∧ a < 1217) : CS G d mX8_readNumber [dR m, dI a, dI hi] (mQr M m p b dp c w) (postI fun x M1 => (∀ y z, numP tp e p 0 hi = some (y, z) → x = 1 ∧ M1 = mQr M m y (skB tp e p) dp c (us w a z)) ∧ (numP tp e p 0 hi = none → x = 0 ∧ ∃ q, M1 = mQr M m q (skB tp e p) dp c w)) := by
  obtain ⟨hT, he, htp, he2, hX⟩ := id hR
  have hT_ := hT; obtain ⟨p0, p1, ⟨c1, c2, c3, c4, c5, c6, c7, c8, c9, c10, c11, c12, c13, c14, c15⟩, ⟨t1, t2, t3, t4, t5, t6, t7, t8, t9, t10, t11, t12, t13, t14, t15⟩⟩ := hT_
  refine CS.mkQ (by decide) (Nat.le_of_ble_eq_true rfl) fun Q hQ => ?_
  rcases hn : numP tp e p 0 hi with _ | ⟨y, z⟩
  · refine x_aload_n dX8_readNumber_0 rfl rfl ?_
    refine x_iconst dX8_readNumber_1 rfl ?_
    refine x_iload_n dX8_readNumber_2 rfl rfl ?_
    refine g_callI (vs := [_, _, _]) (d' := d - 1) rfl (s_X8_number (by omega) hR (by omega)) dX8_readNumber_3 kX8_128 (by omega) (by decide) rfl (Nat.le_of_ble_eq_true rfl) (rcv_o (by first | assumption | exact hT.2.1) rfl) (fun x3 M3 h3 => ?_)
    obtain ⟨q, hM3, -, hn3⟩ := h3
    have ex3 := hn3 hn
    subst ex3
    subst hM3
    refine x_istore_n (L' := [some _, some _, some _, some _]) dX8_readNumber_6 rfl (by decide) rfl ?_
    refine x_aload_n dX8_readNumber_7 rfl rfl ?_
    refine g_getR (kI := 1) rfl dX8_readNumber_8 fX8_13_8 (by first | assumption | exact hT.2.1) (by first | assumption | exact hT.2.1) ?_
    refine x_iload_n dX8_readNumber_11 rfl rfl ?_
    refine x_iload_n dX8_readNumber_12 rfl rfl ?_
    refine x_if_ge (tgt := 25) dX8_readNumber_13 (by decide) (fun h13 => ?_) (fun h13 => ?_)
    · omega
    · refine x_aload_n dX8_readNumber_16 rfl rfl ?_
      refine g_getR (kI := 1) rfl dX8_readNumber_17 fX8_13_8 (by first | assumption | exact hT.2.1) (by first | assumption | exact hT.2.1) ?_
      refine x_iload_n dX8_readNumber_20 rfl rfl ?_
      refine x_iald dX8_readNumber_21 (by first | assumption | exact hT.2.1) (by omega) (by omega) ?_
      try simp (disch := omega) only [rdI_e, rdI_n, rdC_i, rdC_o, rdW, rdR, rdU_e, rdU_n, rdLW, Int.add_zero, mQ_p, mQ_b, mQ_d, mQ_c, mQ_w, mQ_e, mQ_t, he, htp]
      refine x_goto (tgt := 26) dX8_readNumber_22 (by decide) ?_
      refine x_iast (by omega) dX8_readNumber_26 (by first | assumption | exact hT.2.1) (by omega) (by omega) ?_
      try simp only [mQ_wp, mQ_wb, mQ_wd, mQ_wc, mQ_ww]
      refine x_iload_n dX8_readNumber_27 rfl rfl ?_
      refine x_if_lt (tgt := 35) dX8_readNumber_28 (by decide) (fun h28 => ?_) (fun h28 => ?_)
      · refine x_iconst dX8_readNumber_35 rfl ?_
        refine x_zreturn (by first | exact Or.inl rfl | exact Or.inr rfl | exact vB_r _ | exact vP_r _ | assumption | omega) rfl dX8_readNumber_36 ?_
        refine hQ _ _ ⟨_, rfl, fun y z g => (by rw [hn] at g; cases g), fun _ => ⟨rfl, q, ?_⟩⟩
        rw [us_id]
      · omega
  · have hr := numP_r hp.2 hn
    refine x_aload_n dX8_readNumber_0 rfl rfl ?_
    refine x_iconst dX8_readNumber_1 rfl ?_
    refine x_iload_n dX8_readNumber_2 rfl rfl ?_
    refine g_callI (vs := [_, _, _]) (d' := d - 1) rfl (s_X8_number (by omega) hR (by omega)) dX8_readNumber_3 kX8_128 (by omega) (by decide) rfl (Nat.le_of_ble_eq_true rfl) (rcv_o (by first | assumption | exact hT.2.1) rfl) (fun x3 M3 h3 => ?_)
    obtain ⟨q, hM3, hn3, -⟩ := h3
    obtain ⟨eq3, ex3⟩ := hn3 _ _ hn
    subst ex3
    subst eq3
    subst hM3
    refine x_istore_n (L' := [some _, some _, some _, some _]) dX8_readNumber_6 rfl (by decide) rfl ?_
    refine x_aload_n dX8_readNumber_7 rfl rfl ?_
    refine g_getR (kI := 1) rfl dX8_readNumber_8 fX8_13_8 (by first | assumption | exact hT.2.1) (by first | assumption | exact hT.2.1) ?_
    refine x_iload_n dX8_readNumber_11 rfl rfl ?_
    refine x_iload_n dX8_readNumber_12 rfl rfl ?_
    refine x_if_ge (tgt := 25) dX8_readNumber_13 (by decide) (fun h13 => ?_) (fun h13 => ?_)
    · refine x_iload_n dX8_readNumber_25 rfl rfl ?_
      refine x_iast (by omega) dX8_readNumber_26 (by first | assumption | exact hT.2.1) (by omega) (by omega) ?_
      try simp only [mQ_wp, mQ_wb, mQ_wd, mQ_wc, mQ_ww]
      refine x_iload_n dX8_readNumber_27 rfl rfl ?_
      refine x_if_lt (tgt := 35) dX8_readNumber_28 (by decide) (fun h28 => ?_) (fun h28 => ?_)
      · omega
      · refine x_iconst dX8_readNumber_31 rfl ?_
        refine x_goto (tgt := 36) dX8_readNumber_32 (by decide) ?_
        refine x_zreturn (by first | exact Or.inl rfl | exact Or.inr rfl | exact vB_r _ | exact vP_r _ | assumption | omega) rfl dX8_readNumber_36 ?_
        exact hQ _ _ ⟨_, rfl, fun y z g => (by rw [hn] at g; cases g; exact ⟨rfl, rfl⟩), fun g => by rw [hn] at g; cases g⟩
    · omega
theorem s_X8_kindRead (hd : 19 ≤ d) (hR : RdH M m tp e) (hp : 0 ≤ b ∧ b ≤ p ∧ p ≤ e) : CS G d mX8_kindRead [dR m] (mQr M m p b dp c w) (pur (mQr M m p b dp c w) (kndW tp b p)) := by
  obtain ⟨hT, he, htp, he2, hX⟩ := id hR
  refine CS.mkQ (by decide) (Nat.le_of_ble_eq_true rfl) fun Q hQ => ?_
  refine x_aload_n dX8_kindRead_0 rfl rfl ?_
  refine x_ldcs dX8_kindRead_1 (List.mem_of_getElem? (i := 36) rfl) ?_
  refine g_callI (vs := [_, _]) (d' := d - 1) rfl (s_X8_isWord (i := 10) (by omega) hR (by omega) (by omega) rfl) dX8_kindRead_3 kX8_124 (by omega) (by decide) rfl (Nat.le_of_ble_eq_true rfl) (rcv_o (by first | assumption | exact hT.2.1) rfl) (fun x3 M3 h3 => ?_)
  obtain ⟨e3, f3⟩ := h3
  have f3' := f3.symm
  subst f3'
  subst e3
  try simp (disch := omega) only [rdI_e, rdI_n, rdC_i, rdC_o, rdW, rdR, rdU_e, rdU_n, rdLW, Int.add_zero, mQ_p, mQ_b, mQ_d, mQ_c, mQ_w, mQ_e, mQ_t, he, htp]
  refine x_if_eq (tgt := 11) dX8_kindRead_6 (by decide) (fun h6 => ?_) (fun h6 => ?_)
  · try simp only [vP_0, vP_1, vP_n0, vP_n1, Classical.not_not] at h6
    refine x_aload_n dX8_kindRead_11 rfl rfl ?_
    refine x_ldcs dX8_kindRead_12 (List.mem_of_getElem? (i := 37) rfl) ?_
    refine g_callI (vs := [_, _]) (d' := d - 1) rfl (s_X8_isWord (i := 11) (by omega) hR (by omega) (by omega) rfl) dX8_kindRead_14 kX8_124 (by omega) (by decide) rfl (Nat.le_of_ble_eq_true rfl) (rcv_o (by first | assumption | exact hT.2.1) rfl) (fun x14 M14 h14 => ?_)
    obtain ⟨e14, f14⟩ := h14
    have f14' := f14.symm
    subst f14'
    subst e14
    try simp (disch := omega) only [rdI_e, rdI_n, rdC_i, rdC_o, rdW, rdR, rdU_e, rdU_n, rdLW, Int.add_zero, mQ_p, mQ_b, mQ_d, mQ_c, mQ_w, mQ_e, mQ_t, he, htp]
    refine x_if_eq (tgt := 22) dX8_kindRead_17 (by decide) (fun h17 => ?_) (fun h17 => ?_)
    · try simp only [vP_0, vP_1, vP_n0, vP_n1, Classical.not_not] at h17
      refine x_aload_n dX8_kindRead_22 rfl rfl ?_
      refine x_ldcs dX8_kindRead_23 (List.mem_of_getElem? (i := 38) rfl) ?_
      refine g_callI (vs := [_, _]) (d' := d - 1) rfl (s_X8_isWord (i := 12) (by omega) hR (by omega) (by omega) rfl) dX8_kindRead_25 kX8_124 (by omega) (by decide) rfl (Nat.le_of_ble_eq_true rfl) (rcv_o (by first | assumption | exact hT.2.1) rfl) (fun x25 M25 h25 => ?_)
      obtain ⟨e25, f25⟩ := h25
      have f25' := f25.symm
      subst f25'
      subst e25
      try simp (disch := omega) only [rdI_e, rdI_n, rdC_i, rdC_o, rdW, rdR, rdU_e, rdU_n, rdLW, Int.add_zero, mQ_p, mQ_b, mQ_d, mQ_c, mQ_w, mQ_e, mQ_t, he, htp]
      refine x_if_eq (tgt := 33) dX8_kindRead_28 (by decide) (fun h28 => ?_) (fun h28 => ?_)
      · try simp only [vP_0, vP_1, vP_n0, vP_n1, Classical.not_not] at h28
        refine x_aload_n dX8_kindRead_33 rfl rfl ?_
        refine x_ldcs dX8_kindRead_34 (List.mem_of_getElem? (i := 39) rfl) ?_
        refine g_callI (vs := [_, _]) (d' := d - 1) rfl (s_X8_isWord (i := 13) (by omega) hR (by omega) (by omega) rfl) dX8_kindRead_36 kX8_124 (by omega) (by decide) rfl (Nat.le_of_ble_eq_true rfl) (rcv_o (by first | assumption | exact hT.2.1) rfl) (fun x36 M36 h36 => ?_)
        obtain ⟨e36, f36⟩ := h36
        have f36' := f36.symm
        subst f36'
        subst e36
        try simp (disch := omega) only [rdI_e, rdI_n, rdC_i, rdC_o, rdW, rdR, rdU_e, rdU_n, rdLW, Int.add_zero, mQ_p, mQ_b, mQ_d, mQ_c, mQ_w, mQ_e, mQ_t, he, htp]
        refine x_if_eq (tgt := 44) dX8_kindRead_39 (by decide) (fun h39 => ?_) (fun h39 => ?_)
        · try simp only [vP_0, vP_1, vP_n0, vP_n1, Classical.not_not] at h39
          refine x_aload_n dX8_kindRead_44 rfl rfl ?_
          refine x_ldcs dX8_kindRead_45 (List.mem_of_getElem? (i := 40) rfl) ?_
          refine g_callI (vs := [_, _]) (d' := d - 1) rfl (s_X8_isWord (i := 14) (by omega) hR (by omega) (by omega) rfl) dX8_kindRead_47 kX8_124 (by omega) (by decide) rfl (Nat.le_of_ble_eq_true rfl) (rcv_o (by first | assumption | exact hT.2.1) rfl) (fun x47 M47 h47 => ?_)
          obtain ⟨e47, f47⟩ := h47
          have f47' := f47.symm
          subst f47'
          subst e47
          try simp (disch := omega) only [rdI_e, rdI_n, rdC_i, rdC_o, rdW, rdR, rdU_e, rdU_n, rdLW, Int.add_zero, mQ_p, mQ_b, mQ_d, mQ_c, mQ_w, mQ_e, mQ_t, he, htp]
          refine x_if_eq (tgt := 55) dX8_kindRead_50 (by decide) (fun h50 => ?_) (fun h50 => ?_)
          · try simp only [vP_0, vP_1, vP_n0, vP_n1, Classical.not_not] at h50
            refine x_aload_n dX8_kindRead_55 rfl rfl ?_
            refine x_ldcs dX8_kindRead_56 (List.mem_of_getElem? (i := 41) rfl) ?_
            refine g_callI (vs := [_, _]) (d' := d - 1) rfl (s_X8_isWord (i := 15) (by omega) hR (by omega) (by omega) rfl) dX8_kindRead_58 kX8_124 (by omega) (by decide) rfl (Nat.le_of_ble_eq_true rfl) (rcv_o (by first | assumption | exact hT.2.1) rfl) (fun x58 M58 h58 => ?_)
            obtain ⟨e58, f58⟩ := h58
            have f58' := f58.symm
            subst f58'
            subst e58
            try simp (disch := omega) only [rdI_e, rdI_n, rdC_i, rdC_o, rdW, rdR, rdU_e, rdU_n, rdLW, Int.add_zero, mQ_p, mQ_b, mQ_d, mQ_c, mQ_w, mQ_e, mQ_t, he, htp]
            refine x_if_eq (tgt := 66) dX8_kindRead_61 (by decide) (fun h61 => ?_) (fun h61 => ?_)
            · try simp only [vP_0, vP_1, vP_n0, vP_n1, Classical.not_not] at h61
              refine x_aload_n dX8_kindRead_66 rfl rfl ?_
              refine x_ldcs dX8_kindRead_67 (List.mem_of_getElem? (i := 42) rfl) ?_
              refine g_callI (vs := [_, _]) (d' := d - 1) rfl (s_X8_isWord (i := 16) (by omega) hR (by omega) (by omega) rfl) dX8_kindRead_69 kX8_124 (by omega) (by decide) rfl (Nat.le_of_ble_eq_true rfl) (rcv_o (by first | assumption | exact hT.2.1) rfl) (fun x69 M69 h69 => ?_)
              obtain ⟨e69, f69⟩ := h69
              have f69' := f69.symm
              subst f69'
              subst e69
              try simp (disch := omega) only [rdI_e, rdI_n, rdC_i, rdC_o, rdW, rdR, rdU_e, rdU_n, rdLW, Int.add_zero, mQ_p, mQ_b, mQ_d, mQ_c, mQ_w, mQ_e, mQ_t, he, htp]
              refine x_if_eq (tgt := 78) dX8_kindRead_72 (by decide) (fun h72 => ?_) (fun h72 => ?_)
              · try simp only [vP_0, vP_1, vP_n0, vP_n1, Classical.not_not] at h72
                refine x_aload_n dX8_kindRead_78 rfl rfl ?_
                refine x_ldcs dX8_kindRead_79 (List.mem_of_getElem? (i := 43) rfl) ?_
                refine g_callI (vs := [_, _]) (d' := d - 1) rfl (s_X8_isWord (i := 17) (by omega) hR (by omega) (by omega) rfl) dX8_kindRead_81 kX8_124 (by omega) (by decide) rfl (Nat.le_of_ble_eq_true rfl) (rcv_o (by first | assumption | exact hT.2.1) rfl) (fun x81 M81 h81 => ?_)
                obtain ⟨e81, f81⟩ := h81
                have f81' := f81.symm
                subst f81'
                subst e81
                try simp (disch := omega) only [rdI_e, rdI_n, rdC_i, rdC_o, rdW, rdR, rdU_e, rdU_n, rdLW, Int.add_zero, mQ_p, mQ_b, mQ_d, mQ_c, mQ_w, mQ_e, mQ_t, he, htp]
                refine x_if_eq (tgt := 90) dX8_kindRead_84 (by decide) (fun h84 => ?_) (fun h84 => ?_)
                · try simp only [vP_0, vP_1, vP_n0, vP_n1, Classical.not_not] at h84
                  refine x_aload_n dX8_kindRead_90 rfl rfl ?_
                  refine x_ldcs dX8_kindRead_91 (List.mem_of_getElem? (i := 44) rfl) ?_
                  refine g_callI (vs := [_, _]) (d' := d - 1) rfl (s_X8_isWord (i := 18) (by omega) hR (by omega) (by omega) rfl) dX8_kindRead_93 kX8_124 (by omega) (by decide) rfl (Nat.le_of_ble_eq_true rfl) (rcv_o (by first | assumption | exact hT.2.1) rfl) (fun x93 M93 h93 => ?_)
                  obtain ⟨e93, f93⟩ := h93
                  have f93' := f93.symm
                  subst f93'
                  subst e93
                  try simp (disch := omega) only [rdI_e, rdI_n, rdC_i, rdC_o, rdW, rdR, rdU_e, rdU_n, rdLW, Int.add_zero, mQ_p, mQ_b, mQ_d, mQ_c, mQ_w, mQ_e, mQ_t, he, htp]
                  refine x_if_eq (tgt := 102) dX8_kindRead_96 (by decide) (fun h96 => ?_) (fun h96 => ?_)
                  · try simp only [vP_0, vP_1, vP_n0, vP_n1, Classical.not_not] at h96
                    refine x_aload_n dX8_kindRead_102 rfl rfl ?_
                    refine x_ldcs dX8_kindRead_103 (List.mem_of_getElem? (i := 45) rfl) ?_
                    refine g_callI (vs := [_, _]) (d' := d - 1) rfl (s_X8_isWord (i := 19) (by omega) hR (by omega) (by omega) rfl) dX8_kindRead_105 kX8_124 (by omega) (by decide) rfl (Nat.le_of_ble_eq_true rfl) (rcv_o (by first | assumption | exact hT.2.1) rfl) (fun x105 M105 h105 => ?_)
                    obtain ⟨e105, f105⟩ := h105
                    have f105' := f105.symm
                    subst f105'
                    subst e105
                    try simp (disch := omega) only [rdI_e, rdI_n, rdC_i, rdC_o, rdW, rdR, rdU_e, rdU_n, rdLW, Int.add_zero, mQ_p, mQ_b, mQ_d, mQ_c, mQ_w, mQ_e, mQ_t, he, htp]
                    refine x_if_eq (tgt := 114) dX8_kindRead_108 (by decide) (fun h108 => ?_) (fun h108 => ?_)
                    · try simp only [vP_0, vP_1, vP_n0, vP_n1, Classical.not_not] at h108
                      refine x_aload_n dX8_kindRead_114 rfl rfl ?_
                      refine x_ldcs dX8_kindRead_115 (List.mem_of_getElem? (i := 46) rfl) ?_
                      refine g_callI (vs := [_, _]) (d' := d - 1) rfl (s_X8_isWord (i := 20) (by omega) hR (by omega) (by omega) rfl) dX8_kindRead_117 kX8_124 (by omega) (by decide) rfl (Nat.le_of_ble_eq_true rfl) (rcv_o (by first | assumption | exact hT.2.1) rfl) (fun x117 M117 h117 => ?_)
                      obtain ⟨e117, f117⟩ := h117
                      have f117' := f117.symm
                      subst f117'
                      subst e117
                      try simp (disch := omega) only [rdI_e, rdI_n, rdC_i, rdC_o, rdW, rdR, rdU_e, rdU_n, rdLW, Int.add_zero, mQ_p, mQ_b, mQ_d, mQ_c, mQ_w, mQ_e, mQ_t, he, htp]
                      refine x_if_eq (tgt := 128) dX8_kindRead_120 (by decide) (fun h120 => ?_) (fun h120 => ?_)
                      · try simp only [vP_0, vP_1, vP_n0, vP_n1, Classical.not_not] at h120
                        refine x_iconst dX8_kindRead_128 rfl ?_
                        refine x_ireturn rfl dX8_kindRead_129 ?_
                        refine hQ _ _ ⟨_, rfl, ?_, rfl⟩
                        first
                        | (rw [kndX, if_pos h6])
                        | (rw [kndX, if_neg h6, if_pos h17])
                        | (rw [kndX, if_neg h6, if_neg h17, if_pos h28])
                        | (rw [kndX, if_neg h6, if_neg h17, if_neg h28, if_pos h39])
                        | (rw [kndX, if_neg h6, if_neg h17, if_neg h28, if_neg h39, if_pos h50])
                        | (rw [kndX, if_neg h6, if_neg h17, if_neg h28, if_neg h39, if_neg h50, if_pos h61])
                        | (rw [kndX, if_neg h6, if_neg h17, if_neg h28, if_neg h39, if_neg h50, if_neg h61, if_pos h72])
                        | (rw [kndX, if_neg h6, if_neg h17, if_neg h28, if_neg h39, if_neg h50, if_neg h61, if_neg h72, if_pos h84])
                        | (rw [kndX, if_neg h6, if_neg h17, if_neg h28, if_neg h39, if_neg h50, if_neg h61, if_neg h72, if_neg h84, if_pos h96])
                        | (rw [kndX, if_neg h6, if_neg h17, if_neg h28, if_neg h39, if_neg h50, if_neg h61, if_neg h72, if_neg h84, if_neg h96, if_pos h108])
                        | (rw [kndX, if_neg h6, if_neg h17, if_neg h28, if_neg h39, if_neg h50, if_neg h61, if_neg h72, if_neg h84, if_neg h96, if_neg h108, if_pos h120])
                        | (rw [kndX, if_neg h6, if_neg h17, if_neg h28, if_neg h39, if_neg h50, if_neg h61, if_neg h72, if_neg h84, if_neg h96, if_neg h108, if_neg h120])
                      · try simp only [vP_0, vP_1, vP_n0, vP_n1, Classical.not_not] at h120
                        refine x_bipush dX8_kindRead_123 rfl ?_
                        refine x_goto (tgt := 129) dX8_kindRead_125 (by decide) ?_
                        refine x_ireturn rfl dX8_kindRead_129 ?_
                        refine hQ _ _ ⟨_, rfl, ?_, rfl⟩
                        first
                        | (rw [kndX, if_pos h6])
                        | (rw [kndX, if_neg h6, if_pos h17])
                        | (rw [kndX, if_neg h6, if_neg h17, if_pos h28])
                        | (rw [kndX, if_neg h6, if_neg h17, if_neg h28, if_pos h39])
                        | (rw [kndX, if_neg h6, if_neg h17, if_neg h28, if_neg h39, if_pos h50])
                        | (rw [kndX, if_neg h6, if_neg h17, if_neg h28, if_neg h39, if_neg h50, if_pos h61])
                        | (rw [kndX, if_neg h6, if_neg h17, if_neg h28, if_neg h39, if_neg h50, if_neg h61, if_pos h72])
                        | (rw [kndX, if_neg h6, if_neg h17, if_neg h28, if_neg h39, if_neg h50, if_neg h61, if_neg h72, if_pos h84])
                        | (rw [kndX, if_neg h6, if_neg h17, if_neg h28, if_neg h39, if_neg h50, if_neg h61, if_neg h72, if_neg h84, if_pos h96])
                        | (rw [kndX, if_neg h6, if_neg h17, if_neg h28, if_neg h39, if_neg h50, if_neg h61, if_neg h72, if_neg h84, if_neg h96, if_pos h108])
                        | (rw [kndX, if_neg h6, if_neg h17, if_neg h28, if_neg h39, if_neg h50, if_neg h61, if_neg h72, if_neg h84, if_neg h96, if_neg h108, if_pos h120])
                        | (rw [kndX, if_neg h6, if_neg h17, if_neg h28, if_neg h39, if_neg h50, if_neg h61, if_neg h72, if_neg h84, if_neg h96, if_neg h108, if_neg h120])
                    · try simp only [vP_0, vP_1, vP_n0, vP_n1, Classical.not_not] at h108
                      refine x_bipush dX8_kindRead_111 rfl ?_
                      refine x_ireturn rfl dX8_kindRead_113 ?_
                      refine hQ _ _ ⟨_, rfl, ?_, rfl⟩
                      first
                      | (rw [kndX, if_pos h6])
                      | (rw [kndX, if_neg h6, if_pos h17])
                      | (rw [kndX, if_neg h6, if_neg h17, if_pos h28])
                      | (rw [kndX, if_neg h6, if_neg h17, if_neg h28, if_pos h39])
                      | (rw [kndX, if_neg h6, if_neg h17, if_neg h28, if_neg h39, if_pos h50])
                      | (rw [kndX, if_neg h6, if_neg h17, if_neg h28, if_neg h39, if_neg h50, if_pos h61])
                      | (rw [kndX, if_neg h6, if_neg h17, if_neg h28, if_neg h39, if_neg h50, if_neg h61, if_pos h72])
                      | (rw [kndX, if_neg h6, if_neg h17, if_neg h28, if_neg h39, if_neg h50, if_neg h61, if_neg h72, if_pos h84])
                      | (rw [kndX, if_neg h6, if_neg h17, if_neg h28, if_neg h39, if_neg h50, if_neg h61, if_neg h72, if_neg h84, if_pos h96])
                      | (rw [kndX, if_neg h6, if_neg h17, if_neg h28, if_neg h39, if_neg h50, if_neg h61, if_neg h72, if_neg h84, if_neg h96, if_pos h108])
                      | (rw [kndX, if_neg h6, if_neg h17, if_neg h28, if_neg h39, if_neg h50, if_neg h61, if_neg h72, if_neg h84, if_neg h96, if_neg h108, if_pos h120])
                      | (rw [kndX, if_neg h6, if_neg h17, if_neg h28, if_neg h39, if_neg h50, if_neg h61, if_neg h72, if_neg h84, if_neg h96, if_neg h108, if_neg h120])
                  · try simp only [vP_0, vP_1, vP_n0, vP_n1, Classical.not_not] at h96
                    refine x_bipush dX8_kindRead_99 rfl ?_
                    refine x_ireturn rfl dX8_kindRead_101 ?_
                    refine hQ _ _ ⟨_, rfl, ?_, rfl⟩
                    first
                    | (rw [kndX, if_pos h6])
                    | (rw [kndX, if_neg h6, if_pos h17])
                    | (rw [kndX, if_neg h6, if_neg h17, if_pos h28])
                    | (rw [kndX, if_neg h6, if_neg h17, if_neg h28, if_pos h39])
                    | (rw [kndX, if_neg h6, if_neg h17, if_neg h28, if_neg h39, if_pos h50])
                    | (rw [kndX, if_neg h6, if_neg h17, if_neg h28, if_neg h39, if_neg h50, if_pos h61])
                    | (rw [kndX, if_neg h6, if_neg h17, if_neg h28, if_neg h39, if_neg h50, if_neg h61, if_pos h72])
                    | (rw [kndX, if_neg h6, if_neg h17, if_neg h28, if_neg h39, if_neg h50, if_neg h61, if_neg h72, if_pos h84])
                    | (rw [kndX, if_neg h6, if_neg h17, if_neg h28, if_neg h39, if_neg h50, if_neg h61, if_neg h72, if_neg h84, if_pos h96])
                    | (rw [kndX, if_neg h6, if_neg h17, if_neg h28, if_neg h39, if_neg h50, if_neg h61, if_neg h72, if_neg h84, if_neg h96, if_pos h108])
                    | (rw [kndX, if_neg h6, if_neg h17, if_neg h28, if_neg h39, if_neg h50, if_neg h61, if_neg h72, if_neg h84, if_neg h96, if_neg h108, if_pos h120])
                    | (rw [kndX, if_neg h6, if_neg h17, if_neg h28, if_neg h39, if_neg h50, if_neg h61, if_neg h72, if_neg h84, if_neg h96, if_neg h108, if_neg h120])
                · try simp only [vP_0, vP_1, vP_n0, vP_n1, Classical.not_not] at h84
                  refine x_bipush dX8_kindRead_87 rfl ?_
                  refine x_ireturn rfl dX8_kindRead_89 ?_
                  refine hQ _ _ ⟨_, rfl, ?_, rfl⟩
                  first
                  | (rw [kndX, if_pos h6])
                  | (rw [kndX, if_neg h6, if_pos h17])
                  | (rw [kndX, if_neg h6, if_neg h17, if_pos h28])
                  | (rw [kndX, if_neg h6, if_neg h17, if_neg h28, if_pos h39])
                  | (rw [kndX, if_neg h6, if_neg h17, if_neg h28, if_neg h39, if_pos h50])
                  | (rw [kndX, if_neg h6, if_neg h17, if_neg h28, if_neg h39, if_neg h50, if_pos h61])
                  | (rw [kndX, if_neg h6, if_neg h17, if_neg h28, if_neg h39, if_neg h50, if_neg h61, if_pos h72])
                  | (rw [kndX, if_neg h6, if_neg h17, if_neg h28, if_neg h39, if_neg h50, if_neg h61, if_neg h72, if_pos h84])
                  | (rw [kndX, if_neg h6, if_neg h17, if_neg h28, if_neg h39, if_neg h50, if_neg h61, if_neg h72, if_neg h84, if_pos h96])
                  | (rw [kndX, if_neg h6, if_neg h17, if_neg h28, if_neg h39, if_neg h50, if_neg h61, if_neg h72, if_neg h84, if_neg h96, if_pos h108])
                  | (rw [kndX, if_neg h6, if_neg h17, if_neg h28, if_neg h39, if_neg h50, if_neg h61, if_neg h72, if_neg h84, if_neg h96, if_neg h108, if_pos h120])
                  | (rw [kndX, if_neg h6, if_neg h17, if_neg h28, if_neg h39, if_neg h50, if_neg h61, if_neg h72, if_neg h84, if_neg h96, if_neg h108, if_neg h120])
              · try simp only [vP_0, vP_1, vP_n0, vP_n1, Classical.not_not] at h72
                refine x_bipush dX8_kindRead_75 rfl ?_
                refine x_ireturn rfl dX8_kindRead_77 ?_
                refine hQ _ _ ⟨_, rfl, ?_, rfl⟩
                first
                | (rw [kndX, if_pos h6])
                | (rw [kndX, if_neg h6, if_pos h17])
                | (rw [kndX, if_neg h6, if_neg h17, if_pos h28])
                | (rw [kndX, if_neg h6, if_neg h17, if_neg h28, if_pos h39])
                | (rw [kndX, if_neg h6, if_neg h17, if_neg h28, if_neg h39, if_pos h50])
                | (rw [kndX, if_neg h6, if_neg h17, if_neg h28, if_neg h39, if_neg h50, if_pos h61])
                | (rw [kndX, if_neg h6, if_neg h17, if_neg h28, if_neg h39, if_neg h50, if_neg h61, if_pos h72])
                | (rw [kndX, if_neg h6, if_neg h17, if_neg h28, if_neg h39, if_neg h50, if_neg h61, if_neg h72, if_pos h84])
                | (rw [kndX, if_neg h6, if_neg h17, if_neg h28, if_neg h39, if_neg h50, if_neg h61, if_neg h72, if_neg h84, if_pos h96])
                | (rw [kndX, if_neg h6, if_neg h17, if_neg h28, if_neg h39, if_neg h50, if_neg h61, if_neg h72, if_neg h84, if_neg h96, if_pos h108])
                | (rw [kndX, if_neg h6, if_neg h17, if_neg h28, if_neg h39, if_neg h50, if_neg h61, if_neg h72, if_neg h84, if_neg h96, if_neg h108, if_pos h120])
                | (rw [kndX, if_neg h6, if_neg h17, if_neg h28, if_neg h39, if_neg h50, if_neg h61, if_neg h72, if_neg h84, if_neg h96, if_neg h108, if_neg h120])
            · try simp only [vP_0, vP_1, vP_n0, vP_n1, Classical.not_not] at h61
              refine x_iconst dX8_kindRead_64 rfl ?_
              refine x_ireturn rfl dX8_kindRead_65 ?_
              refine hQ _ _ ⟨_, rfl, ?_, rfl⟩
              first
              | (rw [kndX, if_pos h6])
              | (rw [kndX, if_neg h6, if_pos h17])
              | (rw [kndX, if_neg h6, if_neg h17, if_pos h28])
              | (rw [kndX, if_neg h6, if_neg h17, if_neg h28, if_pos h39])
              | (rw [kndX, if_neg h6, if_neg h17, if_neg h28, if_neg h39, if_pos h50])
              | (rw [kndX, if_neg h6, if_neg h17, if_neg h28, if_neg h39, if_neg h50, if_pos h61])
              | (rw [kndX, if_neg h6, if_neg h17, if_neg h28, if_neg h39, if_neg h50, if_neg h61, if_pos h72])
              | (rw [kndX, if_neg h6, if_neg h17, if_neg h28, if_neg h39, if_neg h50, if_neg h61, if_neg h72, if_pos h84])
              | (rw [kndX, if_neg h6, if_neg h17, if_neg h28, if_neg h39, if_neg h50, if_neg h61, if_neg h72, if_neg h84, if_pos h96])
              | (rw [kndX, if_neg h6, if_neg h17, if_neg h28, if_neg h39, if_neg h50, if_neg h61, if_neg h72, if_neg h84, if_neg h96, if_pos h108])
              | (rw [kndX, if_neg h6, if_neg h17, if_neg h28, if_neg h39, if_neg h50, if_neg h61, if_neg h72, if_neg h84, if_neg h96, if_neg h108, if_pos h120])
              | (rw [kndX, if_neg h6, if_neg h17, if_neg h28, if_neg h39, if_neg h50, if_neg h61, if_neg h72, if_neg h84, if_neg h96, if_neg h108, if_neg h120])
          · try simp only [vP_0, vP_1, vP_n0, vP_n1, Classical.not_not] at h50
            refine x_iconst dX8_kindRead_53 rfl ?_
            refine x_ireturn rfl dX8_kindRead_54 ?_
            refine hQ _ _ ⟨_, rfl, ?_, rfl⟩
            first
            | (rw [kndX, if_pos h6])
            | (rw [kndX, if_neg h6, if_pos h17])
            | (rw [kndX, if_neg h6, if_neg h17, if_pos h28])
            | (rw [kndX, if_neg h6, if_neg h17, if_neg h28, if_pos h39])
            | (rw [kndX, if_neg h6, if_neg h17, if_neg h28, if_neg h39, if_pos h50])
            | (rw [kndX, if_neg h6, if_neg h17, if_neg h28, if_neg h39, if_neg h50, if_pos h61])
            | (rw [kndX, if_neg h6, if_neg h17, if_neg h28, if_neg h39, if_neg h50, if_neg h61, if_pos h72])
            | (rw [kndX, if_neg h6, if_neg h17, if_neg h28, if_neg h39, if_neg h50, if_neg h61, if_neg h72, if_pos h84])
            | (rw [kndX, if_neg h6, if_neg h17, if_neg h28, if_neg h39, if_neg h50, if_neg h61, if_neg h72, if_neg h84, if_pos h96])
            | (rw [kndX, if_neg h6, if_neg h17, if_neg h28, if_neg h39, if_neg h50, if_neg h61, if_neg h72, if_neg h84, if_neg h96, if_pos h108])
            | (rw [kndX, if_neg h6, if_neg h17, if_neg h28, if_neg h39, if_neg h50, if_neg h61, if_neg h72, if_neg h84, if_neg h96, if_neg h108, if_pos h120])
            | (rw [kndX, if_neg h6, if_neg h17, if_neg h28, if_neg h39, if_neg h50, if_neg h61, if_neg h72, if_neg h84, if_neg h96, if_neg h108, if_neg h120])
        · try simp only [vP_0, vP_1, vP_n0, vP_n1, Classical.not_not] at h39
          refine x_iconst dX8_kindRead_42 rfl ?_
          refine x_ireturn rfl dX8_kindRead_43 ?_
          refine hQ _ _ ⟨_, rfl, ?_, rfl⟩
          first
          | (rw [kndX, if_pos h6])
          | (rw [kndX, if_neg h6, if_pos h17])
          | (rw [kndX, if_neg h6, if_neg h17, if_pos h28])
          | (rw [kndX, if_neg h6, if_neg h17, if_neg h28, if_pos h39])
          | (rw [kndX, if_neg h6, if_neg h17, if_neg h28, if_neg h39, if_pos h50])
          | (rw [kndX, if_neg h6, if_neg h17, if_neg h28, if_neg h39, if_neg h50, if_pos h61])
          | (rw [kndX, if_neg h6, if_neg h17, if_neg h28, if_neg h39, if_neg h50, if_neg h61, if_pos h72])
          | (rw [kndX, if_neg h6, if_neg h17, if_neg h28, if_neg h39, if_neg h50, if_neg h61, if_neg h72, if_pos h84])
          | (rw [kndX, if_neg h6, if_neg h17, if_neg h28, if_neg h39, if_neg h50, if_neg h61, if_neg h72, if_neg h84, if_pos h96])
          | (rw [kndX, if_neg h6, if_neg h17, if_neg h28, if_neg h39, if_neg h50, if_neg h61, if_neg h72, if_neg h84, if_neg h96, if_pos h108])
          | (rw [kndX, if_neg h6, if_neg h17, if_neg h28, if_neg h39, if_neg h50, if_neg h61, if_neg h72, if_neg h84, if_neg h96, if_neg h108, if_pos h120])
          | (rw [kndX, if_neg h6, if_neg h17, if_neg h28, if_neg h39, if_neg h50, if_neg h61, if_neg h72, if_neg h84, if_neg h96, if_neg h108, if_neg h120])
      · try simp only [vP_0, vP_1, vP_n0, vP_n1, Classical.not_not] at h28
        refine x_iconst dX8_kindRead_31 rfl ?_
        refine x_ireturn rfl dX8_kindRead_32 ?_
        refine hQ _ _ ⟨_, rfl, ?_, rfl⟩
        first
        | (rw [kndX, if_pos h6])
        | (rw [kndX, if_neg h6, if_pos h17])
        | (rw [kndX, if_neg h6, if_neg h17, if_pos h28])
        | (rw [kndX, if_neg h6, if_neg h17, if_neg h28, if_pos h39])
        | (rw [kndX, if_neg h6, if_neg h17, if_neg h28, if_neg h39, if_pos h50])
        | (rw [kndX, if_neg h6, if_neg h17, if_neg h28, if_neg h39, if_neg h50, if_pos h61])
        | (rw [kndX, if_neg h6, if_neg h17, if_neg h28, if_neg h39, if_neg h50, if_neg h61, if_pos h72])
        | (rw [kndX, if_neg h6, if_neg h17, if_neg h28, if_neg h39, if_neg h50, if_neg h61, if_neg h72, if_pos h84])
        | (rw [kndX, if_neg h6, if_neg h17, if_neg h28, if_neg h39, if_neg h50, if_neg h61, if_neg h72, if_neg h84, if_pos h96])
        | (rw [kndX, if_neg h6, if_neg h17, if_neg h28, if_neg h39, if_neg h50, if_neg h61, if_neg h72, if_neg h84, if_neg h96, if_pos h108])
        | (rw [kndX, if_neg h6, if_neg h17, if_neg h28, if_neg h39, if_neg h50, if_neg h61, if_neg h72, if_neg h84, if_neg h96, if_neg h108, if_pos h120])
        | (rw [kndX, if_neg h6, if_neg h17, if_neg h28, if_neg h39, if_neg h50, if_neg h61, if_neg h72, if_neg h84, if_neg h96, if_neg h108, if_neg h120])
    · try simp only [vP_0, vP_1, vP_n0, vP_n1, Classical.not_not] at h17
      refine x_iconst dX8_kindRead_20 rfl ?_
      refine x_ireturn rfl dX8_kindRead_21 ?_
      refine hQ _ _ ⟨_, rfl, ?_, rfl⟩
      first
      | (rw [kndX, if_pos h6])
      | (rw [kndX, if_neg h6, if_pos h17])
      | (rw [kndX, if_neg h6, if_neg h17, if_pos h28])
      | (rw [kndX, if_neg h6, if_neg h17, if_neg h28, if_pos h39])
      | (rw [kndX, if_neg h6, if_neg h17, if_neg h28, if_neg h39, if_pos h50])
      | (rw [kndX, if_neg h6, if_neg h17, if_neg h28, if_neg h39, if_neg h50, if_pos h61])
      | (rw [kndX, if_neg h6, if_neg h17, if_neg h28, if_neg h39, if_neg h50, if_neg h61, if_pos h72])
      | (rw [kndX, if_neg h6, if_neg h17, if_neg h28, if_neg h39, if_neg h50, if_neg h61, if_neg h72, if_pos h84])
      | (rw [kndX, if_neg h6, if_neg h17, if_neg h28, if_neg h39, if_neg h50, if_neg h61, if_neg h72, if_neg h84, if_pos h96])
      | (rw [kndX, if_neg h6, if_neg h17, if_neg h28, if_neg h39, if_neg h50, if_neg h61, if_neg h72, if_neg h84, if_neg h96, if_pos h108])
      | (rw [kndX, if_neg h6, if_neg h17, if_neg h28, if_neg h39, if_neg h50, if_neg h61, if_neg h72, if_neg h84, if_neg h96, if_neg h108, if_pos h120])
      | (rw [kndX, if_neg h6, if_neg h17, if_neg h28, if_neg h39, if_neg h50, if_neg h61, if_neg h72, if_neg h84, if_neg h96, if_neg h108, if_neg h120])
  · try simp only [vP_0, vP_1, vP_n0, vP_n1, Classical.not_not] at h6
    refine x_iconst dX8_kindRead_9 rfl ?_
    refine x_ireturn rfl dX8_kindRead_10 ?_
    refine hQ _ _ ⟨_, rfl, ?_, rfl⟩
    first
    | (rw [kndX, if_pos h6])
    | (rw [kndX, if_neg h6, if_pos h17])
    | (rw [kndX, if_neg h6, if_neg h17, if_pos h28])
    | (rw [kndX, if_neg h6, if_neg h17, if_neg h28, if_pos h39])
    | (rw [kndX, if_neg h6, if_neg h17, if_neg h28, if_neg h39, if_pos h50])
    | (rw [kndX, if_neg h6, if_neg h17, if_neg h28, if_neg h39, if_neg h50, if_pos h61])
    | (rw [kndX, if_neg h6, if_neg h17, if_neg h28, if_neg h39, if_neg h50, if_neg h61, if_pos h72])
    | (rw [kndX, if_neg h6, if_neg h17, if_neg h28, if_neg h39, if_neg h50, if_neg h61, if_neg h72, if_pos h84])
    | (rw [kndX, if_neg h6, if_neg h17, if_neg h28, if_neg h39, if_neg h50, if_neg h61, if_neg h72, if_neg h84, if_pos h96])
    | (rw [kndX, if_neg h6, if_neg h17, if_neg h28, if_neg h39, if_neg h50, if_neg h61, if_neg h72, if_neg h84, if_neg h96, if_pos h108])
    | (rw [kndX, if_neg h6, if_neg h17, if_neg h28, if_neg h39, if_neg h50, if_neg h61, if_neg h72, if_neg h84, if_neg h96, if_neg h108, if_pos h120])
    | (rw [kndX, if_neg h6, if_neg h17, if_neg h28, if_neg h39, if_neg h50, if_neg h61, if_neg h72, if_neg h84, if_neg h96, if_neg h108, if_neg h120])
end X8

