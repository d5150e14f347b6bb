/-! GuestViewModel: clashes, twins, the most, choices, cells by turns -/
section X8
variable {G : GW} {d : Nat} {M : Mem} {m a b c p k i what n st pc op : Int} {v : Vw}
theorem s_X8_touches {kind : Int} (hd : 13 ≤ d) (hT : TwS (msh M) (mcr M) m) (hw : mci M (m + 1) = v) (hop : okOp v p) (hp : 0 ≤ p ∧ p < 8) : CS G d mX8_touches [dR m, dI p, dI kind, dI n] M (pur M (vP (tch (opN v p) (opK v p) (opX v p) kind n))) := by
  have en : v (30 + 9 * p) = opN v p := rfl
  have h3 := hop.1
  refine CS.mkQ (by decide) (Nat.le_of_ble_eq_true rfl) fun Q hQ => ?_
  have loop : ∀ (t : Nat) (k y : Int), (opN v p - k).toNat = t → (0 ≤ k) → (k ≤ opN v p) → (y = vP (tch k (opK v p) (opX v p) kind n)) → WP G d mX8_touches 6 [some (dR m), some (dI p), some (dI kind), some (dI n), some (dI y), some (dI k)] [] (M) Q := by
    intro t
    induction t using Nat.strongRecOn with
    | _ t ih =>
      intro k y ht h0 h1 hy
      have hy01 : y = 0 ∨ y = 1 := by rw [hy]; exact vP_r _
      refine x_iload dX8_touches_6 rfl ?_
      refine x_aload_n dX8_touches_8 rfl rfl ?_
      refine x_iload_n dX8_touches_9 rfl rfl ?_
      refine x_iconst dX8_touches_10 rfl ?_
      refine g_callI (vs := [_, _, _]) (d' := d - 1) rfl (s_X8_of (by omega) hT (by first | exact hw | exact mciI (by omega) hw | exact mciI (by omega) (mciI (by omega) hw) | exact mciI (by omega) (mciI (by omega) (mciI (by omega) hw)) | exact mciI (by omega) (mciI (by omega) (mciI (by omega) (mciI (by omega) hw))) | exact mciC (by omega) hw) (by omega) (by omega)) dX8_touches_11 kX8_78 (by omega) (by decide) rfl (Nat.le_of_ble_eq_true rfl) (rcv_o (by first | assumption | exact hT.2.1) rfl) (fun x11 M11 h11 => ?_)
      obtain ⟨e11, f11⟩ := h11
      have f11' := f11.symm
      subst f11'
      subst e11
      try simp (disch := omega) only [rdI_e, rdI_n, rdC_i, rdC_o, rdW, rdR, rdU_e, rdU_n, rdLW, Int.add_zero, en]
      refine x_icmp_ge (tgt := 57) dX8_touches_14 (by decide) (fun h14 => ?_) (fun h14 => ?_)
      · refine x_iload dX8_touches_57 rfl ?_
        refine x_zreturn (by exact hy01) rfl dX8_touches_59 ?_
        refine hQ _ _ ⟨_, rfl, ?_, rfl⟩
        rw [hy, show k = opN v p by omega]
      · refine x_iload dX8_touches_17 rfl ?_
        refine x_if_ne (tgt := 44) dX8_touches_19 (by decide) (fun h19 => ?_) (fun h19 => ?_)
        · refine x_iconst dX8_touches_44 rfl ?_
          refine x_goto (tgt := 49) dX8_touches_45 (by decide) ?_
          refine x_istore (L' := [some _, some _, some _, some _, some _, some _]) dX8_touches_49 (by decide) rfl ?_
          first | refine x_iincN (L' := [some _, some _, some _, some _, some _, some _]) dX8_touches_51 rfl (by decide) (by unfold i32; omega) rfl ?_ | refine x_iinc (L' := [some _, some _, some _, some _, some _, some _]) dX8_touches_51 rfl (by decide) rfl ?_
          refine x_goto (tgt := 6) dX8_touches_54 (by decide) ?_
          refine ih _ (by omega) (k + 1) _ rfl (by omega) (by omega) ?_
          rw [hy] at h19
          first
          | exact (vP_t ((tch_s h0).mpr (Or.inl (vP_n0.mp h19)))).symm
          | exact (vP_t ((tch_s h0).mpr (Or.inr ⟨h30, h41⟩))).symm
          | (refine (vP_f fun q => ?_).symm
             rcases (tch_s h0).mp q with q | q
             · exact vP_0.mp h19 q
             · first | exact h30 q.1 | exact h41 q.2)
        · refine x_aload_n dX8_touches_22 rfl rfl ?_
          refine x_iload_n dX8_touches_23 rfl rfl ?_
          refine x_iload dX8_touches_24 rfl ?_
          refine g_callI (vs := [_, _, _]) (d' := d - 1) rfl (s_X8_kindOf (by omega) hT (by first | exact hw | exact mciI (by omega) hw | exact mciI (by omega) (mciI (by omega) hw) | exact mciI (by omega) (mciI (by omega) (mciI (by omega) hw)) | exact mciI (by omega) (mciI (by omega) (mciI (by omega) (mciI (by omega) hw))) | exact mciC (by omega) hw) (by omega) (by omega)) dX8_touches_26 kX8_298 (by omega) (by decide) rfl (Nat.le_of_ble_eq_true rfl) (rcv_o (by first | assumption | exact hT.2.1) rfl) (fun x26 M26 h26 => ?_)
          obtain ⟨e26, f26⟩ := h26
          have f26' := f26.symm
          subst f26'
          subst e26
          try simp (disch := omega) only [rdI_e, rdI_n, rdC_i, rdC_o, rdW, rdR, rdU_e, rdU_n, rdLW, Int.add_zero, en]
          refine x_iload_n dX8_touches_29 rfl rfl ?_
          refine x_icmp_ne (tgt := 48) dX8_touches_30 (by decide) (fun h30 => ?_) (fun h30 => ?_)
          · refine x_iconst dX8_touches_48 rfl ?_
            refine x_istore (L' := [some _, some _, some _, some _, some _, some _]) dX8_touches_49 (by decide) rfl ?_
            first | refine x_iincN (L' := [some _, some _, some _, some _, some _, some _]) dX8_touches_51 rfl (by decide) (by unfold i32; omega) rfl ?_ | refine x_iinc (L' := [some _, some _, some _, some _, some _, some _]) dX8_touches_51 rfl (by decide) rfl ?_
            refine x_goto (tgt := 6) dX8_touches_54 (by decide) ?_
            refine ih _ (by omega) (k + 1) _ rfl (by omega) (by omega) ?_
            rw [hy] at h19
            first
            | exact (vP_t ((tch_s h0).mpr (Or.inl (vP_n0.mp h19)))).symm
            | exact (vP_t ((tch_s h0).mpr (Or.inr ⟨h30, h41⟩))).symm
            | (refine (vP_f fun q => ?_).symm
               rcases (tch_s h0).mp q with q | q
               · exact vP_0.mp h19 q
               · first | exact h30 q.1 | exact h41 q.2)
          · refine x_aload_n dX8_touches_33 rfl rfl ?_
            refine x_iload_n dX8_touches_34 rfl rfl ?_
            refine x_iload dX8_touches_35 rfl ?_
            refine g_callI (vs := [_, _, _]) (d' := d - 1) rfl (s_X8_numberOf (by omega) hT (by first | exact hw | exact mciI (by omega) hw | exact mciI (by omega) (mciI (by omega) hw) | exact mciI (by omega) (mciI (by omega) (mciI (by omega) hw)) | exact mciI (by omega) (mciI (by omega) (mciI (by omega) (mciI (by omega) hw))) | exact mciC (by omega) hw) (by omega) (by omega)) dX8_touches_37 kX8_301 (by omega) (by decide) rfl (Nat.le_of_ble_eq_true rfl) (rcv_o (by first | assumption | exact hT.2.1) rfl) (fun x37 M37 h37 => ?_)
            obtain ⟨e37, f37⟩ := h37
            have f37' := f37.symm
            subst f37'
            subst e37
            try simp (disch := omega) only [rdI_e, rdI_n, rdC_i, rdC_o, rdW, rdR, rdU_e, rdU_n, rdLW, Int.add_zero, en]
            refine x_iload_n dX8_touches_40 rfl rfl ?_
            refine x_icmp_ne (tgt := 48) dX8_touches_41 (by decide) (fun h41 => ?_) (fun h41 => ?_)
            · refine x_iconst dX8_touches_48 rfl ?_
              refine x_istore (L' := [some _, some _, some _, some _, some _, some _]) dX8_touches_49 (by decide) rfl ?_
              first | refine x_iincN (L' := [some _, some _, some _, some _, some _, some _]) dX8_touches_51 rfl (by decide) (by unfold i32; omega) rfl ?_ | refine x_iinc (L' := [some _, some _, some _, some _, some _, some _]) dX8_touches_51 rfl (by decide) rfl ?_
              refine x_goto (tgt := 6) dX8_touches_54 (by decide) ?_
              refine ih _ (by omega) (k + 1) _ rfl (by omega) (by omega) ?_
              rw [hy] at h19
              first
              | exact (vP_t ((tch_s h0).mpr (Or.inl (vP_n0.mp h19)))).symm
              | exact (vP_t ((tch_s h0).mpr (Or.inr ⟨h30, h41⟩))).symm
              | (refine (vP_f fun q => ?_).symm
                 rcases (tch_s h0).mp q with q | q
                 · exact vP_0.mp h19 q
                 · first | exact h30 q.1 | exact h41 q.2)
            · refine x_iconst dX8_touches_44 rfl ?_
              refine x_goto (tgt := 49) dX8_touches_45 (by decide) ?_
              refine x_istore (L' := [some _, some _, some _, some _, some _, some _]) dX8_touches_49 (by decide) rfl ?_
              first | refine x_iincN (L' := [some _, some _, some _, some _, some _, some _]) dX8_touches_51 rfl (by decide) (by unfold i32; omega) rfl ?_ | refine x_iinc (L' := [some _, some _, some _, some _, some _, some _]) dX8_touches_51 rfl (by decide) rfl ?_
              refine x_goto (tgt := 6) dX8_touches_54 (by decide) ?_
              refine ih _ (by omega) (k + 1) _ rfl (by omega) (by omega) ?_
              rw [hy] at h19
              first
              | exact (vP_t ((tch_s h0).mpr (Or.inl (vP_n0.mp h19)))).symm
              | exact (vP_t ((tch_s h0).mpr (Or.inr ⟨h30, h41⟩))).symm
              | (refine (vP_f fun q => ?_).symm
                 rcases (tch_s h0).mp q with q | q
                 · exact vP_0.mp h19 q
                 · first | exact h30 q.1 | exact h41 q.2)
  refine x_iconst dX8_touches_0 rfl ?_
  refine x_istore (L' := [some _, some _, some _, some _, some _, none]) dX8_touches_1 (by decide) rfl ?_
  refine x_iconst dX8_touches_3 rfl ?_
  refine x_istore (L' := [some _, some _, some _, some _, some _, some _]) dX8_touches_4 (by decide) rfl ?_
  exact loop _ 0 0 rfl (by omega) (by omega) (vP_f tch_0).symm
def clP (v : Vw) (a b n : Int) : Prop := tch (opN v a) (opK v a) (opX v a) 2 n ∧ tch (opN v b) (opK v b) (opX v b) 2 n ∨ tch (opN v a) (opK v a) (opX v a) 2 n ∧ tch (opN v b) (opK v b) (opX v b) 1 n ∨ tch (opN v b) (opK v b) (opX v b) 2 n ∧ tch (opN v a) (opK v a) (opX v a) 1 n
def clK (v : Vw) (a b k : Int) : Prop := ∃ n, (0 ≤ n ∧ n < k) ∧ clP v a b n
theorem clK_s {v : Vw} {a b k : Int} (hk : 0 ≤ k) : clK v a b (k + 1) ↔ clK v a b k ∨ clP v a b k := by
  constructor
  · rintro ⟨n, n1, n2⟩
    by_cases e : n = k
    · subst e; exact Or.inr n2
    · exact Or.inl ⟨n, by omega, n2⟩
  · rintro (⟨n, n1, n2⟩ | n2)
    · exact ⟨n, by omega, n2⟩
    · exact ⟨k, by omega, n2⟩
theorem clK_0 {v : Vw} {a b : Int} : ¬ clK v a b 0 := fun ⟨n, n1, _⟩ => by omega
theorem s_X8_doClash (hd : 14 ≤ d) (hT : TwS (msh M) (mcr M) m) (hw : mci M (m + 1) = v) (hv : okB v) (ha : 0 ≤ a ∧ a < v 0) (hb : 0 ≤ b ∧ b < v 0) : CS G d mX8_doClash [dR m, dI a, dI b] M (pur M (vP (clashV v a b))) := by
  have hv8 := hv.n8
  refine CS.mkQ (by decide) (Nat.le_of_ble_eq_true rfl) fun Q hQ => ?_
  have loop : ∀ (t : Nat) (k y : Int), (8 - k).toNat = t → (0 ≤ k) → (k ≤ 8) → (y = vP (clK v a b k)) → WP G d mX8_doClash 5 [some (dR m), some (dI a), some (dI b), some (dI y), some (dI k), none, none] [] (M) Q := by
    intro t
    induction t using Nat.strongRecOn with
    | _ t ih =>
      intro k y ht h0 h1 hy
      have hy01 : y = 0 ∨ y = 1 := by rw [hy]; exact vP_r _
      refine x_iload dX8_doClash_5 rfl ?_
      refine x_bipush dX8_doClash_7 rfl ?_
      refine x_icmp_ge (tgt := 90) dX8_doClash_9 (by decide) (fun h9 => ?_) (fun h9 => ?_)
      · refine x_iload_n dX8_doClash_90 rfl rfl ?_
        refine x_zreturn (by exact hy01) rfl dX8_doClash_91 ?_
        refine hQ _ _ ⟨_, rfl, ?_, rfl⟩
        rw [hy, show k = 8 by omega]
        rfl
      · refine x_aload_n dX8_doClash_12 rfl rfl ?_
        refine x_iload_n dX8_doClash_13 rfl rfl ?_
        refine x_iconst dX8_doClash_14 rfl ?_
        refine x_iload dX8_doClash_15 rfl ?_
        refine g_callI (vs := [_, _, _, _]) (d' := d - 1) rfl (s_X8_touches (by omega) hT (by first | exact hw | exact mciI (by omega) hw | exact mciI (by omega) (mciI (by omega) hw) | exact mciI (by omega) (mciI (by omega) (mciI (by omega) hw)) | exact mciI (by omega) (mciI (by omega) (mciI (by omega) (mciI (by omega) hw))) | exact mciC (by omega) hw) (hv.op _ (by omega) (by omega)) (by omega)) dX8_doClash_17 kX8_479 (by omega) (by decide) rfl (Nat.le_of_ble_eq_true rfl) (rcv_o (by first | assumption | exact hT.2.1) rfl) (fun x17 M17 h17 => ?_)
        obtain ⟨e17, f17⟩ := h17
        have f17' := f17.symm
        subst f17'
        subst e17
        try simp (disch := omega) only [rdI_e, rdI_n, rdC_i, rdC_o, rdW, rdR, rdU_e, rdU_n, rdLW, Int.add_zero, hw]
        refine x_istore (L' := [some _, some _, some _, some _, some _, some _, none]) dX8_doClash_20 (by decide) rfl ?_
        refine x_aload_n dX8_doClash_22 rfl rfl ?_
        refine x_iload_n dX8_doClash_23 rfl rfl ?_
        refine x_iconst dX8_doClash_24 rfl ?_
        refine x_iload dX8_doClash_25 rfl ?_
        refine g_callI (vs := [_, _, _, _]) (d' := d - 1) rfl (s_X8_touches (by omega) hT (by first | exact hw | exact mciI (by omega) hw | exact mciI (by omega) (mciI (by omega) hw) | exact mciI (by omega) (mciI (by omega) (mciI (by omega) hw)) | exact mciI (by omega) (mciI (by omega) (mciI (by omega) (mciI (by omega) hw))) | exact mciC (by omega) hw) (hv.op _ (by omega) (by omega)) (by omega)) dX8_doClash_27 kX8_479 (by omega) (by decide) rfl (Nat.le_of_ble_eq_true rfl) (rcv_o (by first | assumption | exact hT.2.1) rfl) (fun x27 M27 h27 => ?_)
        obtain ⟨e27, f27⟩ := h27
        have f27' := f27.symm
        subst f27'
        subst e27
        try simp (disch := omega) only [rdI_e, rdI_n, rdC_i, rdC_o, rdW, rdR, rdU_e, rdU_n, rdLW, Int.add_zero, hw]
        refine x_istore (L' := [some _, some _, some _, some _, some _, some _, some _]) dX8_doClash_30 (by decide) rfl ?_
        refine x_iload_n dX8_doClash_32 rfl rfl ?_
        refine x_if_ne (tgt := 78) dX8_doClash_33 (by decide) (fun h33 => ?_) (fun h33 => ?_)
        · refine x_iconst dX8_doClash_78 rfl ?_
          refine x_goto (tgt := 83) dX8_doClash_79 (by decide) ?_
          refine x_istore_n (L' := [some _, some _, some _, some _, some _, some _, some _]) dX8_doClash_83 rfl (by decide) rfl ?_
          first | refine x_iincN (L' := [some _, some _, some _, some _, some _, some _, some _]) dX8_doClash_84 rfl (by decide) (by unfold i32; omega) rfl ?_ | refine x_iinc (L' := [some _, some _, some _, some _, some _, some _, some _]) dX8_doClash_84 rfl (by decide) rfl ?_
          refine x_goto (tgt := 5) dX8_doClash_87 (by decide) ?_
          refine x_fgt (by repeat (first | exact trivial | refine ⟨rfl, ?_⟩)) (ih _ (by omega) (k + 1) _ rfl (by omega) (by omega) ?_)
          rw [hy] at h33
          first
          | exact (vP_t ((clK_s h0).mpr (Or.inl (vP_n0.mp h33)))).symm
          | exact (vP_t ((clK_s h0).mpr (Or.inr (Or.inl ⟨h38, h43⟩)))).symm
          | exact (vP_t ((clK_s h0).mpr (Or.inr (Or.inr (Or.inl ⟨h48, h59⟩))))).symm
          | exact (vP_t ((clK_s h0).mpr (Or.inr (Or.inr (Or.inr ⟨h64, h75⟩))))).symm
          | (refine (vP_f fun q => ?_).symm
             rcases (clK_s h0).mp q with q | q
             · exact vP_0.mp h33 q
             · rcases q with q | q | q
               · first | exact h38 q.1 | exact h43 q.2
               · first | exact h48 q.1 | exact h59 q.2
               · first | exact h64 q.1 | exact h75 q.2)
        · refine x_iload dX8_doClash_36 rfl ?_
          refine x_if_eq (tgt := 46) dX8_doClash_38 (by decide) (fun h38 => ?_) (fun h38 => ?_)
          · try simp only [vP_0, vP_1, vP_n0, vP_n1, Classical.not_not] at h38
            refine x_iload dX8_doClash_46 rfl ?_
            refine x_if_eq (tgt := 62) dX8_doClash_48 (by decide) (fun h48 => ?_) (fun h48 => ?_)
            · try simp only [vP_0, vP_1, vP_n0, vP_n1, Classical.not_not] at h48
              refine x_iload dX8_doClash_62 rfl ?_
              refine x_if_eq (tgt := 82) dX8_doClash_64 (by decide) (fun h64 => ?_) (fun h64 => ?_)
              · try simp only [vP_0, vP_1, vP_n0, vP_n1, Classical.not_not] at h64
                refine x_iconst dX8_doClash_82 rfl ?_
                refine x_istore_n (L' := [some _, some _, some _, some _, some _, some _, some _]) dX8_doClash_83 rfl (by decide) rfl ?_
                first | refine x_iincN (L' := [some _, some _, some _, some _, some _, some _, some _]) dX8_doClash_84 rfl (by decide) (by unfold i32; omega) rfl ?_ | refine x_iinc (L' := [some _, some _, some _, some _, some _, some _, some _]) dX8_doClash_84 rfl (by decide) rfl ?_
                refine x_goto (tgt := 5) dX8_doClash_87 (by decide) ?_
                refine x_fgt (by repeat (first | exact trivial | refine ⟨rfl, ?_⟩)) (ih _ (by omega) (k + 1) _ rfl (by omega) (by omega) ?_)
                rw [hy] at h33
                first
                | exact (vP_t ((clK_s h0).mpr (Or.inl (vP_n0.mp h33)))).symm
                | exact (vP_t ((clK_s h0).mpr (Or.inr (Or.inl ⟨h38, h43⟩)))).symm
                | exact (vP_t ((clK_s h0).mpr (Or.inr (Or.inr (Or.inl ⟨h48, h59⟩))))).symm
                | exact (vP_t ((clK_s h0).mpr (Or.inr (Or.inr (Or.inr ⟨h64, h75⟩))))).symm
                | (refine (vP_f fun q => ?_).symm
                   rcases (clK_s h0).mp q with q | q
                   · exact vP_0.mp h33 q
                   · rcases q with q | q | q
                     · first | exact h38 q.1 | exact h43 q.2
                     · first | exact h48 q.1 | exact h59 q.2
                     · first | exact h64 q.1 | exact h75 q.2)
              · try simp only [vP_0, vP_1, vP_n0, vP_n1, Classical.not_not] at h64
                refine x_aload_n dX8_doClash_67 rfl rfl ?_
                refine x_iload_n dX8_doClash_68 rfl rfl ?_
                refine x_iconst dX8_doClash_69 rfl ?_
                refine x_iload dX8_doClash_70 rfl ?_
                refine g_callI (vs := [_, _, _, _]) (d' := d - 1) rfl (s_X8_touches (by omega) hT (by first | exact hw | exact mciI (by omega) hw | exact mciI (by omega) (mciI (by omega) hw) | exact mciI (by omega) (mciI (by omega) (mciI (by omega) hw)) | exact mciI (by omega) (mciI (by omega) (mciI (by omega) (mciI (by omega) hw))) | exact mciC (by omega) hw) (hv.op _ (by omega) (by omega)) (by omega)) dX8_doClash_72 kX8_479 (by omega) (by decide) rfl (Nat.le_of_ble_eq_true rfl) (rcv_o (by first | assumption | exact hT.2.1) rfl) (fun x72 M72 h72 => ?_)
                obtain ⟨e72, f72⟩ := h72
                have f72' := f72.symm
                subst f72'
                subst e72
                try simp (disch := omega) only [rdI_e, rdI_n, rdC_i, rdC_o, rdW, rdR, rdU_e, rdU_n, rdLW, Int.add_zero, hw]
                refine x_if_eq (tgt := 82) dX8_doClash_75 (by decide) (fun h75 => ?_) (fun h75 => ?_)
                · try simp only [vP_0, vP_1, vP_n0, vP_n1, Classical.not_not] at h75
                  refine x_iconst dX8_doClash_82 rfl ?_
                  refine x_istore_n (L' := [some _, some _, some _, some _, some _, some _, some _]) dX8_doClash_83 rfl (by decide) rfl ?_
                  first | refine x_iincN (L' := [some _, some _, some _, some _, some _, some _, some _]) dX8_doClash_84 rfl (by decide) (by unfold i32; omega) rfl ?_ | refine x_iinc (L' := [some _, some _, some _, some _, some _, some _, some _]) dX8_doClash_84 rfl (by decide) rfl ?_
                  refine x_goto (tgt := 5) dX8_doClash_87 (by decide) ?_
                  refine x_fgt (by repeat (first | exact trivial | refine ⟨rfl, ?_⟩)) (ih _ (by omega) (k + 1) _ rfl (by omega) (by omega) ?_)
                  rw [hy] at h33
                  first
                  | exact (vP_t ((clK_s h0).mpr (Or.inl (vP_n0.mp h33)))).symm
                  | exact (vP_t ((clK_s h0).mpr (Or.inr (Or.inl ⟨h38, h43⟩)))).symm
                  | exact (vP_t ((clK_s h0).mpr (Or.inr (Or.inr (Or.inl ⟨h48, h59⟩))))).symm
                  | exact (vP_t ((clK_s h0).mpr (Or.inr (Or.inr (Or.inr ⟨h64, h75⟩))))).symm
                  | (refine (vP_f fun q => ?_).symm
                     rcases (clK_s h0).mp q with q | q
                     · exact vP_0.mp h33 q
                     · rcases q with q | q | q
                       · first | exact h38 q.1 | exact h43 q.2
                       · first | exact h48 q.1 | exact h59 q.2
                       · first | exact h64 q.1 | exact h75 q.2)
                · try simp only [vP_0, vP_1, vP_n0, vP_n1, Classical.not_not] at h75
                  refine x_iconst dX8_doClash_78 rfl ?_
                  refine x_goto (tgt := 83) dX8_doClash_79 (by decide) ?_
                  refine x_istore_n (L' := [some _, some _, some _, some _, some _, some _, some _]) dX8_doClash_83 rfl (by decide) rfl ?_
                  first | refine x_iincN (L' := [some _, some _, some _, some _, some _, some _, some _]) dX8_doClash_84 rfl (by decide) (by unfold i32; omega) rfl ?_ | refine x_iinc (L' := [some _, some _, some _, some _, some _, some _, some _]) dX8_doClash_84 rfl (by decide) rfl ?_
                  refine x_goto (tgt := 5) dX8_doClash_87 (by decide) ?_
                  refine x_fgt (by repeat (first | exact trivial | refine ⟨rfl, ?_⟩)) (ih _ (by omega) (k + 1) _ rfl (by omega) (by omega) ?_)
                  rw [hy] at h33
                  first
                  | exact (vP_t ((clK_s h0).mpr (Or.inl (vP_n0.mp h33)))).symm
                  | exact (vP_t ((clK_s h0).mpr (Or.inr (Or.inl ⟨h38, h43⟩)))).symm
                  | exact (vP_t ((clK_s h0).mpr (Or.inr (Or.inr (Or.inl ⟨h48, h59⟩))))).symm
                  | exact (vP_t ((clK_s h0).mpr (Or.inr (Or.inr (Or.inr ⟨h64, h75⟩))))).symm
                  | (refine (vP_f fun q => ?_).symm
                     rcases (clK_s h0).mp q with q | q
                     · exact vP_0.mp h33 q
                     · rcases q with q | q | q
                       · first | exact h38 q.1 | exact h43 q.2
                       · first | exact h48 q.1 | exact h59 q.2
                       · first | exact h64 q.1 | exact h75 q.2)
            · try simp only [vP_0, vP_1, vP_n0, vP_n1, Classical.not_not] at h48
              refine x_aload_n dX8_doClash_51 rfl rfl ?_
              refine x_iload_n dX8_doClash_52 rfl rfl ?_
              refine x_iconst dX8_doClash_53 rfl ?_
              refine x_iload dX8_doClash_54 rfl ?_
              refine g_callI (vs := [_, _, _, _]) (d' := d - 1) rfl (s_X8_touches (by omega) hT (by first | exact hw | exact mciI (by omega) hw | exact mciI (by omega) (mciI (by omega) hw) | exact mciI (by omega) (mciI (by omega) (mciI (by omega) hw)) | exact mciI (by omega) (mciI (by omega) (mciI (by omega) (mciI (by omega) hw))) | exact mciC (by omega) hw) (hv.op _ (by omega) (by omega)) (by omega)) dX8_doClash_56 kX8_479 (by omega) (by decide) rfl (Nat.le_of_ble_eq_true rfl) (rcv_o (by first | assumption | exact hT.2.1) rfl) (fun x56 M56 h56 => ?_)
              obtain ⟨e56, f56⟩ := h56
              have f56' := f56.symm
              subst f56'
              subst e56
              try simp (disch := omega) only [rdI_e, rdI_n, rdC_i, rdC_o, rdW, rdR, rdU_e, rdU_n, rdLW, Int.add_zero, hw]
              refine x_if_ne (tgt := 78) dX8_doClash_59 (by decide) (fun h59 => ?_) (fun h59 => ?_)
              · try simp only [vP_0, vP_1, vP_n0, vP_n1, Classical.not_not] at h59
                refine x_iconst dX8_doClash_78 rfl ?_
                refine x_goto (tgt := 83) dX8_doClash_79 (by decide) ?_
                refine x_istore_n (L' := [some _, some _, some _, some _, some _, some _, some _]) dX8_doClash_83 rfl (by decide) rfl ?_
                first | refine x_iincN (L' := [some _, some _, some _, some _, some _, some _, some _]) dX8_doClash_84 rfl (by decide) (by unfold i32; omega) rfl ?_ | refine x_iinc (L' := [some _, some _, some _, some _, some _, some _, some _]) dX8_doClash_84 rfl (by decide) rfl ?_
                refine x_goto (tgt := 5) dX8_doClash_87 (by decide) ?_
                refine x_fgt (by repeat (first | exact trivial | refine ⟨rfl, ?_⟩)) (ih _ (by omega) (k + 1) _ rfl (by omega) (by omega) ?_)
                rw [hy] at h33
                first
                | exact (vP_t ((clK_s h0).mpr (Or.inl (vP_n0.mp h33)))).symm
                | exact (vP_t ((clK_s h0).mpr (Or.inr (Or.inl ⟨h38, h43⟩)))).symm
                | exact (vP_t ((clK_s h0).mpr (Or.inr (Or.inr (Or.inl ⟨h48, h59⟩))))).symm
                | exact (vP_t ((clK_s h0).mpr (Or.inr (Or.inr (Or.inr ⟨h64, h75⟩))))).symm
                | (refine (vP_f fun q => ?_).symm
                   rcases (clK_s h0).mp q with q | q
                   · exact vP_0.mp h33 q
                   · rcases q with q | q | q
                     · first | exact h38 q.1 | exact h43 q.2
                     · first | exact h48 q.1 | exact h59 q.2
                     · first | exact h64 q.1 | exact h75 q.2)
              · try simp only [vP_0, vP_1, vP_n0, vP_n1, Classical.not_not] at h59
                refine x_iload dX8_doClash_62 rfl ?_
                refine x_if_eq (tgt := 82) dX8_doClash_64 (by decide) (fun h64 => ?_) (fun h64 => ?_)
                · try simp only [vP_0, vP_1, vP_n0, vP_n1, Classical.not_not] at h64
                  refine x_iconst dX8_doClash_82 rfl ?_
                  refine x_istore_n (L' := [some _, some _, some _, some _, some _, some _, some _]) dX8_doClash_83 rfl (by decide) rfl ?_
                  first | refine x_iincN (L' := [some _, some _, some _, some _, some _, some _, some _]) dX8_doClash_84 rfl (by decide) (by unfold i32; omega) rfl ?_ | refine x_iinc (L' := [some _, some _, some _, some _, some _, some _, some _]) dX8_doClash_84 rfl (by decide) rfl ?_
                  refine x_goto (tgt := 5) dX8_doClash_87 (by decide) ?_
                  refine x_fgt (by repeat (first | exact trivial | refine ⟨rfl, ?_⟩)) (ih _ (by omega) (k + 1) _ rfl (by omega) (by omega) ?_)
                  rw [hy] at h33
                  first
                  | exact (vP_t ((clK_s h0).mpr (Or.inl (vP_n0.mp h33)))).symm
                  | exact (vP_t ((clK_s h0).mpr (Or.inr (Or.inl ⟨h38, h43⟩)))).symm
                  | exact (vP_t ((clK_s h0).mpr (Or.inr (Or.inr (Or.inl ⟨h48, h59⟩))))).symm
                  | exact (vP_t ((clK_s h0).mpr (Or.inr (Or.inr (Or.inr ⟨h64, h75⟩))))).symm
                  | (refine (vP_f fun q => ?_).symm
                     rcases (clK_s h0).mp q with q | q
                     · exact vP_0.mp h33 q
                     · rcases q with q | q | q
                       · first | exact h38 q.1 | exact h43 q.2
                       · first | exact h48 q.1 | exact h59 q.2
                       · first | exact h64 q.1 | exact h75 q.2)
                · try simp only [vP_0, vP_1, vP_n0, vP_n1, Classical.not_not] at h64
                  refine x_aload_n dX8_doClash_67 rfl rfl ?_
                  refine x_iload_n dX8_doClash_68 rfl rfl ?_
                  refine x_iconst dX8_doClash_69 rfl ?_
                  refine x_iload dX8_doClash_70 rfl ?_
                  refine g_callI (vs := [_, _, _, _]) (d' := d - 1) rfl (s_X8_touches (by omega) hT (by first | exact hw | exact mciI (by omega) hw | exact mciI (by omega) (mciI (by omega) hw) | exact mciI (by omega) (mciI (by omega) (mciI (by omega) hw)) | exact mciI (by omega) (mciI (by omega) (mciI (by omega) (mciI (by omega) hw))) | exact mciC (by omega) hw) (hv.op _ (by omega) (by omega)) (by omega)) dX8_doClash_72 kX8_479 (by omega) (by decide) rfl (Nat.le_of_ble_eq_true rfl) (rcv_o (by first | assumption | exact hT.2.1) rfl) (fun x72 M72 h72 => ?_)
                  obtain ⟨e72, f72⟩ := h72
                  have f72' := f72.symm
                  subst f72'
                  subst e72
                  try simp (disch := omega) only [rdI_e, rdI_n, rdC_i, rdC_o, rdW, rdR, rdU_e, rdU_n, rdLW, Int.add_zero, hw]
                  refine x_if_eq (tgt := 82) dX8_doClash_75 (by decide) (fun h75 => ?_) (fun h75 => ?_)
                  · try simp only [vP_0, vP_1, vP_n0, vP_n1, Classical.not_not] at h75
                    refine x_iconst dX8_doClash_82 rfl ?_
                    refine x_istore_n (L' := [some _, some _, some _, some _, some _, some _, some _]) dX8_doClash_83 rfl (by decide) rfl ?_
                    first | refine x_iincN (L' := [some _, some _, some _, some _, some _, some _, some _]) dX8_doClash_84 rfl (by decide) (by unfold i32; omega) rfl ?_ | refine x_iinc (L' := [some _, some _, some _, some _, some _, some _, some _]) dX8_doClash_84 rfl (by decide) rfl ?_
                    refine x_goto (tgt := 5) dX8_doClash_87 (by decide) ?_
                    refine x_fgt (by repeat (first | exact trivial | refine ⟨rfl, ?_⟩)) (ih _ (by omega) (k + 1) _ rfl (by omega) (by omega) ?_)
                    rw [hy] at h33
                    first
                    | exact (vP_t ((clK_s h0).mpr (Or.inl (vP_n0.mp h33)))).symm
                    | exact (vP_t ((clK_s h0).mpr (Or.inr (Or.inl ⟨h38, h43⟩)))).symm
                    | exact (vP_t ((clK_s h0).mpr (Or.inr (Or.inr (Or.inl ⟨h48, h59⟩))))).symm
                    | exact (vP_t ((clK_s h0).mpr (Or.inr (Or.inr (Or.inr ⟨h64, h75⟩))))).symm
                    | (refine (vP_f fun q => ?_).symm
                       rcases (clK_s h0).mp q with q | q
                       · exact vP_0.mp h33 q
                       · rcases q with q | q | q
                         · first | exact h38 q.1 | exact h43 q.2
                         · first | exact h48 q.1 | exact h59 q.2
                         · first | exact h64 q.1 | exact h75 q.2)
                  · try simp only [vP_0, vP_1, vP_n0, vP_n1, Classical.not_not] at h75
                    refine x_iconst dX8_doClash_78 rfl ?_
                    refine x_goto (tgt := 83) dX8_doClash_79 (by decide) ?_
                    refine x_istore_n (L' := [some _, some _, some _, some _, some _, some _, some _]) dX8_doClash_83 rfl (by decide) rfl ?_
                    first | refine x_iincN (L' := [some _, some _, some _, some _, some _, some _, some _]) dX8_doClash_84 rfl (by decide) (by unfold i32; omega) rfl ?_ | refine x_iinc (L' := [some _, some _, some _, some _, some _, some _, some _]) dX8_doClash_84 rfl (by decide) rfl ?_
                    refine x_goto (tgt := 5) dX8_doClash_87 (by decide) ?_
                    refine x_fgt (by repeat (first | exact trivial | refine ⟨rfl, ?_⟩)) (ih _ (by omega) (k + 1) _ rfl (by omega) (by omega) ?_)
                    rw [hy] at h33
                    first
                    | exact (vP_t ((clK_s h0).mpr (Or.inl (vP_n0.mp h33)))).symm
                    | exact (vP_t ((clK_s h0).mpr (Or.inr (Or.inl ⟨h38, h43⟩)))).symm
                    | exact (vP_t ((clK_s h0).mpr (Or.inr (Or.inr (Or.inl ⟨h48, h59⟩))))).symm
                    | exact (vP_t ((clK_s h0).mpr (Or.inr (Or.inr (Or.inr ⟨h64, h75⟩))))).symm
                    | (refine (vP_f fun q => ?_).symm
                       rcases (clK_s h0).mp q with q | q
                       · exact vP_0.mp h33 q
                       · rcases q with q | q | q
                         · first | exact h38 q.1 | exact h43 q.2
                         · first | exact h48 q.1 | exact h59 q.2
                         · first | exact h64 q.1 | exact h75 q.2)
          · try simp only [vP_0, vP_1, vP_n0, vP_n1, Classical.not_not] at h38
            refine x_iload dX8_doClash_41 rfl ?_
            refine x_if_ne (tgt := 78) dX8_doClash_43 (by decide) (fun h43 => ?_) (fun h43 => ?_)
            · try simp only [vP_0, vP_1, vP_n0, vP_n1, Classical.not_not] at h43
              refine x_iconst dX8_doClash_78 rfl ?_
              refine x_goto (tgt := 83) dX8_doClash_79 (by decide) ?_
              refine x_istore_n (L' := [some _, some _, some _, some _, some _, some _, some _]) dX8_doClash_83 rfl (by decide) rfl ?_
              first | refine x_iincN (L' := [some _, some _, some _, some _, some _, some _, some _]) dX8_doClash_84 rfl (by decide) (by unfold i32; omega) rfl ?_ | refine x_iinc (L' := [some _, some _, some _, some _, some _, some _, some _]) dX8_doClash_84 rfl (by decide) rfl ?_
              refine x_goto (tgt := 5) dX8_doClash_87 (by decide) ?_
              refine x_fgt (by repeat (first | exact trivial | refine ⟨rfl, ?_⟩)) (ih _ (by omega) (k + 1) _ rfl (by omega) (by omega) ?_)
              rw [hy] at h33
              first
              | exact (vP_t ((clK_s h0).mpr (Or.inl (vP_n0.mp h33)))).symm
              | exact (vP_t ((clK_s h0).mpr (Or.inr (Or.inl ⟨h38, h43⟩)))).symm
              | exact (vP_t ((clK_s h0).mpr (Or.inr (Or.inr (Or.inl ⟨h48, h59⟩))))).symm
              | exact (vP_t ((clK_s h0).mpr (Or.inr (Or.inr (Or.inr ⟨h64, h75⟩))))).symm
              | (refine (vP_f fun q => ?_).symm
                 rcases (clK_s h0).mp q with q | q
                 · exact vP_0.mp h33 q
                 · rcases q with q | q | q
                   · first | exact h38 q.1 | exact h43 q.2
                   · first | exact h48 q.1 | exact h59 q.2
                   · first | exact h64 q.1 | exact h75 q.2)
            · try simp only [vP_0, vP_1, vP_n0, vP_n1, Classical.not_not] at h43
              refine x_iload dX8_doClash_46 rfl ?_
              refine x_if_eq (tgt := 62) dX8_doClash_48 (by decide) (fun h48 => ?_) (fun h48 => ?_)
              · try simp only [vP_0, vP_1, vP_n0, vP_n1, Classical.not_not] at h48
                refine x_iload dX8_doClash_62 rfl ?_
                refine x_if_eq (tgt := 82) dX8_doClash_64 (by decide) (fun h64 => ?_) (fun h64 => ?_)
                · try simp only [vP_0, vP_1, vP_n0, vP_n1, Classical.not_not] at h64
                  refine x_iconst dX8_doClash_82 rfl ?_
                  refine x_istore_n (L' := [some _, some _, some _, some _, some _, some _, some _]) dX8_doClash_83 rfl (by decide) rfl ?_
                  first | refine x_iincN (L' := [some _, some _, some _, some _, some _, some _, some _]) dX8_doClash_84 rfl (by decide) (by unfold i32; omega) rfl ?_ | refine x_iinc (L' := [some _, some _, some _, some _, some _, some _, some _]) dX8_doClash_84 rfl (by decide) rfl ?_
                  refine x_goto (tgt := 5) dX8_doClash_87 (by decide) ?_
                  refine x_fgt (by repeat (first | exact trivial | refine ⟨rfl, ?_⟩)) (ih _ (by omega) (k + 1) _ rfl (by omega) (by omega) ?_)
                  rw [hy] at h33
                  first
                  | exact (vP_t ((clK_s h0).mpr (Or.inl (vP_n0.mp h33)))).symm
                  | exact (vP_t ((clK_s h0).mpr (Or.inr (Or.inl ⟨h38, h43⟩)))).symm
                  | exact (vP_t ((clK_s h0).mpr (Or.inr (Or.inr (Or.inl ⟨h48, h59⟩))))).symm
                  | exact (vP_t ((clK_s h0).mpr (Or.inr (Or.inr (Or.inr ⟨h64, h75⟩))))).symm
                  | (refine (vP_f fun q => ?_).symm
                     rcases (clK_s h0).mp q with q | q
                     · exact vP_0.mp h33 q
                     · rcases q with q | q | q
                       · first | exact h38 q.1 | exact h43 q.2
                       · first | exact h48 q.1 | exact h59 q.2
                       · first | exact h64 q.1 | exact h75 q.2)
                · try simp only [vP_0, vP_1, vP_n0, vP_n1, Classical.not_not] at h64
                  refine x_aload_n dX8_doClash_67 rfl rfl ?_
                  refine x_iload_n dX8_doClash_68 rfl rfl ?_
                  refine x_iconst dX8_doClash_69 rfl ?_
                  refine x_iload dX8_doClash_70 rfl ?_
                  refine g_callI (vs := [_, _, _, _]) (d' := d - 1) rfl (s_X8_touches (by omega) hT (by first | exact hw | exact mciI (by omega) hw | exact mciI (by omega) (mciI (by omega) hw) | exact mciI (by omega) (mciI (by omega) (mciI (by omega) hw)) | exact mciI (by omega) (mciI (by omega) (mciI (by omega) (mciI (by omega) hw))) | exact mciC (by omega) hw) (hv.op _ (by omega) (by omega)) (by omega)) dX8_doClash_72 kX8_479 (by omega) (by decide) rfl (Nat.le_of_ble_eq_true rfl) (rcv_o (by first | assumption | exact hT.2.1) rfl) (fun x72 M72 h72 => ?_)
                  obtain ⟨e72, f72⟩ := h72
                  have f72' := f72.symm
                  subst f72'
                  subst e72
                  try simp (disch := omega) only [rdI_e, rdI_n, rdC_i, rdC_o, rdW, rdR, rdU_e, rdU_n, rdLW, Int.add_zero, hw]
                  refine x_if_eq (tgt := 82) dX8_doClash_75 (by decide) (fun h75 => ?_) (fun h75 => ?_)
                  · try simp only [vP_0, vP_1, vP_n0, vP_n1, Classical.not_not] at h75
                    refine x_iconst dX8_doClash_82 rfl ?_
                    refine x_istore_n (L' := [some _, some _, some _, some _, some _, some _, some _]) dX8_doClash_83 rfl (by decide) rfl ?_
                    first | refine x_iincN (L' := [some _, some _, some _, some _, some _, some _, some _]) dX8_doClash_84 rfl (by decide) (by unfold i32; omega) rfl ?_ | refine x_iinc (L' := [some _, some _, some _, some _, some _, some _, some _]) dX8_doClash_84 rfl (by decide) rfl ?_
                    refine x_goto (tgt := 5) dX8_doClash_87 (by decide) ?_
                    refine x_fgt (by repeat (first | exact trivial | refine ⟨rfl, ?_⟩)) (ih _ (by omega) (k + 1) _ rfl (by omega) (by omega) ?_)
                    rw [hy] at h33
                    first
                    | exact (vP_t ((clK_s h0).mpr (Or.inl (vP_n0.mp h33)))).symm
                    | exact (vP_t ((clK_s h0).mpr (Or.inr (Or.inl ⟨h38, h43⟩)))).symm
                    | exact (vP_t ((clK_s h0).mpr (Or.inr (Or.inr (Or.inl ⟨h48, h59⟩))))).symm
                    | exact (vP_t ((clK_s h0).mpr (Or.inr (Or.inr (Or.inr ⟨h64, h75⟩))))).symm
                    | (refine (vP_f fun q => ?_).symm
                       rcases (clK_s h0).mp q with q | q
                       · exact vP_0.mp h33 q
                       · rcases q with q | q | q
                         · first | exact h38 q.1 | exact h43 q.2
                         · first | exact h48 q.1 | exact h59 q.2
                         · first | exact h64 q.1 | exact h75 q.2)
                  · try simp only [vP_0, vP_1, vP_n0, vP_n1, Classical.not_not] at h75
                    refine x_iconst dX8_doClash_78 rfl ?_
                    refine x_goto (tgt := 83) dX8_doClash_79 (by decide) ?_
                    refine x_istore_n (L' := [some _, some _, some _, some _, some _, some _, some _]) dX8_doClash_83 rfl (by decide) rfl ?_
                    first | refine x_iincN (L' := [some _, some _, some _, some _, some _, some _, some _]) dX8_doClash_84 rfl (by decide) (by unfold i32; omega) rfl ?_ | refine x_iinc (L' := [some _, some _, some _, some _, some _, some _, some _]) dX8_doClash_84 rfl (by decide) rfl ?_
                    refine x_goto (tgt := 5) dX8_doClash_87 (by decide) ?_
                    refine x_fgt (by repeat (first | exact trivial | refine ⟨rfl, ?_⟩)) (ih _ (by omega) (k + 1) _ rfl (by omega) (by omega) ?_)
                    rw [hy] at h33
                    first
                    | exact (vP_t ((clK_s h0).mpr (Or.inl (vP_n0.mp h33)))).symm
                    | exact (vP_t ((clK_s h0).mpr (Or.inr (Or.inl ⟨h38, h43⟩)))).symm
                    | exact (vP_t ((clK_s h0).mpr (Or.inr (Or.inr (Or.inl ⟨h48, h59⟩))))).symm
                    | exact (vP_t ((clK_s h0).mpr (Or.inr (Or.inr (Or.inr ⟨h64, h75⟩))))).symm
                    | (refine (vP_f fun q => ?_).symm
                       rcases (clK_s h0).mp q with q | q
                       · exact vP_0.mp h33 q
                       · rcases q with q | q | q
                         · first | exact h38 q.1 | exact h43 q.2
                         · first | exact h48 q.1 | exact h59 q.2
                         · first | exact h64 q.1 | exact h75 q.2)
              · try simp only [vP_0, vP_1, vP_n0, vP_n1, Classical.not_not] at h48
                refine x_aload_n dX8_doClash_51 rfl rfl ?_
                refine x_iload_n dX8_doClash_52 rfl rfl ?_
                refine x_iconst dX8_doClash_53 rfl ?_
                refine x_iload dX8_doClash_54 rfl ?_
                refine g_callI (vs := [_, _, _, _]) (d' := d - 1) rfl (s_X8_touches (by omega) hT (by first | exact hw | exact mciI (by omega) hw | exact mciI (by omega) (mciI (by omega) hw) | exact mciI (by omega) (mciI (by omega) (mciI (by omega) hw)) | exact mciI (by omega) (mciI (by omega) (mciI (by omega) (mciI (by omega) hw))) | exact mciC (by omega) hw) (hv.op _ (by omega) (by omega)) (by omega)) dX8_doClash_56 kX8_479 (by omega) (by decide) rfl (Nat.le_of_ble_eq_true rfl) (rcv_o (by first | assumption | exact hT.2.1) rfl) (fun x56 M56 h56 => ?_)
                obtain ⟨e56, f56⟩ := h56
                have f56' := f56.symm
                subst f56'
                subst e56
                try simp (disch := omega) only [rdI_e, rdI_n, rdC_i, rdC_o, rdW, rdR, rdU_e, rdU_n, rdLW, Int.add_zero, hw]
                refine x_if_ne (tgt := 78) dX8_doClash_59 (by decide) (fun h59 => ?_) (fun h59 => ?_)
                · try simp only [vP_0, vP_1, vP_n0, vP_n1, Classical.not_not] at h59
                  refine x_iconst dX8_doClash_78 rfl ?_
                  refine x_goto (tgt := 83) dX8_doClash_79 (by decide) ?_
                  refine x_istore_n (L' := [some _, some _, some _, some _, some _, some _, some _]) dX8_doClash_83 rfl (by decide) rfl ?_
                  first | refine x_iincN (L' := [some _, some _, some _, some _, some _, some _, some _]) dX8_doClash_84 rfl (by decide) (by unfold i32; omega) rfl ?_ | refine x_iinc (L' := [some _, some _, some _, some _, some _, some _, some _]) dX8_doClash_84 rfl (by decide) rfl ?_
                  refine x_goto (tgt := 5) dX8_doClash_87 (by decide) ?_
                  refine x_fgt (by repeat (first | exact trivial | refine ⟨rfl, ?_⟩)) (ih _ (by omega) (k + 1) _ rfl (by omega) (by omega) ?_)
                  rw [hy] at h33
                  first
                  | exact (vP_t ((clK_s h0).mpr (Or.inl (vP_n0.mp h33)))).symm
                  | exact (vP_t ((clK_s h0).mpr (Or.inr (Or.inl ⟨h38, h43⟩)))).symm
                  | exact (vP_t ((clK_s h0).mpr (Or.inr (Or.inr (Or.inl ⟨h48, h59⟩))))).symm
                  | exact (vP_t ((clK_s h0).mpr (Or.inr (Or.inr (Or.inr ⟨h64, h75⟩))))).symm
                  | (refine (vP_f fun q => ?_).symm
                     rcases (clK_s h0).mp q with q | q
                     · exact vP_0.mp h33 q
                     · rcases q with q | q | q
                       · first | exact h38 q.1 | exact h43 q.2
                       · first | exact h48 q.1 | exact h59 q.2
                       · first | exact h64 q.1 | exact h75 q.2)
                · try simp only [vP_0, vP_1, vP_n0, vP_n1, Classical.not_not] at h59
                  refine x_iload dX8_doClash_62 rfl ?_
                  refine x_if_eq (tgt := 82) dX8_doClash_64 (by decide) (fun h64 => ?_) (fun h64 => ?_)
                  · try simp only [vP_0, vP_1, vP_n0, vP_n1, Classical.not_not] at h64
                    refine x_iconst dX8_doClash_82 rfl ?_
                    refine x_istore_n (L' := [some _, some _, some _, some _, some _, some _, some _]) dX8_doClash_83 rfl (by decide) rfl ?_
                    first | refine x_iincN (L' := [some _, some _, some _, some _, some _, some _, some _]) dX8_doClash_84 rfl (by decide) (by unfold i32; omega) rfl ?_ | refine x_iinc (L' := [some _, some _, some _, some _, some _, some _, some _]) dX8_doClash_84 rfl (by decide) rfl ?_
                    refine x_goto (tgt := 5) dX8_doClash_87 (by decide) ?_
                    refine x_fgt (by repeat (first | exact trivial | refine ⟨rfl, ?_⟩)) (ih _ (by omega) (k + 1) _ rfl (by omega) (by omega) ?_)
                    rw [hy] at h33
                    first
                    | exact (vP_t ((clK_s h0).mpr (Or.inl (vP_n0.mp h33)))).symm
                    | exact (vP_t ((clK_s h0).mpr (Or.inr (Or.inl ⟨h38, h43⟩)))).symm
                    | exact (vP_t ((clK_s h0).mpr (Or.inr (Or.inr (Or.inl ⟨h48, h59⟩))))).symm
                    | exact (vP_t ((clK_s h0).mpr (Or.inr (Or.inr (Or.inr ⟨h64, h75⟩))))).symm
                    | (refine (vP_f fun q => ?_).symm
                       rcases (clK_s h0).mp q with q | q
                       · exact vP_0.mp h33 q
                       · rcases q with q | q | q
                         · first | exact h38 q.1 | exact h43 q.2
                         · first | exact h48 q.1 | exact h59 q.2
                         · first | exact h64 q.1 | exact h75 q.2)
                  · try simp only [vP_0, vP_1, vP_n0, vP_n1, Classical.not_not] at h64
                    refine x_aload_n dX8_doClash_67 rfl rfl ?_
                    refine x_iload_n dX8_doClash_68 rfl rfl ?_
                    refine x_iconst dX8_doClash_69 rfl ?_
                    refine x_iload dX8_doClash_70 rfl ?_
                    refine g_callI (vs := [_, _, _, _]) (d' := d - 1) rfl (s_X8_touches (by omega) hT (by first | exact hw | exact mciI (by omega) hw | exact mciI (by omega) (mciI (by omega) hw) | exact mciI (by omega) (mciI (by omega) (mciI (by omega) hw)) | exact mciI (by omega) (mciI (by omega) (mciI (by omega) (mciI (by omega) hw))) | exact mciC (by omega) hw) (hv.op _ (by omega) (by omega)) (by omega)) dX8_doClash_72 kX8_479 (by omega) (by decide) rfl (Nat.le_of_ble_eq_true rfl) (rcv_o (by first | assumption | exact hT.2.1) rfl) (fun x72 M72 h72 => ?_)
                    obtain ⟨e72, f72⟩ := h72
                    have f72' := f72.symm
                    subst f72'
                    subst e72
                    try simp (disch := omega) only [rdI_e, rdI_n, rdC_i, rdC_o, rdW, rdR, rdU_e, rdU_n, rdLW, Int.add_zero, hw]
                    refine x_if_eq (tgt := 82) dX8_doClash_75 (by decide) (fun h75 => ?_) (fun h75 => ?_)
                    · try simp only [vP_0, vP_1, vP_n0, vP_n1, Classical.not_not] at h75
                      refine x_iconst dX8_doClash_82 rfl ?_
                      refine x_istore_n (L' := [some _, some _, some _, some _, some _, some _, some _]) dX8_doClash_83 rfl (by decide) rfl ?_
                      first | refine x_iincN (L' := [some _, some _, some _, some _, some _, some _, some _]) dX8_doClash_84 rfl (by decide) (by unfold i32; omega) rfl ?_ | refine x_iinc (L' := [some _, some _, some _, some _, some _, some _, some _]) dX8_doClash_84 rfl (by decide) rfl ?_
                      refine x_goto (tgt := 5) dX8_doClash_87 (by decide) ?_
                      refine x_fgt (by repeat (first | exact trivial | refine ⟨rfl, ?_⟩)) (ih _ (by omega) (k + 1) _ rfl (by omega) (by omega) ?_)
                      rw [hy] at h33
                      first
                      | exact (vP_t ((clK_s h0).mpr (Or.inl (vP_n0.mp h33)))).symm
                      | exact (vP_t ((clK_s h0).mpr (Or.inr (Or.inl ⟨h38, h43⟩)))).symm
                      | exact (vP_t ((clK_s h0).mpr (Or.inr (Or.inr (Or.inl ⟨h48, h59⟩))))).symm
                      | exact (vP_t ((clK_s h0).mpr (Or.inr (Or.inr (Or.inr ⟨h64, h75⟩))))).symm
                      | (refine (vP_f fun q => ?_).symm
                         rcases (clK_s h0).mp q with q | q
                         · exact vP_0.mp h33 q
                         · rcases q with q | q | q
                           · first | exact h38 q.1 | exact h43 q.2
                           · first | exact h48 q.1 | exact h59 q.2
                           · first | exact h64 q.1 | exact h75 q.2)
                    · try simp only [vP_0, vP_1, vP_n0, vP_n1, Classical.not_not] at h75
                      refine x_iconst dX8_doClash_78 rfl ?_
                      refine x_goto (tgt := 83) dX8_doClash_79 (by decide) ?_
                      refine x_istore_n (L' := [some _, some _, some _, some _, some _, some _, some _]) dX8_doClash_83 rfl (by decide) rfl ?_
                      first | refine x_iincN (L' := [some _, some _, some _, some _, some _, some _, some _]) dX8_doClash_84 rfl (by decide) (by unfold i32; omega) rfl ?_ | refine x_iinc (L' := [some _, some _, some _, some _, some _, some _, some _]) dX8_doClash_84 rfl (by decide) rfl ?_
                      refine x_goto (tgt := 5) dX8_doClash_87 (by decide) ?_
                      refine x_fgt (by repeat (first | exact trivial | refine ⟨rfl, ?_⟩)) (ih _ (by omega) (k + 1) _ rfl (by omega) (by omega) ?_)
                      rw [hy] at h33
                      first
                      | exact (vP_t ((clK_s h0).mpr (Or.inl (vP_n0.mp h33)))).symm
                      | exact (vP_t ((clK_s h0).mpr (Or.inr (Or.inl ⟨h38, h43⟩)))).symm
                      | exact (vP_t ((clK_s h0).mpr (Or.inr (Or.inr (Or.inl ⟨h48, h59⟩))))).symm
                      | exact (vP_t ((clK_s h0).mpr (Or.inr (Or.inr (Or.inr ⟨h64, h75⟩))))).symm
                      | (refine (vP_f fun q => ?_).symm
                         rcases (clK_s h0).mp q with q | q
                         · exact vP_0.mp h33 q
                         · rcases q with q | q | q
                           · first | exact h38 q.1 | exact h43 q.2
                           · first | exact h48 q.1 | exact h59 q.2
                           · first | exact h64 q.1 | exact h75 q.2)
  refine x_iconst dX8_doClash_0 rfl ?_
  refine x_istore_n (L' := [some _, some _, some _, some _, none, none, none]) dX8_doClash_1 rfl (by decide) rfl ?_
  refine x_iconst dX8_doClash_2 rfl ?_
  refine x_istore (L' := [some _, some _, some _, some _, some _, none, none]) dX8_doClash_3 (by decide) rfl ?_
  exact loop _ 0 0 rfl (by omega) (by omega) (vP_f clK_0).symm
theorem s_X8_clash (hd : 15 ≤ d) (hP : TP M m v) : CS G d mX8_clash [dR m, dI a, dI b] M (postI fun x M1 => RD M m (if (0 ≤ a ∧ a < v 0) ∧ 0 ≤ b ∧ b < v 0 then (if a = b then 2 else 0) else 1) M1 ∧ (((0 ≤ a ∧ a < v 0) ∧ 0 ≤ b ∧ b < v 0) ∧ ¬ a = b → x = vP (clashV v a b))) := by
  obtain ⟨hT, hw, hA, hL, hK, hsk⟩ := id hP
  have hv := hA.1
  have hv0 := hv.1
  have hv8 := hv.n8
  have hT_ := hT; obtain ⟨p0, p1, ⟨c1, c2, c3, c4, c5, c6, c7, c8, c9, c10, c11, c12, c13, c14, c15⟩, ⟨t1, t2, t3, t4, t5, t6, t7, t8, t9, t10, t11, t12, t13, t14, t15⟩⟩ := hT_
  refine CS.mkQ (by decide) (Nat.le_of_ble_eq_true rfl) fun Q hQ => ?_
  refine x_aload_n dX8_clash_0 rfl rfl ?_
  refine x_iconst dX8_clash_1 rfl ?_
  refine g_putI (kI := 0) rfl dX8_clash_2 fX8_3_8 (by first | assumption | exact hT.2.1) ?_
  refine x_aload_n dX8_clash_5 rfl rfl ?_
  refine x_aload_n dX8_clash_6 rfl rfl ?_
  refine x_iload_n dX8_clash_7 rfl rfl ?_
  refine g_callI (vs := [_, _]) (d' := d - 1) rfl (s_X8_noOp (by omega) hT (by first | exact hw | exact mciI (by omega) hw | exact mciI (by omega) (mciI (by omega) hw) | exact mciI (by omega) (mciI (by omega) (mciI (by omega) hw)) | exact mciI (by omega) (mciI (by omega) (mciI (by omega) (mciI (by omega) hw))) | exact mciC (by omega) hw) (by omega)) dX8_clash_8 kX8_433 (by omega) (by decide) rfl (Nat.le_of_ble_eq_true rfl) (rcv_o (by first | assumption | exact hT.2.1) rfl) (fun x8 M8 h8 => ?_)
  obtain ⟨e8, f8⟩ := h8
  have f8' := f8.symm
  subst f8'
  subst e8
  try simp (disch := omega) only [rdI_e, rdI_n, rdC_i, rdC_o, rdW, rdR, rdU_e, rdU_n, rdLW, Int.add_zero, hw]
  refine x_if_ne (tgt := 22) dX8_clash_11 (by decide) (fun h11 => ?_) (fun h11 => ?_)
  · try simp only [vP_0, vP_1, vP_n0, vP_n1, Classical.not_not] at h11
    refine x_iconst dX8_clash_22 rfl ?_
    refine x_goto (tgt := 27) dX8_clash_23 (by decide) ?_
    refine x_iconst dX8_clash_27 rfl ?_
    refine g_callI (vs := [_, _, _]) (d' := d - 1) rfl (s_X8_throwsIf (by omega) hT (by first | omega | exact vP_r _)) dX8_clash_28 kX8_280 (by omega) (by decide) rfl (Nat.le_of_ble_eq_true rfl) (rcv_o (by first | assumption | exact hT.2.1) rfl) (fun x28 M28 h28 => ?_)
    obtain ⟨e28, r28, f28⟩ := h28
    have f28' := (f28.2 (by omega)).symm
    subst f28'
    subst e28
    refine x_if_ne (tgt := 65) dX8_clash_31 (by decide) (fun h31 => ?_) (fun h31 => ?_)
    · try simp only [vP_0, vP_1, vP_n0, vP_n1, Classical.not_not] at h31
      refine x_iconst dX8_clash_65 rfl ?_
      refine x_zreturn (by first | exact Or.inl rfl | exact Or.inr rfl | exact vB_r _ | exact vP_r _ | assumption | omega) rfl dX8_clash_66 ?_
      first
      | exact hQ _ _ ⟨_, rfl, by rw [if_neg (by omega)]; exact RD.t hP, fun q => by omega⟩
      | exact hQ _ _ ⟨_, rfl, by rw [if_pos (by omega), if_pos h37]; exact RD.t hP, fun q => absurd h37 q.2⟩
      | exact hQ _ _ ⟨_, rfl, by rw [if_pos (by omega), if_neg h37]; exact RD.r hP, fun q => (vP_t h58).symm⟩
      | exact hQ _ _ ⟨_, rfl, by rw [if_pos (by omega), if_neg h37]; exact RD.r hP, fun q => (vP_f h58).symm⟩
    · exact absurd h31 (by decide)
  · try simp only [vP_0, vP_1, vP_n0, vP_n1, Classical.not_not] at h11
    refine x_aload_n dX8_clash_14 rfl rfl ?_
    refine x_iload_n dX8_clash_15 rfl rfl ?_
    refine g_callI (vs := [_, _]) (d' := d - 1) rfl (s_X8_noOp (by omega) hT (by first | exact hw | exact mciI (by omega) hw | exact mciI (by omega) (mciI (by omega) hw) | exact mciI (by omega) (mciI (by omega) (mciI (by omega) hw)) | exact mciI (by omega) (mciI (by omega) (mciI (by omega) (mciI (by omega) hw))) | exact mciC (by omega) hw) (by omega)) dX8_clash_16 kX8_433 (by omega) (by decide) rfl (Nat.le_of_ble_eq_true rfl) (rcv_o (by first | assumption | exact hT.2.1) rfl) (fun x16 M16 h16 => ?_)
    obtain ⟨e16, f16⟩ := h16
    have f16' := f16.symm
    subst f16'
    subst e16
    try simp (disch := omega) only [rdI_e, rdI_n, rdC_i, rdC_o, rdW, rdR, rdU_e, rdU_n, rdLW, Int.add_zero, hw]
    refine x_if_eq (tgt := 26) dX8_clash_19 (by decide) (fun h19 => ?_) (fun h19 => ?_)
    · try simp only [vP_0, vP_1, vP_n0, vP_n1, Classical.not_not] at h19
      refine x_iconst dX8_clash_26 rfl ?_
      refine x_iconst dX8_clash_27 rfl ?_
      refine g_callI (vs := [_, _, _]) (d' := d - 1) rfl (s_X8_throwsIf (by omega) hT (by first | omega | exact vP_r _)) dX8_clash_28 kX8_280 (by omega) (by decide) rfl (Nat.le_of_ble_eq_true rfl) (rcv_o (by first | assumption | exact hT.2.1) rfl) (fun x28 M28 h28 => ?_)
      obtain ⟨e28, r28, f28⟩ := h28
      have f28' := (f28.1 (by omega)).symm
      subst f28'
      subst e28
      refine x_if_ne (tgt := 65) dX8_clash_31 (by decide) (fun h31 => ?_) (fun h31 => ?_)
      · exact absurd h31 (by decide)
      · try simp only [vP_0, vP_1, vP_n0, vP_n1, Classical.not_not] at h31
        refine x_aload_n dX8_clash_34 rfl rfl ?_
        refine x_iload_n dX8_clash_35 rfl rfl ?_
        refine x_iload_n dX8_clash_36 rfl rfl ?_
        refine x_icmp_ne (tgt := 44) dX8_clash_37 (by decide) (fun h37 => ?_) (fun h37 => ?_)
        · refine x_iconst dX8_clash_44 rfl ?_
          refine x_iconst dX8_clash_45 rfl ?_
          refine g_callI (vs := [_, _, _]) (d' := d - 1) rfl (s_X8_throwsIf (by omega) hT (by first | omega | exact vP_r _)) dX8_clash_46 kX8_280 (by omega) (by decide) rfl (Nat.le_of_ble_eq_true rfl) (rcv_o (by first | assumption | exact hT.2.1) rfl) (fun x46 M46 h46 => ?_)
          obtain ⟨e46, r46, f46⟩ := h46
          have f46' := (f46.1 (by omega)).symm
          subst f46'
          subst e46
          refine x_if_ne (tgt := 65) dX8_clash_49 (by decide) (fun h49 => ?_) (fun h49 => ?_)
          · exact absurd h49 (by decide)
          · try simp only [vP_0, vP_1, vP_n0, vP_n1, Classical.not_not] at h49
            refine x_aload_n dX8_clash_52 rfl rfl ?_
            refine x_iload_n dX8_clash_53 rfl rfl ?_
            refine x_iload_n dX8_clash_54 rfl rfl ?_
            refine g_callI (vs := [_, _, _]) (d' := d - 1) rfl (s_X8_doClash (by omega) hT (by first | exact hw | exact mciI (by omega) hw | exact mciI (by omega) (mciI (by omega) hw) | exact mciI (by omega) (mciI (by omega) (mciI (by omega) hw)) | exact mciI (by omega) (mciI (by omega) (mciI (by omega) (mciI (by omega) hw))) | exact mciC (by omega) hw) hv (by omega) (by omega)) dX8_clash_55 kX8_482 (by omega) (by decide) rfl (Nat.le_of_ble_eq_true rfl) (rcv_o (by first | assumption | exact hT.2.1) rfl) (fun x55 M55 h55 => ?_)
            obtain ⟨e55, f55⟩ := h55
            have f55' := f55.symm
            subst f55'
            subst e55
            try simp (disch := omega) only [rdI_e, rdI_n, rdC_i, rdC_o, rdW, rdR, rdU_e, rdU_n, rdLW, Int.add_zero, hw]
            refine x_if_eq (tgt := 65) dX8_clash_58 (by decide) (fun h58 => ?_) (fun h58 => ?_)
            · try simp only [vP_0, vP_1, vP_n0, vP_n1, Classical.not_not] at h58
              refine x_iconst dX8_clash_65 rfl ?_
              refine x_zreturn (by first | exact Or.inl rfl | exact Or.inr rfl | exact vB_r _ | exact vP_r _ | assumption | omega) rfl dX8_clash_66 ?_
              first
              | exact hQ _ _ ⟨_, rfl, by rw [if_neg (by omega)]; exact RD.t hP, fun q => by omega⟩
              | exact hQ _ _ ⟨_, rfl, by rw [if_pos (by omega), if_pos h37]; exact RD.t hP, fun q => absurd h37 q.2⟩
              | exact hQ _ _ ⟨_, rfl, by rw [if_pos (by omega), if_neg h37]; exact RD.r hP, fun q => (vP_t h58).symm⟩
              | exact hQ _ _ ⟨_, rfl, by rw [if_pos (by omega), if_neg h37]; exact RD.r hP, fun q => (vP_f h58).symm⟩
            · try simp only [vP_0, vP_1, vP_n0, vP_n1, Classical.not_not] at h58
              refine x_iconst dX8_clash_61 rfl ?_
              refine x_goto (tgt := 66) dX8_clash_62 (by decide) ?_
              refine x_zreturn (by first | exact Or.inl rfl | exact Or.inr rfl | exact vB_r _ | exact vP_r _ | assumption | omega) rfl dX8_clash_66 ?_
              first
              | exact hQ _ _ ⟨_, rfl, by rw [if_neg (by omega)]; exact RD.t hP, fun q => by omega⟩
              | exact hQ _ _ ⟨_, rfl, by rw [if_pos (by omega), if_pos h37]; exact RD.t hP, fun q => absurd h37 q.2⟩
              | exact hQ _ _ ⟨_, rfl, by rw [if_pos (by omega), if_neg h37]; exact RD.r hP, fun q => (vP_t h58).symm⟩
              | exact hQ _ _ ⟨_, rfl, by rw [if_pos (by omega), if_neg h37]; exact RD.r hP, fun q => (vP_f h58).symm⟩
        · refine x_iconst dX8_clash_40 rfl ?_
          refine x_goto (tgt := 45) dX8_clash_41 (by decide) ?_
          refine x_iconst dX8_clash_45 rfl ?_
          refine g_callI (vs := [_, _, _]) (d' := d - 1) rfl (s_X8_throwsIf (by omega) hT (by first | omega | exact vP_r _)) dX8_clash_46 kX8_280 (by omega) (by decide) rfl (Nat.le_of_ble_eq_true rfl) (rcv_o (by first | assumption | exact hT.2.1) rfl) (fun x46 M46 h46 => ?_)
          obtain ⟨e46, r46, f46⟩ := h46
          have f46' := (f46.2 (by omega)).symm
          subst f46'
          subst e46
          refine x_if_ne (tgt := 65) dX8_clash_49 (by decide) (fun h49 => ?_) (fun h49 => ?_)
          · try simp only [vP_0, vP_1, vP_n0, vP_n1, Classical.not_not] at h49
            refine x_iconst dX8_clash_65 rfl ?_
            refine x_zreturn (by first | exact Or.inl rfl | exact Or.inr rfl | exact vB_r _ | exact vP_r _ | assumption | omega) rfl dX8_clash_66 ?_
            first
            | exact hQ _ _ ⟨_, rfl, by rw [if_neg (by omega)]; exact RD.t hP, fun q => by omega⟩
            | exact hQ _ _ ⟨_, rfl, by rw [if_pos (by omega), if_pos h37]; exact RD.t hP, fun q => absurd h37 q.2⟩
            | exact hQ _ _ ⟨_, rfl, by rw [if_pos (by omega), if_neg h37]; exact RD.r hP, fun q => (vP_t h58).symm⟩
            | exact hQ _ _ ⟨_, rfl, by rw [if_pos (by omega), if_neg h37]; exact RD.r hP, fun q => (vP_f h58).symm⟩
          · exact absurd h49 (by decide)
    · try simp only [vP_0, vP_1, vP_n0, vP_n1, Classical.not_not] at h19
      refine x_iconst dX8_clash_22 rfl ?_
      refine x_goto (tgt := 27) dX8_clash_23 (by decide) ?_
      refine x_iconst dX8_clash_27 rfl ?_
      refine g_callI (vs := [_, _, _]) (d' := d - 1) rfl (s_X8_throwsIf (by omega) hT (by first | omega | exact vP_r _)) dX8_clash_28 kX8_280 (by omega) (by decide) rfl (Nat.le_of_ble_eq_true rfl) (rcv_o (by first | assumption | exact hT.2.1) rfl) (fun x28 M28 h28 => ?_)
      obtain ⟨e28, r28, f28⟩ := h28
      have f28' := (f28.2 (by omega)).symm
      subst f28'
      subst e28
      refine x_if_ne (tgt := 65) dX8_clash_31 (by decide) (fun h31 => ?_) (fun h31 => ?_)
      · try simp only [vP_0, vP_1, vP_n0, vP_n1, Classical.not_not] at h31
        refine x_iconst dX8_clash_65 rfl ?_
        refine x_zreturn (by first | exact Or.inl rfl | exact Or.inr rfl | exact vB_r _ | exact vP_r _ | assumption | omega) rfl dX8_clash_66 ?_
        first
        | exact hQ _ _ ⟨_, rfl, by rw [if_neg (by omega)]; exact RD.t hP, fun q => by omega⟩
        | exact hQ _ _ ⟨_, rfl, by rw [if_pos (by omega), if_pos h37]; exact RD.t hP, fun q => absurd h37 q.2⟩
        | exact hQ _ _ ⟨_, rfl, by rw [if_pos (by omega), if_neg h37]; exact RD.r hP, fun q => (vP_t h58).symm⟩
        | exact hQ _ _ ⟨_, rfl, by rw [if_pos (by omega), if_neg h37]; exact RD.r hP, fun q => (vP_f h58).symm⟩
      · exact absurd h31 (by decide)
theorem s_X8_areTwins (hd : 13 ≤ d) (hT : TwS (msh M) (mcr M) m) (hw : mci M (m + 1) = v) (hv : okB v) (ha : 0 ≤ a ∧ a < v 0) (hb : 0 ≤ b ∧ b < v 0) : CS G d mX8_areTwins [dR m, dI a, dI b] M (pur M (vP (twinV v a b))) := by
  have hv8 := hv.n8
  have oa := (hv.op a ha.1 ha.2).1
  have ob := (hv.op b hb.1 hb.2).1
  have ea : v (30 + 9 * a) = opN v a := rfl
  have eb : v (30 + 9 * b) = opN v b := rfl
  have ga : v (30 + 9 * a + 1) = opG v a := congrArg v (by omega)
  have gb : v (30 + 9 * b + 1) = opG v b := congrArg v (by omega)
  refine CS.mkQ (by decide) (Nat.le_of_ble_eq_true rfl) fun Q hQ => ?_
  have loop : ∀ (t : Nat) (k y : Int), (opN v a - k).toNat = t → (0 ≤ k) → (k ≤ opN v a) → (y = vP (opN v a = opN v b ∧ opG v a = opG v b ∧ ∀ i, 0 ≤ i → i < k → opK v a i = opK v b i ∧ opX v a i = opX v b i)) → WP G d mX8_areTwins 39 [some (dR m), some (dI a), some (dI b), some (dI y), some (dI k)] [] (M) Q := by
    intro t
    induction t using Nat.strongRecOn with
    | _ t ih =>
      intro k y ht h0 h1 hy
      have hy01 : y = 0 ∨ y = 1 := by rw [hy]; exact vP_r _
      by_cases hgo : k < opN v a ∧ y = 1
      · have hq := vP_1.mp (hy.symm.trans hgo.2)
        have step : ∀ P : Prop, (P ↔ (opK v a k = opK v b k ∧ opX v a k = opX v b k)) → vP P = vP (opN v a = opN v b ∧ opG v a = opG v b ∧ ∀ i, 0 ≤ i → i < k + 1 → opK v a i = opK v b i ∧ opX v a i = opX v b i) := fun P hP => vP_c ⟨fun q => ⟨hq.1, hq.2.1, fun i i0 i1 => by
            by_cases e : i = k
            · subst e; exact hP.mp q
            · exact hq.2.2 i i0 (by omega)⟩, fun q => hP.mpr (q.2.2 k h0 (by omega))⟩
        refine x_iload dX8_areTwins_39 rfl ?_
        refine x_aload_n dX8_areTwins_41 rfl rfl ?_
        refine x_iload_n dX8_areTwins_42 rfl rfl ?_
        refine x_iconst dX8_areTwins_43 rfl ?_
        refine g_callI (vs := [_, _, _]) (d' := d - 1) rfl (s_X8_of (by omega) hT (by first | exact hw | exact mciI (by omega) hw | exact mciI (by omega) (mciI (by omega) hw) | exact mciI (by omega) (mciI (by omega) (mciI (by omega) hw)) | exact mciI (by omega) (mciI (by omega) (mciI (by omega) (mciI (by omega) hw))) | exact mciC (by omega) hw) (by omega) (by omega)) dX8_areTwins_44 kX8_78 (by omega) (by decide) rfl (Nat.le_of_ble_eq_true rfl) (rcv_o (by first | assumption | exact hT.2.1) rfl) (fun x44 M44 h44 => ?_)
        obtain ⟨e44, f44⟩ := h44
        have f44' := f44.symm
        subst f44'
        subst e44
        try simp (disch := omega) only [rdI_e, rdI_n, rdC_i, rdC_o, rdW, rdR, rdU_e, rdU_n, rdLW, Int.add_zero, ea, eb]
        refine x_icmp_ge (tgt := 100) dX8_areTwins_47 (by decide) (fun h47 => ?_) (fun h47 => ?_)
        · omega
        · refine x_iload_n dX8_areTwins_50 rfl rfl ?_
          refine x_if_eq (tgt := 100) dX8_areTwins_51 (by decide) (fun h51 => ?_) (fun h51 => ?_)
          · omega
          · refine x_aload_n dX8_areTwins_54 rfl rfl ?_
            refine x_iload_n dX8_areTwins_55 rfl rfl ?_
            refine x_iload dX8_areTwins_56 rfl ?_
            refine g_callI (vs := [_, _, _]) (d' := d - 1) rfl (s_X8_kindOf (by omega) hT (by first | exact hw | exact mciI (by omega) hw | exact mciI (by omega) (mciI (by omega) hw) | exact mciI (by omega) (mciI (by omega) (mciI (by omega) hw)) | exact mciI (by omega) (mciI (by omega) (mciI (by omega) (mciI (by omega) hw))) | exact mciC (by omega) hw) (by omega) (by omega)) dX8_areTwins_58 kX8_298 (by omega) (by decide) rfl (Nat.le_of_ble_eq_true rfl) (rcv_o (by first | assumption | exact hT.2.1) rfl) (fun x58 M58 h58 => ?_)
            obtain ⟨e58, f58⟩ := h58
            have f58' := f58.symm
            subst f58'
            subst e58
            try simp (disch := omega) only [rdI_e, rdI_n, rdC_i, rdC_o, rdW, rdR, rdU_e, rdU_n, rdLW, Int.add_zero, ea, eb]
            refine x_aload_n dX8_areTwins_61 rfl rfl ?_
            refine x_iload_n dX8_areTwins_62 rfl rfl ?_
            refine x_iload dX8_areTwins_63 rfl ?_
            refine g_callI (vs := [_, _, _]) (d' := d - 1) rfl (s_X8_kindOf (by omega) hT (by first | exact hw | exact mciI (by omega) hw | exact mciI (by omega) (mciI (by omega) hw) | exact mciI (by omega) (mciI (by omega) (mciI (by omega) hw)) | exact mciI (by omega) (mciI (by omega) (mciI (by omega) (mciI (by omega) hw))) | exact mciC (by omega) hw) (by omega) (by omega)) dX8_areTwins_65 kX8_298 (by omega) (by decide) rfl (Nat.le_of_ble_eq_true rfl) (rcv_o (by first | assumption | exact hT.2.1) rfl) (fun x65 M65 h65 => ?_)
            obtain ⟨e65, f65⟩ := h65
            have f65' := f65.symm
            subst f65'
            subst e65
            try simp (disch := omega) only [rdI_e, rdI_n, rdC_i, rdC_o, rdW, rdR, rdU_e, rdU_n, rdLW, Int.add_zero, ea, eb]
            refine x_icmp_ne (tgt := 92) dX8_areTwins_68 (by decide) (fun h68 => ?_) (fun h68 => ?_)
            · refine x_iconst dX8_areTwins_92 rfl ?_
              refine x_istore_n (L' := [some _, some _, some _, some _, some _]) dX8_areTwins_93 rfl (by decide) rfl ?_
              first | refine x_iincN (L' := [some _, some _, some _, some _, some _]) dX8_areTwins_94 rfl (by decide) (by unfold i32; omega) rfl ?_ | refine x_iinc (L' := [some _, some _, some _, some _, some _]) dX8_areTwins_94 rfl (by decide) rfl ?_
              refine x_goto (tgt := 39) dX8_areTwins_97 (by decide) ?_
              refine ih _ (by omega) (k + 1) _ rfl (by omega) (by omega) ?_
              rw [← step _ Iff.rfl]
              first
              | exact (vP_t ⟨h68, h85⟩).symm
              | exact (vP_f fun q => h68 q.1).symm
              | exact (vP_f fun q => h85 q.2).symm
            · refine x_aload_n dX8_areTwins_71 rfl rfl ?_
              refine x_iload_n dX8_areTwins_72 rfl rfl ?_
              refine x_iload dX8_areTwins_73 rfl ?_
              refine g_callI (vs := [_, _, _]) (d' := d - 1) rfl (s_X8_numberOf (by omega) hT (by first | exact hw | exact mciI (by omega) hw | exact mciI (by omega) (mciI (by omega) hw) | exact mciI (by omega) (mciI (by omega) (mciI (by omega) hw)) | exact mciI (by omega) (mciI (by omega) (mciI (by omega) (mciI (by omega) hw))) | exact mciC (by omega) hw) (by omega) (by omega)) dX8_areTwins_75 kX8_301 (by omega) (by decide) rfl (Nat.le_of_ble_eq_true rfl) (rcv_o (by first | assumption | exact hT.2.1) rfl) (fun x75 M75 h75 => ?_)
              obtain ⟨e75, f75⟩ := h75
              have f75' := f75.symm
              subst f75'
              subst e75
              try simp (disch := omega) only [rdI_e, rdI_n, rdC_i, rdC_o, rdW, rdR, rdU_e, rdU_n, rdLW, Int.add_zero, ea, eb]
              refine x_aload_n dX8_areTwins_78 rfl rfl ?_
              refine x_iload_n dX8_areTwins_79 rfl rfl ?_
              refine x_iload dX8_areTwins_80 rfl ?_
              refine g_callI (vs := [_, _, _]) (d' := d - 1) rfl (s_X8_numberOf (by omega) hT (by first | exact hw | exact mciI (by omega) hw | exact mciI (by omega) (mciI (by omega) hw) | exact mciI (by omega) (mciI (by omega) (mciI (by omega) hw)) | exact mciI (by omega) (mciI (by omega) (mciI (by omega) (mciI (by omega) hw))) | exact mciC (by omega) hw) (by omega) (by omega)) dX8_areTwins_82 kX8_301 (by omega) (by decide) rfl (Nat.le_of_ble_eq_true rfl) (rcv_o (by first | assumption | exact hT.2.1) rfl) (fun x82 M82 h82 => ?_)
              obtain ⟨e82, f82⟩ := h82
              have f82' := f82.symm
              subst f82'
              subst e82
              try simp (disch := omega) only [rdI_e, rdI_n, rdC_i, rdC_o, rdW, rdR, rdU_e, rdU_n, rdLW, Int.add_zero, ea, eb]
              refine x_icmp_ne (tgt := 92) dX8_areTwins_85 (by decide) (fun h85 => ?_) (fun h85 => ?_)
              · refine x_iconst dX8_areTwins_92 rfl ?_
                refine x_istore_n (L' := [some _, some _, some _, some _, some _]) dX8_areTwins_93 rfl (by decide) rfl ?_
                first | refine x_iincN (L' := [some _, some _, some _, some _, some _]) dX8_areTwins_94 rfl (by decide) (by unfold i32; omega) rfl ?_ | refine x_iinc (L' := [some _, some _, some _, some _, some _]) dX8_areTwins_94 rfl (by decide) rfl ?_
                refine x_goto (tgt := 39) dX8_areTwins_97 (by decide) ?_
                refine ih _ (by omega) (k + 1) _ rfl (by omega) (by omega) ?_
                rw [← step _ Iff.rfl]
                first
                | exact (vP_t ⟨h68, h85⟩).symm
                | exact (vP_f fun q => h68 q.1).symm
                | exact (vP_f fun q => h85 q.2).symm
              · refine x_iconst dX8_areTwins_88 rfl ?_
                refine x_goto (tgt := 93) dX8_areTwins_89 (by decide) ?_
                refine x_istore_n (L' := [some _, some _, some _, some _, some _]) dX8_areTwins_93 rfl (by decide) rfl ?_
                first | refine x_iincN (L' := [some _, some _, some _, some _, some _]) dX8_areTwins_94 rfl (by decide) (by unfold i32; omega) rfl ?_ | refine x_iinc (L' := [some _, some _, some _, some _, some _]) dX8_areTwins_94 rfl (by decide) rfl ?_
                refine x_goto (tgt := 39) dX8_areTwins_97 (by decide) ?_
                refine ih _ (by omega) (k + 1) _ rfl (by omega) (by omega) ?_
                rw [← step _ Iff.rfl]
                first
                | exact (vP_t ⟨h68, h85⟩).symm
                | exact (vP_f fun q => h68 q.1).symm
                | exact (vP_f fun q => h85 q.2).symm
      · refine x_iload dX8_areTwins_39 rfl ?_
        refine x_aload_n dX8_areTwins_41 rfl rfl ?_
        refine x_iload_n dX8_areTwins_42 rfl rfl ?_
        refine x_iconst dX8_areTwins_43 rfl ?_
        refine g_callI (vs := [_, _, _]) (d' := d - 1) rfl (s_X8_of (by omega) hT (by first | exact hw | exact mciI (by omega) hw | exact mciI (by omega) (mciI (by omega) hw) | exact mciI (by omega) (mciI (by omega) (mciI (by omega) hw)) | exact mciI (by omega) (mciI (by omega) (mciI (by omega) (mciI (by omega) hw))) | exact mciC (by omega) hw) (by omega) (by omega)) dX8_areTwins_44 kX8_78 (by omega) (by decide) rfl (Nat.le_of_ble_eq_true rfl) (rcv_o (by first | assumption | exact hT.2.1) rfl) (fun x44 M44 h44 => ?_)
        obtain ⟨e44, f44⟩ := h44
        have f44' := f44.symm
        subst f44'
        subst e44
        try simp (disch := omega) only [rdI_e, rdI_n, rdC_i, rdC_o, rdW, rdR, rdU_e, rdU_n, rdLW, Int.add_zero, ea, eb]
        refine x_icmp_ge (tgt := 100) dX8_areTwins_47 (by decide) (fun h47 => ?_) (fun h47 => ?_)
        · refine x_iload_n dX8_areTwins_100 rfl rfl ?_
          refine x_zreturn (by exact hy01) rfl dX8_areTwins_101 ?_
          refine hQ _ _ ⟨_, rfl, ?_, rfl⟩
          rw [hy]
          first
          | (rw [show k = opN v a by omega]; rfl)
          | (rw [h51] at hy
             have hq := vP_0.mp hy.symm
             rw [vP_f hq]
             exact (vP_f fun q => hq ⟨q.1, q.2.1, fun i i0 i1 => q.2.2 i i0 (by omega)⟩).symm)
        · refine x_iload_n dX8_areTwins_50 rfl rfl ?_
          refine x_if_eq (tgt := 100) dX8_areTwins_51 (by decide) (fun h51 => ?_) (fun h51 => ?_)
          · refine x_iload_n dX8_areTwins_100 rfl rfl ?_
            refine x_zreturn (by exact hy01) rfl dX8_areTwins_101 ?_
            refine hQ _ _ ⟨_, rfl, ?_, rfl⟩
            rw [hy]
            first
            | (rw [show k = opN v a by omega]; rfl)
            | (rw [h51] at hy
               have hq := vP_0.mp hy.symm
               rw [vP_f hq]
               exact (vP_f fun q => hq ⟨q.1, q.2.1, fun i i0 i1 => q.2.2 i i0 (by omega)⟩).symm)
          · omega
  refine x_aload_n dX8_areTwins_0 rfl rfl ?_
  refine x_iload_n dX8_areTwins_1 rfl rfl ?_
  refine x_iconst dX8_areTwins_2 rfl ?_
  refine g_callI (vs := [_, _, _]) (d' := d - 1) rfl (s_X8_of (by omega) hT (by first | exact hw | exact mciI (by omega) hw | exact mciI (by omega) (mciI (by omega) hw) | exact mciI (by omega) (mciI (by omega) (mciI (by omega) hw)) | exact mciI (by omega) (mciI (by omega) (mciI (by omega) (mciI (by omega) hw))) | exact mciC (by omega) hw) (by omega) (by omega)) dX8_areTwins_3 kX8_78 (by omega) (by decide) rfl (Nat.le_of_ble_eq_true rfl) (rcv_o (by first | assumption | exact hT.2.1) rfl) (fun x3 M3 h3 => ?_)
  obtain ⟨e3, f3⟩ := h3
  have f3' := f3.symm
  subst f3'
  subst e3
  try simp (disch := omega) only [rdI_e, rdI_n, rdC_i, rdC_o, rdW, rdR, rdU_e, rdU_n, rdLW, Int.add_zero, ea, eb, ga, gb]
  refine x_aload_n dX8_areTwins_6 rfl rfl ?_
  refine x_iload_n dX8_areTwins_7 rfl rfl ?_
  refine x_iconst dX8_areTwins_8 rfl ?_
  refine g_callI (vs := [_, _, _]) (d' := d - 1) rfl (s_X8_of (by omega) hT (by first | exact hw | exact mciI (by omega) hw | exact mciI (by omega) (mciI (by omega) hw) | exact mciI (by omega) (mciI (by omega) (mciI (by omega) hw)) | exact mciI (by omega) (mciI (by omega) (mciI (by omega) (mciI (by omega) hw))) | exact mciC (by omega) hw) (by omega) (by omega)) dX8_areTwins_9 kX8_78 (by omega) (by decide) rfl (Nat.le_of_ble_eq_true rfl) (rcv_o (by first | assumption | exact hT.2.1) rfl) (fun x9 M9 h9 => ?_)
  obtain ⟨e9, f9⟩ := h9
  have f9' := f9.symm
  subst f9'
  subst e9
  try simp (disch := omega) only [rdI_e, rdI_n, rdC_i, rdC_o, rdW, rdR, rdU_e, rdU_n, rdLW, Int.add_zero, ea, eb, ga, gb]
  refine x_icmp_ne (tgt := 34) dX8_areTwins_12 (by decide) (fun h12 => ?_) (fun h12 => ?_)
  · refine x_iconst dX8_areTwins_34 rfl ?_
    refine x_istore_n (L' := [some _, some _, some _, some _, none]) dX8_areTwins_35 rfl (by decide) rfl ?_
    refine x_iconst dX8_areTwins_36 rfl ?_
    refine x_istore (L' := [some _, some _, some _, some _, some _]) dX8_areTwins_37 (by decide) rfl ?_
    refine loop _ 0 _ rfl (by omega) (by omega) ?_
    first
    | exact (vP_t ⟨h12, h27, fun i _ _ => by omega⟩).symm
    | exact (vP_f fun q => h12 q.1).symm
    | exact (vP_f fun q => h27 q.2.1).symm
  · refine x_aload_n dX8_areTwins_15 rfl rfl ?_
    refine x_iload_n dX8_areTwins_16 rfl rfl ?_
    refine x_iconst dX8_areTwins_17 rfl ?_
    refine g_callI (vs := [_, _, _]) (d' := d - 1) rfl (s_X8_of (by omega) hT (by first | exact hw | exact mciI (by omega) hw | exact mciI (by omega) (mciI (by omega) hw) | exact mciI (by omega) (mciI (by omega) (mciI (by omega) hw)) | exact mciI (by omega) (mciI (by omega) (mciI (by omega) (mciI (by omega) hw))) | exact mciC (by omega) hw) (by omega) (by omega)) dX8_areTwins_18 kX8_78 (by omega) (by decide) rfl (Nat.le_of_ble_eq_true rfl) (rcv_o (by first | assumption | exact hT.2.1) rfl) (fun x18 M18 h18 => ?_)
    obtain ⟨e18, f18⟩ := h18
    have f18' := f18.symm
    subst f18'
    subst e18
    try simp (disch := omega) only [rdI_e, rdI_n, rdC_i, rdC_o, rdW, rdR, rdU_e, rdU_n, rdLW, Int.add_zero, ea, eb, ga, gb]
    refine x_aload_n dX8_areTwins_21 rfl rfl ?_
    refine x_iload_n dX8_areTwins_22 rfl rfl ?_
    refine x_iconst dX8_areTwins_23 rfl ?_
    refine g_callI (vs := [_, _, _]) (d' := d - 1) rfl (s_X8_of (by omega) hT (by first | exact hw | exact mciI (by omega) hw | exact mciI (by omega) (mciI (by omega) hw) | exact mciI (by omega) (mciI (by omega) (mciI (by omega) hw)) | exact mciI (by omega) (mciI (by omega) (mciI (by omega) (mciI (by omega) hw))) | exact mciC (by omega) hw) (by omega) (by omega)) dX8_areTwins_24 kX8_78 (by omega) (by decide) rfl (Nat.le_of_ble_eq_true rfl) (rcv_o (by first | assumption | exact hT.2.1) rfl) (fun x24 M24 h24 => ?_)
    obtain ⟨e24, f24⟩ := h24
    have f24' := f24.symm
    subst f24'
    subst e24
    try simp (disch := omega) only [rdI_e, rdI_n, rdC_i, rdC_o, rdW, rdR, rdU_e, rdU_n, rdLW, Int.add_zero, ea, eb, ga, gb]
    refine x_icmp_ne (tgt := 34) dX8_areTwins_27 (by decide) (fun h27 => ?_) (fun h27 => ?_)
    · refine x_iconst dX8_areTwins_34 rfl ?_
      refine x_istore_n (L' := [some _, some _, some _, some _, none]) dX8_areTwins_35 rfl (by decide) rfl ?_
      refine x_iconst dX8_areTwins_36 rfl ?_
      refine x_istore (L' := [some _, some _, some _, some _, some _]) dX8_areTwins_37 (by decide) rfl ?_
      refine loop _ 0 _ rfl (by omega) (by omega) ?_
      first
      | exact (vP_t ⟨h12, h27, fun i _ _ => by omega⟩).symm
      | exact (vP_f fun q => h12 q.1).symm
      | exact (vP_f fun q => h27 q.2.1).symm
    · refine x_iconst dX8_areTwins_30 rfl ?_
      refine x_goto (tgt := 35) dX8_areTwins_31 (by decide) ?_
      refine x_istore_n (L' := [some _, some _, some _, some _, none]) dX8_areTwins_35 rfl (by decide) rfl ?_
      refine x_iconst dX8_areTwins_36 rfl ?_
      refine x_istore (L' := [some _, some _, some _, some _, some _]) dX8_areTwins_37 (by decide) rfl ?_
      refine loop _ 0 _ rfl (by omega) (by omega) ?_
      first
      | exact (vP_t ⟨h12, h27, fun i _ _ => by omega⟩).symm
      | exact (vP_f fun q => h12 q.1).symm
      | exact (vP_f fun q => h27 q.2.1).symm
theorem twinC_r (v : Vw) (a : Int) : ∀ t : Nat, 0 ≤ twinC v a t ∧ twinC v a t ≤ t := by
  intro t
  induction t with
  | zero => exact ⟨Int.le_refl 0, Int.le_refl 0⟩
  | succ t ih =>
    have := vP_nn (p := twinV v a t)
    unfold twinC
    omega
theorem twinT_r (v : Vw) : ∀ t : Nat, t ≤ 8 → 0 ≤ twinT v t ∧ twinT v t ≤ 8 * t := by
  intro t
  induction t with
  | zero => intro _; exact ⟨Int.le_refl 0, Int.le_refl 0⟩
  | succ t ih =>
    intro h
    have := ih (by omega)
    have := twinC_r v t t
    unfold twinT
    omega
theorem s_X8_twins (hd : 15 ≤ d) (hP : TP M m v) : CS G d mX8_twins [dR m] M (postI fun x M1 => RD M m 0 M1 ∧ x = twinsV v) := by
  obtain ⟨hT, hw, hA, hL, hK, hsk⟩ := id hP
  have hv := hA.1
  have hv0 := hv.1
  have hT_ := hT; obtain ⟨p0, p1, ⟨c1, c2, c3, c4, c5, c6, c7, c8, c9, c10, c11, c12, c13, c14, c15⟩, ⟨t1, t2, t3, t4, t5, t6, t7, t8, t9, t10, t11, t12, t13, t14, t15⟩⟩ := hT_
  refine CS.mkQ (by decide) (Nat.le_of_ble_eq_true rfl) fun Q hQ => ?_
  have loop : ∀ (t : Nat) (a x : Int), (v 0 - a).toNat = t → (0 ≤ a) → (a ≤ v 0) → (x = twinT v a.toNat) → WP G d mX8_twins 9 [some (dR m), some (dI x), some (dI a), none] [] (mI M m 0 0) Q := by
    intro t
    induction t using Nat.strongRecOn with
    | _ t ih =>
      intro a x ht a0 a1 hx
      have hr := twinT_r v a.toNat (by omega)
      by_cases ha : a < v 0
      · skip
        have inner : ∀ (t2 : Nat) (b y : Int), (a - b).toNat = t2 → (0 ≤ b) → (b ≤ a) → (y = twinT v a.toNat + twinC v a b.toNat) → WP G d mX8_twins 19 [some (dR m), some (dI y), some (dI a), some (dI b)] [] (mI M m 0 0) Q := by
          intro t2
          induction t2 using Nat.strongRecOn with
          | _ t2 ih2 =>
            intro b y ht2 b0 b1 hy
            have hr2 := twinC_r v a b.toNat
            have es : twinC v a (b + 1).toNat = twinC v a b.toNat + vP (twinV v a b) := by
              rw [show (b + 1).toNat = b.toNat + 1 by omega]
              show twinC v a b.toNat + vP (twinV v a ((b.toNat : Nat) : Int)) = _
              rw [show ((b.toNat : Nat) : Int) = b by omega]
            refine x_iload_n dX8_twins_19 rfl rfl ?_
            refine x_iload_n dX8_twins_20 rfl rfl ?_
            refine x_icmp_ge (tgt := 47) dX8_twins_21 (by decide) (fun h21 => ?_) (fun h21 => ?_)
            · first | refine x_iincN (L' := [some _, some _, some _, some _]) dX8_twins_47 rfl (by decide) (by unfold i32; omega) rfl ?_ | refine x_iinc (L' := [some _, some _, some _, some _]) dX8_twins_47 rfl (by decide) rfl ?_
              refine x_goto (tgt := 9) dX8_twins_50 (by decide) ?_
              refine x_fgt (L' := [some (dR m), some (dI y), some (dI (a + 1)), none]) (by simp [subL]) (ih _ (by omega) (a + 1) _ rfl (by omega) (by omega) ?_)
              rw [show (a + 1).toNat = a.toNat + 1 by omega]
              show _ = twinT v a.toNat + twinC v ((a.toNat : Nat) : Int) a.toNat
              rw [show ((a.toNat : Nat) : Int) = a by omega, hy, show b = a by omega]
            · refine x_iload_n dX8_twins_24 rfl rfl ?_
              refine x_aload_n dX8_twins_25 rfl rfl ?_
              refine x_iload_n dX8_twins_26 rfl rfl ?_
              refine x_iload_n dX8_twins_27 rfl rfl ?_
              refine g_callI (vs := [_, _, _]) (d' := d - 1) rfl (s_X8_areTwins (by omega) hT (by first | exact hw | exact mciI (by omega) hw | exact mciI (by omega) (mciI (by omega) hw) | exact mciI (by omega) (mciI (by omega) (mciI (by omega) hw)) | exact mciI (by omega) (mciI (by omega) (mciI (by omega) (mciI (by omega) hw))) | exact mciC (by omega) hw) hv (by omega) (by omega)) dX8_twins_28 kX8_547 (by omega) (by decide) rfl (Nat.le_of_ble_eq_true rfl) (rcv_o (by first | assumption | exact hT.2.1) rfl) (fun x28 M28 h28 => ?_)
              obtain ⟨e28, f28⟩ := h28
              have f28' := f28.symm
              subst f28'
              subst e28
              try simp (disch := omega) only [rdI_e, rdI_n, rdC_i, rdC_o, rdW, rdR, rdU_e, rdU_n, rdLW, Int.add_zero, hw]
              refine x_if_eq (tgt := 38) dX8_twins_31 (by decide) (fun h31 => ?_) (fun h31 => ?_)
              · try simp only [vP_0, vP_1, vP_n0, vP_n1, Classical.not_not] at h31
                refine x_iconst dX8_twins_38 rfl ?_
                first | refine x_iaddN dX8_twins_39 (by unfold i32; omega) ?_ | refine x_iadd dX8_twins_39 ?_
                refine x_istore_n (L' := [some _, some _, some _, some _]) dX8_twins_40 rfl (by decide) rfl ?_
                first | refine x_iincN (L' := [some _, some _, some _, some _]) dX8_twins_41 rfl (by decide) (by unfold i32; omega) rfl ?_ | refine x_iinc (L' := [some _, some _, some _, some _]) dX8_twins_41 rfl (by decide) rfl ?_
                refine x_goto (tgt := 19) dX8_twins_44 (by decide) ?_
                first
                | (rw [vP_t h31] at es; exact ih2 _ (by omega) (b + 1) _ rfl (by omega) (by omega) (by omega))
                | (rw [vP_f h31] at es; exact ih2 _ (by omega) (b + 1) _ rfl (by omega) (by omega) (by omega))
              · try simp only [vP_0, vP_1, vP_n0, vP_n1, Classical.not_not] at h31
                refine x_iconst dX8_twins_34 rfl ?_
                refine x_goto (tgt := 39) dX8_twins_35 (by decide) ?_
                first | refine x_iaddN dX8_twins_39 (by unfold i32; omega) ?_ | refine x_iadd dX8_twins_39 ?_
                refine x_istore_n (L' := [some _, some _, some _, some _]) dX8_twins_40 rfl (by decide) rfl ?_
                first | refine x_iincN (L' := [some _, some _, some _, some _]) dX8_twins_41 rfl (by decide) (by unfold i32; omega) rfl ?_ | refine x_iinc (L' := [some _, some _, some _, some _]) dX8_twins_41 rfl (by decide) rfl ?_
                refine x_goto (tgt := 19) dX8_twins_44 (by decide) ?_
                first
                | (rw [vP_t h31] at es; exact ih2 _ (by omega) (b + 1) _ rfl (by omega) (by omega) (by omega))
                | (rw [vP_f h31] at es; exact ih2 _ (by omega) (b + 1) _ rfl (by omega) (by omega) (by omega))
        refine x_iload_n dX8_twins_9 rfl rfl ?_
        refine x_aload_n dX8_twins_10 rfl rfl ?_
        refine g_callI (vs := [_]) (d' := d - 1) rfl (s_X8_ops (by omega) hT (by first | exact hw | exact mciI (by omega) hw | exact mciI (by omega) (mciI (by omega) hw) | exact mciI (by omega) (mciI (by omega) (mciI (by omega) hw)) | exact mciI (by omega) (mciI (by omega) (mciI (by omega) (mciI (by omega) hw))) | exact mciC (by omega) hw)) dX8_twins_11 kX8_84 (by omega) (by decide) rfl (Nat.le_of_ble_eq_true rfl) (rcv_o (by first | assumption | exact hT.2.1) rfl) (fun x11 M11 h11 => ?_)
        obtain ⟨e11, f11⟩ := h11
        have f11' := f11.symm
        subst f11'
        subst e11
        try simp (disch := omega) only [rdI_e, rdI_n, rdC_i, rdC_o, rdW, rdR, rdU_e, rdU_n, rdLW, Int.add_zero, hw]
        refine x_icmp_ge (tgt := 53) dX8_twins_14 (by decide) (fun h14 => ?_) (fun h14 => ?_)
        · omega
        · refine x_iconst dX8_twins_17 rfl ?_
          refine x_istore_n (L' := [some _, some _, some _, some _]) dX8_twins_18 rfl (by decide) rfl ?_
          exact inner _ 0 x rfl (by omega) (by omega) (by rw [hx]; show _ = twinT v a.toNat + 0; omega)
      · refine x_iload_n dX8_twins_9 rfl rfl ?_
        refine x_aload_n dX8_twins_10 rfl rfl ?_
        refine g_callI (vs := [_]) (d' := d - 1) rfl (s_X8_ops (by omega) hT (by first | exact hw | exact mciI (by omega) hw | exact mciI (by omega) (mciI (by omega) hw) | exact mciI (by omega) (mciI (by omega) (mciI (by omega) hw)) | exact mciI (by omega) (mciI (by omega) (mciI (by omega) (mciI (by omega) hw))) | exact mciC (by omega) hw)) dX8_twins_11 kX8_84 (by omega) (by decide) rfl (Nat.le_of_ble_eq_true rfl) (rcv_o (by first | assumption | exact hT.2.1) rfl) (fun x11 M11 h11 => ?_)
        obtain ⟨e11, f11⟩ := h11
        have f11' := f11.symm
        subst f11'
        subst e11
        try simp (disch := omega) only [rdI_e, rdI_n, rdC_i, rdC_o, rdW, rdR, rdU_e, rdU_n, rdLW, Int.add_zero, hw]
        refine x_icmp_ge (tgt := 53) dX8_twins_14 (by decide) (fun h14 => ?_) (fun h14 => ?_)
        · refine x_iload_n dX8_twins_53 rfl rfl ?_
          refine x_ireturn rfl dX8_twins_54 ?_
          refine hQ _ _ ⟨_, rfl, RD.r hP, ?_⟩
          unfold twinsV
          rw [hx, show a = v 0 by omega]
        · omega
  refine x_aload_n dX8_twins_0 rfl rfl ?_
  refine x_iconst dX8_twins_1 rfl ?_
  refine g_putI (kI := 0) rfl dX8_twins_2 fX8_3_8 (by first | assumption | exact hT.2.1) ?_
  refine x_iconst dX8_twins_5 rfl ?_
  refine x_istore_n (L' := [some _, some _, none, none]) dX8_twins_6 rfl (by decide) rfl ?_
  refine x_iconst dX8_twins_7 rfl ?_
  refine x_istore_n (L' := [some _, some _, some _, none]) dX8_twins_8 rfl (by decide) rfl ?_
  exact loop _ 0 0 rfl (by omega) (by omega) rfl
end X8

