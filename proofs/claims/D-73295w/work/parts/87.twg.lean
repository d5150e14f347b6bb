/-! GuestViewModel: sets in peace, proofs -/
section X8
variable {G : GW} {d : Nat} {M : Mem} {m a b c p k i what n st pc op num : Int} {v : Vw}
theorem s_X8_has {s : Int} (hd : 10 ≤ d) (hs : 0 ≤ s ∧ s < 256) (hk : 0 ≤ k ∧ k < 8) : CS G d mX8_has [dI s, dI k] M (pur M (vP (bitI s k = 1))) := by
  refine CS.mkQ (by decide) (Nat.le_of_ble_eq_true rfl) fun Q hQ => ?_
  refine x_iload_n dX8_has_0 rfl rfl ?_
  refine x_iload_n dX8_has_1 rfl rfl ?_
  refine x_ishr dX8_has_2 ?_
  refine x_iconst dX8_has_3 rfl ?_
  refine x_iand dX8_has_4 ?_
  rw [has_e (by unfold i32; omega) (by omega)]
  refine x_iconst dX8_has_5 rfl ?_
  refine x_icmp_ne (tgt := 13) dX8_has_6 (by decide) (fun h6 => ?_) (fun h6 => ?_)
  · refine x_iconst dX8_has_13 rfl ?_
    refine x_zreturn (by first | exact Or.inl rfl | exact Or.inr rfl | exact vB_r _ | exact vP_r _ | assumption | omega) rfl dX8_has_14 ?_
    exact hQ _ _ ⟨_, rfl, by first | exact (vP_t h6).symm | exact (vP_f h6).symm, rfl⟩
  · refine x_iconst dX8_has_9 rfl ?_
    refine x_goto (tgt := 14) dX8_has_10 (by decide) ?_
    refine x_zreturn (by first | exact Or.inl rfl | exact Or.inr rfl | exact vB_r _ | exact vP_r _ | assumption | omega) rfl dX8_has_14 ?_
    exact hQ _ _ ⟨_, rfl, by first | exact (vP_t h6).symm | exact (vP_f h6).symm, rfl⟩
/-- as far as a and b are among them -/
def peaK (v : Vw) (s a b : Int) : Prop := ∀ x y, 0 ≤ y → y < x → x < v 0 → (x < a ∨ x = a ∧ y < b) → bitI s x = 1 → bitI s y = 1 → ¬ clashV v x y
theorem s_X8_noneClash {s : Int} (hd : 15 ≤ d) (hT : TwS (msh M) (mcr M) m) (hw : mci M (m + 1) = v) (hv : okB v) (hs : 0 ≤ s ∧ s < 256) : CS G d mX8_noneClash [dR m, dI s] M (pur M (vP (peaceV v s))) := by
  have hv0 := hv.1
  refine CS.mkQ (by decide) (Nat.le_of_ble_eq_true rfl) fun Q hQ => ?_
  have loop : ∀ (t : Nat) (a y : Int), (v 0 - a).toNat = t → (0 ≤ a) → (a ≤ v 0) → (y = vP (peaK v s a 0)) → WP G d mX8_noneClash 4 [some (dR m), some (dI s), some (dI y), some (dI a), none] [] (M) Q := by
    intro t
    induction t using Nat.strongRecOn with
    | _ t ih =>
      intro a y ht a0 a1 hy
      by_cases ha : a < v 0
      · skip
        have inner : ∀ (t2 : Nat) (b y : Int), (a - b).toNat = t2 → (0 ≤ b) → (b ≤ a) → (y = vP (peaK v s a b)) → WP G d mX8_noneClash 15 [some (dR m), some (dI s), some (dI y), some (dI a), some (dI b)] [] (M) Q := by
          intro t2
          induction t2 using Nat.strongRecOn with
          | _ t2 ih2 =>
            intro b y ht2 b0 b1 hy
            have hy01 : y = 0 ∨ y = 1 := by rw [hy]; exact vP_r _
            have step : ∀ q : Prop, (q ↔ (bitI s a = 1 → bitI s b = 1 → ¬ clashV v a b)) → b < a → vP (peaK v s a b ∧ q) = vP (peaK v s a (b + 1)) := fun q hq hba => vP_c ⟨fun h x y c1 c2 c3 c4 c5 c6 => by
                by_cases e : x = a ∧ y = b
                · rw [e.1, e.2]
                  exact hq.mp h.2 (e.1 ▸ c5) (e.2 ▸ c6)
                · exact h.1 x y c1 c2 c3 (by omega) c5 c6, fun h => ⟨fun x y c1 c2 c3 c4 c5 c6 => h x y c1 c2 c3 (by omega) c5 c6, hq.mpr fun c5 c6 => h a b b0 hba ha (Or.inr ⟨rfl, by omega⟩) c5 c6⟩⟩
            refine x_iload dX8_noneClash_15 rfl ?_
            refine x_iload_n dX8_noneClash_17 rfl rfl ?_
            refine x_icmp_ge (tgt := 64) dX8_noneClash_18 (by decide) (fun h18 => ?_) (fun h18 => ?_)
            · first | refine x_iincN (L' := [some _, some _, some _, some _, some _]) dX8_noneClash_64 rfl (by decide) (by unfold i32; omega) rfl ?_ | refine x_iinc (L' := [some _, some _, some _, some _, some _]) dX8_noneClash_64 rfl (by decide) rfl ?_
              refine x_goto (tgt := 4) dX8_noneClash_67 (by decide) ?_
              refine x_fgt (by repeat (first | exact trivial | refine ⟨rfl, ?_⟩)) (ih _ (by omega) (a + 1) y rfl (by omega) (by omega) ?_)
              rw [hy]
              exact vP_c ⟨fun h x y c1 c2 c3 c4 c5 c6 => h x y c1 c2 c3 (by omega) c5 c6, fun h x y c1 c2 c3 c4 c5 c6 => h x y c1 c2 c3 (by omega) c5 c6⟩
            · refine x_iload_n dX8_noneClash_21 rfl rfl ?_
              refine x_if_eq (tgt := 56) dX8_noneClash_22 (by decide) (fun h22 => ?_) (fun h22 => ?_)
              · refine x_iconst dX8_noneClash_56 rfl ?_
                refine x_istore_n (L' := [some _, some _, some _, some _, some _]) dX8_noneClash_57 rfl (by decide) rfl ?_
                first | refine x_iincN (L' := [some _, some _, some _, some _, some _]) dX8_noneClash_58 rfl (by decide) (by unfold i32; omega) rfl ?_ | refine x_iinc (L' := [some _, some _, some _, some _, some _]) dX8_noneClash_58 rfl (by decide) rfl ?_
                refine x_goto (tgt := 15) dX8_noneClash_61 (by decide) ?_
                refine ih2 _ (by omega) (b + 1) _ rfl (by omega) (by omega) ?_
                rw [← step _ Iff.rfl (by omega)]
                rw [hy] at h22
                first
                | (refine Eq.symm (vP_f ?_)
                   rintro ⟨q1, q2⟩
                   exact vP_0.mp h22 q1)
                | (refine Eq.symm (vP_t ⟨vP_n0.mp h22, ?_⟩)
                   intro q1 q2
                   first | exact h49 | exact absurd q1 h30 | exact absurd q2 h39)
                | (refine Eq.symm (vP_f ?_)
                   rintro ⟨q1, q2⟩
                   exact q2 h30 h39 h49)
              · refine x_iload_n dX8_noneClash_25 rfl rfl ?_
                refine x_iload_n dX8_noneClash_26 rfl rfl ?_
                refine g_callI (vs := [_, _]) (d' := d - 1) rfl (s_X8_has (by omega) (by omega) (by omega)) dX8_noneClash_27 kX8_485 (by omega) (by decide) rfl (Nat.le_of_ble_eq_true rfl) (rcv_n) (fun x27 M27 h27 => ?_)
                obtain ⟨e27, f27⟩ := h27
                have f27' := f27.symm
                subst f27'
                subst e27
                refine x_if_eq (tgt := 52) dX8_noneClash_30 (by decide) (fun h30 => ?_) (fun h30 => ?_)
                · try simp only [vP_0, vP_1, vP_n0, vP_n1, Classical.not_not] at h30
                  refine x_iconst dX8_noneClash_52 rfl ?_
                  refine x_goto (tgt := 57) dX8_noneClash_53 (by decide) ?_
                  refine x_istore_n (L' := [some _, some _, some _, some _, some _]) dX8_noneClash_57 rfl (by decide) rfl ?_
                  first | refine x_iincN (L' := [some _, some _, some _, some _, some _]) dX8_noneClash_58 rfl (by decide) (by unfold i32; omega) rfl ?_ | refine x_iinc (L' := [some _, some _, some _, some _, some _]) dX8_noneClash_58 rfl (by decide) rfl ?_
                  refine x_goto (tgt := 15) dX8_noneClash_61 (by decide) ?_
                  refine ih2 _ (by omega) (b + 1) _ rfl (by omega) (by omega) ?_
                  rw [← step _ Iff.rfl (by omega)]
                  rw [hy] at h22
                  first
                  | (refine Eq.symm (vP_f ?_)
                     rintro ⟨q1, q2⟩
                     exact vP_0.mp h22 q1)
                  | (refine Eq.symm (vP_t ⟨vP_n0.mp h22, ?_⟩)
                     intro q1 q2
                     first | exact h49 | exact absurd q1 h30 | exact absurd q2 h39)
                  | (refine Eq.symm (vP_f ?_)
                     rintro ⟨q1, q2⟩
                     exact q2 h30 h39 h49)
                · try simp only [vP_0, vP_1, vP_n0, vP_n1, Classical.not_not] at h30
                  refine x_iload_n dX8_noneClash_33 rfl rfl ?_
                  refine x_iload dX8_noneClash_34 rfl ?_
                  refine g_callI (vs := [_, _]) (d' := d - 1) rfl (s_X8_has (by omega) (by omega) (by omega)) dX8_noneClash_36 kX8_485 (by omega) (by decide) rfl (Nat.le_of_ble_eq_true rfl) (rcv_n) (fun x36 M36 h36 => ?_)
                  obtain ⟨e36, f36⟩ := h36
                  have f36' := f36.symm
                  subst f36'
                  subst e36
                  refine x_if_eq (tgt := 52) dX8_noneClash_39 (by decide) (fun h39 => ?_) (fun h39 => ?_)
                  · try simp only [vP_0, vP_1, vP_n0, vP_n1, Classical.not_not] at h39
                    refine x_iconst dX8_noneClash_52 rfl ?_
                    refine x_goto (tgt := 57) dX8_noneClash_53 (by decide) ?_
                    refine x_istore_n (L' := [some _, some _, some _, some _, some _]) dX8_noneClash_57 rfl (by decide) rfl ?_
                    first | refine x_iincN (L' := [some _, some _, some _, some _, some _]) dX8_noneClash_58 rfl (by decide) (by unfold i32; omega) rfl ?_ | refine x_iinc (L' := [some _, some _, some _, some _, some _]) dX8_noneClash_58 rfl (by decide) rfl ?_
                    refine x_goto (tgt := 15) dX8_noneClash_61 (by decide) ?_
                    refine ih2 _ (by omega) (b + 1) _ rfl (by omega) (by omega) ?_
                    rw [← step _ Iff.rfl (by omega)]
                    rw [hy] at h22
                    first
                    | (refine Eq.symm (vP_f ?_)
                       rintro ⟨q1, q2⟩
                       exact vP_0.mp h22 q1)
                    | (refine Eq.symm (vP_t ⟨vP_n0.mp h22, ?_⟩)
                       intro q1 q2
                       first | exact h49 | exact absurd q1 h30 | exact absurd q2 h39)
                    | (refine Eq.symm (vP_f ?_)
                       rintro ⟨q1, q2⟩
                       exact q2 h30 h39 h49)
                  · try simp only [vP_0, vP_1, vP_n0, vP_n1, Classical.not_not] at h39
                    refine x_aload_n dX8_noneClash_42 rfl rfl ?_
                    refine x_iload_n dX8_noneClash_43 rfl rfl ?_
                    refine x_iload dX8_noneClash_44 rfl ?_
                    refine g_callI (vs := [_, _, _]) (d' := d - 1) rfl (s_X8_doClash (by omega) hT hw hv (by omega) (by omega)) dX8_noneClash_46 kX8_482 (by omega) (by decide) rfl (Nat.le_of_ble_eq_true rfl) (rcv_o (by first | assumption | exact hT.2.1) rfl) (fun x46 M46 h46 => ?_)
                    obtain ⟨e46, f46⟩ := h46
                    have f46' := f46.symm
                    subst f46'
                    subst e46
                    refine x_if_ne (tgt := 56) dX8_noneClash_49 (by decide) (fun h49 => ?_) (fun h49 => ?_)
                    · try simp only [vP_0, vP_1, vP_n0, vP_n1, Classical.not_not] at h49
                      refine x_iconst dX8_noneClash_56 rfl ?_
                      refine x_istore_n (L' := [some _, some _, some _, some _, some _]) dX8_noneClash_57 rfl (by decide) rfl ?_
                      first | refine x_iincN (L' := [some _, some _, some _, some _, some _]) dX8_noneClash_58 rfl (by decide) (by unfold i32; omega) rfl ?_ | refine x_iinc (L' := [some _, some _, some _, some _, some _]) dX8_noneClash_58 rfl (by decide) rfl ?_
                      refine x_goto (tgt := 15) dX8_noneClash_61 (by decide) ?_
                      refine ih2 _ (by omega) (b + 1) _ rfl (by omega) (by omega) ?_
                      rw [← step _ Iff.rfl (by omega)]
                      rw [hy] at h22
                      first
                      | (refine Eq.symm (vP_f ?_)
                         rintro ⟨q1, q2⟩
                         exact vP_0.mp h22 q1)
                      | (refine Eq.symm (vP_t ⟨vP_n0.mp h22, ?_⟩)
                         intro q1 q2
                         first | exact h49 | exact absurd q1 h30 | exact absurd q2 h39)
                      | (refine Eq.symm (vP_f ?_)
                         rintro ⟨q1, q2⟩
                         exact q2 h30 h39 h49)
                    · try simp only [vP_0, vP_1, vP_n0, vP_n1, Classical.not_not] at h49
                      refine x_iconst dX8_noneClash_52 rfl ?_
                      refine x_goto (tgt := 57) dX8_noneClash_53 (by decide) ?_
                      refine x_istore_n (L' := [some _, some _, some _, some _, some _]) dX8_noneClash_57 rfl (by decide) rfl ?_
                      first | refine x_iincN (L' := [some _, some _, some _, some _, some _]) dX8_noneClash_58 rfl (by decide) (by unfold i32; omega) rfl ?_ | refine x_iinc (L' := [some _, some _, some _, some _, some _]) dX8_noneClash_58 rfl (by decide) rfl ?_
                      refine x_goto (tgt := 15) dX8_noneClash_61 (by decide) ?_
                      refine ih2 _ (by omega) (b + 1) _ rfl (by omega) (by omega) ?_
                      rw [← step _ Iff.rfl (by omega)]
                      rw [hy] at h22
                      first
                      | (refine Eq.symm (vP_f ?_)
                         rintro ⟨q1, q2⟩
                         exact vP_0.mp h22 q1)
                      | (refine Eq.symm (vP_t ⟨vP_n0.mp h22, ?_⟩)
                         intro q1 q2
                         first | exact h49 | exact absurd q1 h30 | exact absurd q2 h39)
                      | (refine Eq.symm (vP_f ?_)
                         rintro ⟨q1, q2⟩
                         exact q2 h30 h39 h49)
        refine x_iload_n dX8_noneClash_4 rfl rfl ?_
        refine x_aload_n dX8_noneClash_5 rfl rfl ?_
        refine g_callI (vs := [_]) (d' := d - 1) rfl (s_X8_ops (by omega) hT (by first | exact hw | exact mciI (by omega) hw | exact mciI (by omega) (mciI (by omega) hw) | exact mciI (by omega) (mciI (by omega) (mciI (by omega) hw)) | exact mciI (by omega) (mciI (by omega) (mciI (by omega) (mciI (by omega) hw))) | exact mciC (by omega) hw)) dX8_noneClash_6 kX8_84 (by omega) (by decide) rfl (Nat.le_of_ble_eq_true rfl) (rcv_o (by first | assumption | exact hT.2.1) rfl) (fun x6 M6 h6 => ?_)
        obtain ⟨e6, f6⟩ := h6
        have f6' := f6.symm
        subst f6'
        subst e6
        try simp (disch := omega) only [rdI_e, rdI_n, rdC_i, rdC_o, rdW, rdR, rdU_e, rdU_n, rdLW, Int.add_zero, hw]
        refine x_icmp_ge (tgt := 70) dX8_noneClash_9 (by decide) (fun h9 => ?_) (fun h9 => ?_)
        · omega
        · refine x_iconst dX8_noneClash_12 rfl ?_
          refine x_istore (L' := [some _, some _, some _, some _, some _]) dX8_noneClash_13 (by decide) rfl ?_
          exact inner _ 0 y rfl (by omega) (by omega) hy
      · have hy01 : y = 0 ∨ y = 1 := by rw [hy]; exact vP_r _
        refine x_iload_n dX8_noneClash_4 rfl rfl ?_
        refine x_aload_n dX8_noneClash_5 rfl rfl ?_
        refine g_callI (vs := [_]) (d' := d - 1) rfl (s_X8_ops (by omega) hT (by first | exact hw | exact mciI (by omega) hw | exact mciI (by omega) (mciI (by omega) hw) | exact mciI (by omega) (mciI (by omega) (mciI (by omega) hw)) | exact mciI (by omega) (mciI (by omega) (mciI (by omega) (mciI (by omega) hw))) | exact mciC (by omega) hw)) dX8_noneClash_6 kX8_84 (by omega) (by decide) rfl (Nat.le_of_ble_eq_true rfl) (rcv_o (by first | assumption | exact hT.2.1) rfl) (fun x6 M6 h6 => ?_)
        obtain ⟨e6, f6⟩ := h6
        have f6' := f6.symm
        subst f6'
        subst e6
        try simp (disch := omega) only [rdI_e, rdI_n, rdC_i, rdC_o, rdW, rdR, rdU_e, rdU_n, rdLW, Int.add_zero, hw]
        refine x_icmp_ge (tgt := 70) dX8_noneClash_9 (by decide) (fun h9 => ?_) (fun h9 => ?_)
        · refine x_iload_n dX8_noneClash_70 rfl rfl ?_
          refine x_zreturn (by exact hy01) rfl dX8_noneClash_71 ?_
          refine hQ _ _ ⟨_, rfl, ?_, rfl⟩
          rw [hy]
          exact vP_c ⟨fun h x y c1 c2 c3 c5 c6 => h x y c1 c2 c3 (by omega) c5 c6, fun h x y c1 c2 c3 _ c5 c6 => h x y c1 c2 c3 c5 c6⟩
        · omega
  refine x_iconst dX8_noneClash_0 rfl ?_
  refine x_istore_n (L' := [some _, some _, some _, none, none]) dX8_noneClash_1 rfl (by decide) rfl ?_
  refine x_iconst dX8_noneClash_2 rfl ?_
  refine x_istore_n (L' := [some _, some _, some _, some _, none]) dX8_noneClash_3 rfl (by decide) rfl ?_
  exact x_fgt (by repeat (first | exact trivial | refine ⟨rfl, ?_⟩)) (loop _ 0 1 rfl (by omega) (by omega) (vP_t fun x y c1 c2 c3 c4 _ _ => by omega).symm)
theorem s_X8_beside (hd : 16 ≤ d) (hP : TP M m v) : CS G d mX8_beside [dR m] M (postI fun x M1 => RD M m 0 M1 ∧ x = besideAns v) := by
  obtain ⟨hT, hw, hA, hL, hK, hsk⟩ := id hP
  have hv := hA.1
  have hv0 := hv.1
  have h8 := pw_le8 (t := (v 0).toNat) (by omega)
  have hpp := pw_pos (v 0)
  rw [show (((v 0).toNat : Nat) : Int) = v 0 by omega] at h8
  have hT_ := hT; obtain ⟨p0, p1, ⟨c1, c2, c3, c4, c5, c6, c7, c8, c9, c10, c11, c12, c13, c14, c15⟩, ⟨t1, t2, t3, t4, t5, t6, t7, t8, t9, t10, t11, t12, t13, t14, t15⟩⟩ := hT_
  refine CS.mkQ (by decide) (Nat.le_of_ble_eq_true rfl) fun Q hQ => ?_
  have loop : ∀ (t : Nat) (s x : Int), (pw (v 0) - s).toNat = t → (1 ≤ s) → (s ≤ pw (v 0)) → (x = besR v (s - 1).toNat) → WP G d mX8_beside 9 [some (dR m), some (dI x), some (dI s)] [] (mI M m 0 0) Q := by
    intro t
    induction t using Nat.strongRecOn with
    | _ t ih =>
      intro s x ht s0 s1 hx
      have hr := besR_r v (s - 1).toNat
      rw [← hx] at hr
      have es : besR v (s + 1 - 1).toNat = @ite Int (bc0 x < bc0 s ∧ peaceV v s) (Classical.propDecidable _) s x := by
        rw [show (s + 1 - 1).toNat = (s - 1).toNat + 1 by omega, besR_s, show (((s - 1).toNat + 1 : Nat) : Int) = s by omega, hx]
      refine x_iload_n dX8_beside_9 rfl rfl ?_
      refine x_iconst dX8_beside_10 rfl ?_
      refine x_aload_n dX8_beside_11 rfl rfl ?_
      refine g_callI (vs := [_]) (d' := d - 1) rfl (s_X8_ops (by omega) hT (by first | exact hw | exact mciI (by omega) hw | exact mciI (by omega) (mciI (by omega) hw) | exact mciI (by omega) (mciI (by omega) (mciI (by omega) hw)) | exact mciI (by omega) (mciI (by omega) (mciI (by omega) (mciI (by omega) hw))) | exact mciC (by omega) hw)) dX8_beside_12 kX8_84 (by omega) (by decide) rfl (Nat.le_of_ble_eq_true rfl) (rcv_o (by first | assumption | exact hT.2.1) rfl) (fun x12 M12 h12 => ?_)
      obtain ⟨e12, f12⟩ := h12
      have f12' := f12.symm
      subst f12'
      subst e12
      try simp (disch := omega) only [rdI_e, rdI_n, rdC_i, rdC_o, rdW, rdR, rdU_e, rdU_n, rdLW, Int.add_zero, hw]
      refine x_ishl dX8_beside_15 ?_
      rw [jshl_1 (by omega)]
      refine x_icmp_ge (tgt := 50) dX8_beside_16 (by decide) (fun h16 => ?_) (fun h16 => ?_)
      · refine x_iload_n dX8_beside_50 rfl rfl ?_
        refine x_ireturn rfl dX8_beside_51 ?_
        refine hQ _ _ ⟨_, rfl, RD.r hP, ?_⟩
        unfold besideAns
        rw [hx, show s = pw (v 0) by omega]
      · refine x_iload_n dX8_beside_19 rfl rfl ?_
        refine g_callI (vs := [_]) (d' := d - 1) rfl (s_bitCount (by omega) (by omega)) dX8_beside_20 kX8_459 (by omega) (by decide) rfl (Nat.le_of_ble_eq_true rfl) (rcv_n) (fun x20 M20 h20 => ?_)
        obtain ⟨e20, f20⟩ := h20
        have f20' := f20.symm
        subst f20'
        subst e20
        try simp (disch := omega) only [rdI_e, rdI_n, rdC_i, rdC_o, rdW, rdR, rdU_e, rdU_n, rdLW, Int.add_zero, hw]
        refine x_iload_n dX8_beside_23 rfl rfl ?_
        refine g_callI (vs := [_]) (d' := d - 1) rfl (s_bitCount (by omega) (by omega)) dX8_beside_24 kX8_459 (by omega) (by decide) rfl (Nat.le_of_ble_eq_true rfl) (rcv_n) (fun x24 M24 h24 => ?_)
        obtain ⟨e24, f24⟩ := h24
        have f24' := f24.symm
        subst f24'
        subst e24
        try simp (disch := omega) only [rdI_e, rdI_n, rdC_i, rdC_o, rdW, rdR, rdU_e, rdU_n, rdLW, Int.add_zero, hw]
        refine x_icmp_le (tgt := 42) dX8_beside_27 (by decide) (fun h27 => ?_) (fun h27 => ?_)
        · refine x_iload_n dX8_beside_42 rfl rfl ?_
          refine x_istore_n (L' := [some _, some _, some _]) dX8_beside_43 rfl (by decide) rfl ?_
          first | refine x_iincN (L' := [some _, some _, some _]) dX8_beside_44 rfl (by decide) (by unfold i32; omega) rfl ?_ | refine x_iinc (L' := [some _, some _, some _]) dX8_beside_44 rfl (by decide) rfl ?_
          refine x_goto (tgt := 9) dX8_beside_47 (by decide) ?_
          first
          | (rw [if_pos ⟨by omega, h35⟩] at es
             exact ih _ (by omega) (s + 1) _ rfl (by omega) (by omega) es.symm)
          | (rw [if_neg fun q => h35 q.2] at es
             exact ih _ (by omega) (s + 1) _ rfl (by omega) (by omega) es.symm)
          | (rw [if_neg fun q => absurd q.1 (by omega)] at es
             exact ih _ (by omega) (s + 1) _ rfl (by omega) (by omega) es.symm)
        · refine x_aload_n dX8_beside_30 rfl rfl ?_
          refine x_iload_n dX8_beside_31 rfl rfl ?_
          refine g_callI (vs := [_, _]) (d' := d - 1) rfl (s_X8_noneClash (by omega) hT (by first | exact hw | exact mciI (by omega) hw | exact mciI (by omega) (mciI (by omega) hw) | exact mciI (by omega) (mciI (by omega) (mciI (by omega) hw)) | exact mciI (by omega) (mciI (by omega) (mciI (by omega) (mciI (by omega) hw))) | exact mciC (by omega) hw) hv (by omega)) dX8_beside_32 kX8_488 (by omega) (by decide) rfl (Nat.le_of_ble_eq_true rfl) (rcv_o (by first | assumption | exact hT.2.1) rfl) (fun x32 M32 h32 => ?_)
          obtain ⟨e32, f32⟩ := h32
          have f32' := f32.symm
          subst f32'
          subst e32
          try simp (disch := omega) only [rdI_e, rdI_n, rdC_i, rdC_o, rdW, rdR, rdU_e, rdU_n, rdLW, Int.add_zero, hw]
          refine x_if_eq (tgt := 42) dX8_beside_35 (by decide) (fun h35 => ?_) (fun h35 => ?_)
          · try simp only [vP_0, vP_1, vP_n0, vP_n1, Classical.not_not] at h35
            refine x_iload_n dX8_beside_42 rfl rfl ?_
            refine x_istore_n (L' := [some _, some _, some _]) dX8_beside_43 rfl (by decide) rfl ?_
            first | refine x_iincN (L' := [some _, some _, some _]) dX8_beside_44 rfl (by decide) (by unfold i32; omega) rfl ?_ | refine x_iinc (L' := [some _, some _, some _]) dX8_beside_44 rfl (by decide) rfl ?_
            refine x_goto (tgt := 9) dX8_beside_47 (by decide) ?_
            first
            | (rw [if_pos ⟨by omega, h35⟩] at es
               exact ih _ (by omega) (s + 1) _ rfl (by omega) (by omega) es.symm)
            | (rw [if_neg fun q => h35 q.2] at es
               exact ih _ (by omega) (s + 1) _ rfl (by omega) (by omega) es.symm)
            | (rw [if_neg fun q => absurd q.1 (by omega)] at es
               exact ih _ (by omega) (s + 1) _ rfl (by omega) (by omega) es.symm)
          · try simp only [vP_0, vP_1, vP_n0, vP_n1, Classical.not_not] at h35
            refine x_iload_n dX8_beside_38 rfl rfl ?_
            refine x_goto (tgt := 43) dX8_beside_39 (by decide) ?_
            refine x_istore_n (L' := [some _, some _, some _]) dX8_beside_43 rfl (by decide) rfl ?_
            first | refine x_iincN (L' := [some _, some _, some _]) dX8_beside_44 rfl (by decide) (by unfold i32; omega) rfl ?_ | refine x_iinc (L' := [some _, some _, some _]) dX8_beside_44 rfl (by decide) rfl ?_
            refine x_goto (tgt := 9) dX8_beside_47 (by decide) ?_
            first
            | (rw [if_pos ⟨by omega, h35⟩] at es
               exact ih _ (by omega) (s + 1) _ rfl (by omega) (by omega) es.symm)
            | (rw [if_neg fun q => h35 q.2] at es
               exact ih _ (by omega) (s + 1) _ rfl (by omega) (by omega) es.symm)
            | (rw [if_neg fun q => absurd q.1 (by omega)] at es
               exact ih _ (by omega) (s + 1) _ rfl (by omega) (by omega) es.symm)
  refine x_aload_n dX8_beside_0 rfl rfl ?_
  refine x_iconst dX8_beside_1 rfl ?_
  refine g_putI (kI := 0) rfl dX8_beside_2 fX8_3_8 (by first | assumption | exact hT.2.1) ?_
  refine x_iconst dX8_beside_5 rfl ?_
  refine x_istore_n (L' := [some _, some _, none]) dX8_beside_6 rfl (by decide) rfl ?_
  refine x_iconst dX8_beside_7 rfl ?_
  refine x_istore_n (L' := [some _, some _, some _]) dX8_beside_8 rfl (by decide) rfl ?_
  exact loop _ 1 0 rfl (by omega) (by omega) rfl
/-- programs of n operations are tried on a bench like v -/
def nearV (v u : Vw) (n : Int) : Prop := ∀ k, ¬ (102 ≤ k ∧ k < 128) → ¬ k = 3 → ¬ (12 ≤ k ∧ k < 12 + n) → u k = v k
theorem powD {o num : Int} {j : Nat} (ho : 0 < o) : num / o ^ j / o = num / o ^ (j + 1) := by
  rw [Int.ediv_ediv_of_nonneg (Int.le_of_lt (Int.pow_pos ho)), Int.pow_succ]
theorem s_X8_isProof (hd : 21 ≤ d) (hT : TwS (msh M) (mcr M) m) {u : Vw} (hw : mci M (m + 1) = u) (hv : okB v) (hTr : TrOk (mci M) m v) (hL : lawOK v) (hsk : sk01 (mci M) m) (hu : nearV v u n) (hn : 1 ≤ n ∧ n ≤ 3) (h0 : 1 ≤ v 0) (hnum : 0 ≤ num ∧ num < 1000) : CS G d mX8_isProof [dR m, dI n, dI num] M (postI fun x M1 => x = vP (¬ leakV (prgV v n (digV (v 0) num n)) = -1) ∧ ∃ g, M1 = wI M g ∧ eqB (prgV v n (digV (v 0) num n)) (g (m + 1)) ∧ TF m (mci M) g ∧ sk01 g m) := by
  have hv8 := hv.n8
  have hT_ := hT; obtain ⟨p0, p1, ⟨c1, c2, c3, c4, c5, c6, c7, c8, c9, c10, c11, c12, c13, c14, c15⟩, ⟨t1, t2, t3, t4, t5, t6, t7, t8, t9, t10, t11, t12, t13, t14, t15⟩⟩ := hT_
  refine CS.mkQ (by decide) (Nat.le_of_ble_eq_true rfl) fun Q hQ => ?_
  have loop : ∀ (t : Nat) (k r : Int) (w : Vw) (g : Ci), (k + 1).toNat = t → (-1 ≤ k) → (k < n) → (g (m + 1) = w) → (r = num / v 0 ^ (n - 1 - k).toNat) → (w 3 = n) → (∀ j, k < j → j < n → w (12 + j) = digV (v 0) num n j) → (∀ j, ¬ (102 ≤ j ∧ j < 128) → ¬ j = 3 → ¬ (12 ≤ j ∧ j < 12 + n) → w j = v j) → (TF m (mci M) g) → (sk01 g m) → WP G d mX8_isProof 14 [some (dR m), some (dI n), some (dI num), some (dI r), some (dI k)] [] (wI M g) Q := by
    intro t
    induction t using Nat.strongRecOn with
    | _ t ih =>
      intro k r w g ht k0 k1 hw hr hw3 hwd hwo hf hs
      have hr0 : 0 ≤ r := by rw [hr]; exact Int.ediv_nonneg hnum.1 (Int.le_of_lt (Int.pow_pos (by omega)))
      have hw0 : w 0 = v 0 := hwo 0 (by omega) (by omega) (by omega)
      by_cases hk : 0 ≤ k
      · refine x_iload dX8_isProof_14 rfl ?_
        refine x_if_lt (tgt := 48) dX8_isProof_16 (by decide) (fun h16 => ?_) (fun h16 => ?_)
        · omega
        · refine x_aload_n dX8_isProof_19 rfl rfl ?_
          refine g_getR (kI := 1) rfl dX8_isProof_20 fX8_13_8 (by first | assumption | exact hT.2.1) (by first | assumption | exact hT.2.1) ?_
          refine x_bipush dX8_isProof_23 rfl ?_
          refine x_iload dX8_isProof_25 rfl ?_
          first | refine x_iaddN dX8_isProof_27 (by unfold i32; omega) ?_ | refine x_iadd dX8_isProof_27 ?_
          refine x_iload_n dX8_isProof_28 rfl rfl ?_
          refine x_aload_n dX8_isProof_29 rfl rfl ?_
          refine g_callI (vs := [_]) (d' := d - 1) rfl (s_X8_ops (M := wI M g) (by omega) hT hw) dX8_isProof_30 kX8_84 (by omega) (by decide) rfl (Nat.le_of_ble_eq_true rfl) (rcv_o (by first | assumption | exact hT.2.1) rfl) (fun x30 M30 h30 => ?_)
          obtain ⟨e30, f30⟩ := h30
          have f30' := f30.symm
          subst f30'
          subst e30
          try simp (disch := omega) only [rdI_e, rdI_n, rdC_i, rdC_o, rdW, rdR, rdU_e, rdU_n, rdLW, Int.add_zero, hw, hw0]
          first | refine x_iremN dX8_isProof_33 (by omega) (by omega) ?_ | refine x_irem dX8_isProof_33 (by omega) ?_
          refine x_iast (by omega) dX8_isProof_34 (by first | assumption | exact hT.2.1) (by omega) (by omega) ?_
          refine x_iload_n dX8_isProof_35 rfl rfl ?_
          refine x_aload_n dX8_isProof_36 rfl rfl ?_
          refine g_callI (vs := [_]) (d' := d - 1) rfl (s_X8_ops (by omega) hT (v := us w (12 + k) (r % v 0)) (mciIs (M := wI M g) hw)) dX8_isProof_37 kX8_84 (by omega) (by decide) rfl (Nat.le_of_ble_eq_true rfl) (rcv_o (by first | assumption | exact hT.2.1) rfl) (fun x37 M37 h37 => ?_)
          obtain ⟨e37, f37⟩ := h37
          have f37' := f37.symm
          subst f37'
          rw [us_n (by omega)] at e37
          subst e37
          rw [hw0]
          first | refine x_idivN dX8_isProof_40 (by omega) (by omega) ?_ | refine x_idiv dX8_isProof_40 (by omega) ?_
          refine x_istore_n (L' := [some _, some _, some _, some _, some _]) dX8_isProof_41 rfl (by decide) rfl ?_
          first | refine x_iincN (L' := [some _, some _, some _, some _, some _]) dX8_isProof_42 rfl (by decide) (by unfold i32; omega) rfl ?_ | refine x_iinc (L' := [some _, some _, some _, some _, some _]) dX8_isProof_42 rfl (by decide) rfl ?_
          refine x_goto (tgt := 14) dX8_isProof_45 (by decide) ?_
          refine ih _ (by omega) (k + -1) (r / v 0) (us w (12 + k) (r % v 0)) (up g (m + 1) (12 + k) (r % v 0)) rfl (by omega) (by omega) (mciIs (M := wI M g) hw) ?_ ?_ (fun j j0 j1 => ?_) (fun j q1 q2 q3 => ?_) (fun a' k' q1 q2 => (rdU_n (by omega)).trans (hf a' k' q1 q2)) (sk01.at hs (rdU_n (by omega)))
          · rw [hr, powD (by omega), show (n - 1 - (k + -1)).toNat = (n - 1 - k).toNat + 1 by omega]
          · rw [us_n (by omega)]; exact hw3
          · by_cases e : j = k
            · subst e
              rw [us_e rfl, hr]
              rfl
            · rw [us_n (by omega)]
              exact hwd j (by omega) j1
          · rw [us_n (by omega)]; exact hwo j q1 q2 q3
      · have eB : eqB (prgV v n (digV (v 0) num n)) w := fun j hj => by
          unfold prgV
          by_cases j3 : j = 3
          · rw [if_pos j3, j3]; exact hw3
          · rw [if_neg j3]
            by_cases jp : 12 ≤ j ∧ j < 12 + n
            · rw [if_pos jp]
              have := hwd (j - 12) (by omega) (by omega)
              rw [show 12 + (j - 12) = j by omega] at this
              exact this
            · rw [if_neg jp]; exact hwo j hj j3 jp
        have hB1 : okB (prgV v n (digV (v 0) num n)) := okB_prg hv (by omega) fun j _ _ => digV_r (by omega)
        have hB : okB w := hB1.eqB eB
        have hTw : TrOk g m w := ((hf.tr hTr).ops hv hw0 fun j a b => hwo j (by omega) (by omega) (by omega))
        have hLw : lawOK w := hL.at (hwo 2 (by omega) (by omega) (by omega)) fun j a => hwo j (by omega) (by omega) (by omega)
        refine x_iload dX8_isProof_14 rfl ?_
        refine x_if_lt (tgt := 48) dX8_isProof_16 (by decide) (fun h16 => ?_) (fun h16 => ?_)
        · refine x_aload_n dX8_isProof_48 rfl rfl ?_
          refine g_callI (vs := [_]) (d' := d - 1) rfl (s_X8_leaksAt (M := wI M g) (by omega) hT hw hB hTw hLw hs) dX8_isProof_49 kX8_467 (by omega) (by decide) rfl (Nat.le_of_ble_eq_true rfl) (rcv_o (by first | assumption | exact hT.2.1) rfl) (fun x49 M49 h49 => ?_)
          obtain ⟨e49, g49, hM49, r49, q49, z49⟩ := h49
          subst hM49
          rw [e49, leakV_eq eB]
          refine x_iconst dX8_isProof_52 rfl ?_
          refine x_icmp_eq (tgt := 60) dX8_isProof_53 (by decide) (fun h53 => ?_) (fun h53 => ?_)
          · refine x_iconst dX8_isProof_60 rfl ?_
            refine x_zreturn (by first | exact Or.inl rfl | exact Or.inr rfl | exact vB_r _ | exact vP_r _ | assumption | omega) rfl dX8_isProof_61 ?_
            refine hQ _ _ ⟨_, rfl, ?_, g49, rfl, eB.trans r49, TF.trans hf q49, z49⟩
            first | exact (vP_f fun q => q h53).symm | exact (vP_t h53).symm
          · refine x_iconst dX8_isProof_56 rfl ?_
            refine x_goto (tgt := 61) dX8_isProof_57 (by decide) ?_
            refine x_zreturn (by first | exact Or.inl rfl | exact Or.inr rfl | exact vB_r _ | exact vP_r _ | assumption | omega) rfl dX8_isProof_61 ?_
            refine hQ _ _ ⟨_, rfl, ?_, g49, rfl, eB.trans r49, TF.trans hf q49, z49⟩
            first | exact (vP_f fun q => q h53).symm | exact (vP_t h53).symm
        · omega
  refine x_iload_n dX8_isProof_0 rfl rfl ?_
  refine x_istore_n (L' := [some _, some _, some _, some _, none]) dX8_isProof_1 rfl (by decide) rfl ?_
  refine x_aload_n dX8_isProof_2 rfl rfl ?_
  refine g_getR (kI := 1) rfl dX8_isProof_3 fX8_13_8 (by first | assumption | exact hT.2.1) (by first | assumption | exact hT.2.1) ?_
  refine x_iconst dX8_isProof_6 rfl ?_
  refine x_iload_n dX8_isProof_7 rfl rfl ?_
  refine x_iast (by omega) dX8_isProof_8 (by first | assumption | exact hT.2.1) (by omega) (by omega) ?_
  refine x_iload_n dX8_isProof_9 rfl rfl ?_
  refine x_iconst dX8_isProof_10 rfl ?_
  first | refine x_isubN dX8_isProof_11 (by unfold i32; omega) ?_ | refine x_isub dX8_isProof_11 ?_
  refine x_istore (L' := [some _, some _, some _, some _, some _]) dX8_isProof_12 (by decide) rfl ?_
  refine loop _ (n - 1) num (us u 3 n) (up (mci M) (m + 1) 3 n) rfl (by omega) (by omega) (mciIs hw) ?_ (us_e rfl) (fun j j0 j1 => by omega) (fun j q1 q2 q3 => ?_) (fun a' k' q1 q2 => rdU_n (by omega)) (sk01.at hsk (rdU_n (by omega)))
  · rw [show (n - 1 - (n - 1)).toNat = 0 by omega, Int.pow_zero, Int.ediv_one]
  · rw [us_n q2]; exact hu j q1 q2 q3
end X8

