/-! GuestViewModel: what is open, what leaks, what steps take -/
theorem blk_boot {w v : Vw} {i : Int} : blkN (blkN w (guA i) (fun k => if k = 2 then 1 else 0) 5) (guA i + 5) (fun k => v (22 + k)) 8 = setG w i 0 (0, 1, 0, 0, 0, fun k => v (22 + k)) 0 := funext fun k => by
  unfold setG blkN
  by_cases k0 : k = guA i
  · rw [if_neg (by omega), if_pos (by omega), if_pos k0]
    exact if_neg (by omega)
  rw [if_neg k0]
  by_cases k1 : k = guA i + 1
  · rw [if_neg (by omega), if_pos (by omega), if_pos k1]
    exact if_neg (by omega)
  rw [if_neg k1]
  by_cases k2 : k = guA i + 2
  · rw [if_neg (by omega), if_pos (by omega), if_pos k2]
    exact if_pos (by omega)
  rw [if_neg k2]
  by_cases k3 : k = guA i + 3
  · rw [if_neg (by omega), if_pos (by omega), if_pos k3]
    exact if_neg (by omega)
  rw [if_neg k3]
  by_cases k4 : k = guA i + 4
  · rw [if_neg (by omega), if_pos (by omega), if_pos k4]
    exact if_neg (by omega)
  rw [if_neg k4]
  by_cases k5 : guA i + 5 ≤ k ∧ k < guA i + 13
  · rw [if_pos (by omega), if_pos k5]
  · rw [if_neg (by omega), if_neg (by omega), if_neg k5]
theorem bootV_eqB {v : Vw} : eqB v (bootV v) := fun k hk => by
  unfold bootV
  rw [setG_o (by unfold guA; omega), setG_o (by unfold guA; omega)]
theorem bootV_ok {v : Vw} (h : okB v) : okA (bootV v) := by
  have hc : okM ((0, 1, 0, 0, 0, fun k => v (22 + k % 8)) : Ms) := ⟨⟨Int.le_refl 0, show (0 : Int) < 4 by omega⟩, Or.inr rfl, ⟨Int.le_refl 0, show (0 : Int) < 8 by omega⟩, ⟨Int.le_refl 0, show (0 : Int) < 8 by omega⟩, Or.inl rfl, fun k => h.ce (k % 8) (by omega) (by omega)⟩
  have g : ∀ (w : Vw) (i : Int), setG w i 0 (0, 1, 0, 0, 0, fun k => v (22 + k)) 0 = setG w i 0 (0, 1, 0, 0, 0, fun k => v (22 + k % 8)) 0 := fun w i => funext fun k => by
    unfold setG
    repeat (first | rfl | (split; rfl))
    split
    · show v (22 + (k - (guA i + 5))) = v (22 + (k - (guA i + 5)) % 8)
      rw [show (k - (guA i + 5)) % 8 = k - (guA i + 5) by omega]
    · rfl
  refine ⟨h.eqB bootV_eqB, ?_, ?_⟩
  · refine okGu.eqv (v := setG v 0 0 (0, 1, 0, 0, 0, fun k => v (22 + k)) 0) ?_ fun k a b => setG_o (by unfold guA at *; omega)
    rw [g]
    exact setG_ok (by decide) hc (by decide)
  · unfold bootV
    rw [g _ 1]
    exact setG_ok (by decide) hc (by decide)
section X8
variable {G : GW} {d : Nat} {M : Mem} {m a b c p k i what n st pc op : Int} {v : Vw}
theorem s_X8_bothBoot (hd : 11 ≤ d) (hT : TwS (msh M) (mcr M) m) (hw : mci M (m + 1) = v) : CS G d mX8_bothBoot [dR m] M (postN fun M1 => ∃ g, M1 = wI M g ∧ g (m + 1) = bootV v ∧ TW m (mci M) g) := by
  have hT_ := hT; obtain ⟨p0, p1, ⟨c1, c2, c3, c4, c5, c6, c7, c8, c9, c10, c11, c12, c13, c14, c15⟩, ⟨t1, t2, t3, t4, t5, t6, t7, t8, t9, t10, t11, t12, t13, t14, t15⟩⟩ := hT_
  refine CS.mkQ (by decide) (Nat.le_of_ble_eq_true rfl) fun Q hQ => ?_
  have loop : ∀ (t : Nat) (i : Int) (w : Vw) (g : Ci), (2 - i).toNat = t → (0 ≤ i) → (i ≤ 2) → (g (m + 1) = w) → ((i = 0 ∧ w = v) ∨ (i = 1 ∧ w = setG v 0 0 (0, 1, 0, 0, 0, fun k => v (22 + k)) 0) ∨ (i = 2 ∧ w = bootV v)) → (TW m (mci M) g) → WP G d mX8_bothBoot 2 [some (dR m), some (dI i), none] [] (wI M g) Q := by
    intro t
    induction t using Nat.strongRecOn with
    | _ t ih =>
      intro i w g ht i0 i1 hw hww hf
      have hcell : ∀ k, 0 ≤ k → k < 8 → w (22 + k) = v (22 + k) := fun k k0 k1 => by
        rcases hww with ⟨-, e⟩ | ⟨-, e⟩ | ⟨-, e⟩
        · rw [e]
        · rw [e, setG_o (by unfold guA; omega)]
        · rw [e, bootV_eqB _ (by omega)]
      by_cases hi : i < 2
      · have nx : (i + 1 = 0 ∧ setG w i 0 (0, 1, 0, 0, 0, fun k => v (22 + k)) 0 = v) ∨ (i + 1 = 1 ∧ setG w i 0 (0, 1, 0, 0, 0, fun k => v (22 + k)) 0 = setG v 0 0 (0, 1, 0, 0, 0, fun k => v (22 + k)) 0) ∨ (i + 1 = 2 ∧ setG w i 0 (0, 1, 0, 0, 0, fun k => v (22 + k)) 0 = bootV v) := by
          rcases hww with ⟨e1, e⟩ | ⟨e1, e⟩ | ⟨e1, e⟩
          · subst e1; subst e; exact Or.inr (Or.inl ⟨rfl, rfl⟩)
          · subst e1; subst e; exact Or.inr (Or.inr ⟨rfl, rfl⟩)
          · omega
        have in2 : ∀ (t2 : Nat) (k : Int) (g : Ci), (8 - k).toNat = t2 → (0 ≤ k) → (k ≤ 8) → (g (m + 1) = blkN (blkN w (guA i) (fun k => if k = 2 then 1 else 0) 5) (guA i + 5) (fun k => v (22 + k)) k) → (TW m (mci M) g) → WP G d mX8_bothBoot 42 [some (dR m), some (dI i), some (dI k)] [] (wI M g) Q := by
          intro t2
          induction t2 using Nat.strongRecOn with
          | _ t2 ih2 =>
            intro k g ht2 k0 k1 hw hf
            by_cases hk : k < 8
            · have er : (blkN (blkN w (guA i) (fun k => if k = 2 then 1 else 0) 5) (guA i + 5) (fun k => v (22 + k)) k) (22 + k) = v (22 + k) := by
                unfold blkN guA
                rw [if_neg (by omega), if_neg (by omega)]
                exact hcell k k0 hk
              refine x_iload_n dX8_bothBoot_42 rfl rfl ?_
              refine x_bipush dX8_bothBoot_43 rfl ?_
              refine x_icmp_ge (tgt := 75) dX8_bothBoot_45 (by decide) (fun h45 => ?_) (fun h45 => ?_)
              · omega
              · refine x_aload_n dX8_bothBoot_48 rfl rfl ?_
                refine g_getR (kI := 1) rfl dX8_bothBoot_49 fX8_13_8 (by first | assumption | exact hT.2.1) (by first | assumption | exact hT.2.1) ?_
                refine x_iload_n dX8_bothBoot_52 rfl rfl ?_
                refine x_iconst dX8_bothBoot_53 rfl ?_
                refine x_iload_n dX8_bothBoot_54 rfl rfl ?_
                first | refine x_iaddN dX8_bothBoot_55 (by unfold i32; omega) ?_ | refine x_iadd dX8_bothBoot_55 ?_
                refine g_callI (vs := [_, _]) (d' := d - 1) rfl (s_X8_guestAt (by omega) (by omega) (by omega)) dX8_bothBoot_56 kX8_81 (by omega) (by decide) rfl (Nat.le_of_ble_eq_true rfl) (rcv_n) (fun x56 M56 h56 => ?_)
                obtain ⟨e56, f56⟩ := h56
                have f56' := f56.symm
                subst f56'
                subst e56
                try simp (disch := omega) only [rdI_e, rdI_n, rdC_i, rdC_o, rdW, rdR, rdU_e, rdU_n, rdLW, Int.add_zero, hw, er]
                refine x_aload_n dX8_bothBoot_59 rfl rfl ?_
                refine g_getR (kI := 1) rfl dX8_bothBoot_60 fX8_13_8 (by first | assumption | exact hT.2.1) (by first | assumption | exact hT.2.1) ?_
                refine x_bipush dX8_bothBoot_63 rfl ?_
                refine x_iload_n dX8_bothBoot_65 rfl rfl ?_
                first | refine x_iaddN dX8_bothBoot_66 (by unfold i32; omega) ?_ | refine x_iadd dX8_bothBoot_66 ?_
                refine x_iald dX8_bothBoot_67 (by first | assumption | exact hT.2.1) (by omega) (by omega) ?_
                try simp (disch := omega) only [rdI_e, rdI_n, rdC_i, rdC_o, rdW, rdR, rdU_e, rdU_n, rdLW, Int.add_zero, hw, er]
                refine x_iast (by omega) dX8_bothBoot_68 (by first | assumption | exact hT.2.1) (by omega) (by omega) ?_
                first | refine x_iincN (L' := [some _, some _, some _]) dX8_bothBoot_69 rfl (by decide) (by unfold i32; omega) rfl ?_ | refine x_iinc (L' := [some _, some _, some _]) dX8_bothBoot_69 rfl (by decide) rfl ?_
                refine x_goto (tgt := 42) dX8_bothBoot_72 (by decide) ?_
                refine ih2 _ (by omega) (k + 1) (up g (m + 1) (102 + 13 * i + (5 + k)) (v (22 + k))) rfl (by omega) (by omega) ?_ (fun a' k' q => ?_)
                · have e := mciIs (M := wI M g) (i := 102 + 13 * i + (5 + k)) (x := v (22 + k)) hw
                  exact e.trans (blkN_s k0 (by unfold guA; omega) rfl)
                · rw [rdU_n (by omega)]
                  exact hf a' k' q
            · have hk8 : k = 8 := by omega
              subst hk8
              rw [blk_boot] at hw
              refine x_iload_n dX8_bothBoot_42 rfl rfl ?_
              refine x_bipush dX8_bothBoot_43 rfl ?_
              refine x_icmp_ge (tgt := 75) dX8_bothBoot_45 (by decide) (fun h45 => ?_) (fun h45 => ?_)
              · first | refine x_iincN (L' := [some _, some _, some _]) dX8_bothBoot_75 rfl (by decide) (by unfold i32; omega) rfl ?_ | refine x_iinc (L' := [some _, some _, some _]) dX8_bothBoot_75 rfl (by decide) rfl ?_
                refine x_goto (tgt := 2) dX8_bothBoot_78 (by decide) ?_
                exact x_fgt (L' := [some (dR m), some (dI (i + 1)), none]) (by simp [subL]) (ih _ (by omega) (i + 1) _ g rfl (by omega) (by omega) hw nx hf)
              · omega
        have in1 : ∀ (t2 : Nat) (k : Int) (g : Ci), (5 - k).toNat = t2 → (0 ≤ k) → (k ≤ 5) → (g (m + 1) = blkN w (guA i) (fun k => if k = 2 then 1 else 0) k) → (TW m (mci M) g) → WP G d mX8_bothBoot 9 [some (dR m), some (dI i), some (dI k)] [] (wI M g) Q := by
          intro t2
          induction t2 using Nat.strongRecOn with
          | _ t2 ih2 =>
            intro k g ht2 k0 k1 hw hf
            refine x_iload_n dX8_bothBoot_9 rfl rfl ?_
            refine x_iconst dX8_bothBoot_10 rfl ?_
            refine x_icmp_ge (tgt := 40) dX8_bothBoot_11 (by decide) (fun h11 => ?_) (fun h11 => ?_)
            · refine x_iconst dX8_bothBoot_40 rfl ?_
              refine x_istore_n (L' := [some _, some _, some _]) dX8_bothBoot_41 rfl (by decide) rfl ?_
              refine in2 _ 0 g rfl (by omega) (by omega) ?_ hf
              rw [blkN_0, hw, show k = 5 by omega]
            · refine x_aload_n dX8_bothBoot_14 rfl rfl ?_
              refine g_getR (kI := 1) rfl dX8_bothBoot_15 fX8_13_8 (by first | assumption | exact hT.2.1) (by first | assumption | exact hT.2.1) ?_
              refine x_iload_n dX8_bothBoot_18 rfl rfl ?_
              refine x_iload_n dX8_bothBoot_19 rfl rfl ?_
              refine g_callI (vs := [_, _]) (d' := d - 1) rfl (s_X8_guestAt (by omega) (by omega) (by omega)) dX8_bothBoot_20 kX8_81 (by omega) (by decide) rfl (Nat.le_of_ble_eq_true rfl) (rcv_n) (fun x20 M20 h20 => ?_)
              obtain ⟨e20, f20⟩ := h20
              have f20' := f20.symm
              subst f20'
              subst e20
              refine x_iload_n dX8_bothBoot_23 rfl rfl ?_
              refine x_iconst dX8_bothBoot_24 rfl ?_
              refine x_icmp_ne (tgt := 32) dX8_bothBoot_25 (by decide) (fun h25 => ?_) (fun h25 => ?_)
              · refine x_iconst dX8_bothBoot_32 rfl ?_
                refine x_iast (by omega) dX8_bothBoot_33 (by first | assumption | exact hT.2.1) (by omega) (by omega) ?_
                first | refine x_iincN (L' := [some _, some _, some _]) dX8_bothBoot_34 rfl (by decide) (by unfold i32; omega) rfl ?_ | refine x_iinc (L' := [some _, some _, some _]) dX8_bothBoot_34 rfl (by decide) rfl ?_
                refine x_goto (tgt := 9) dX8_bothBoot_37 (by decide) ?_
                first
                | (refine ih2 _ (by omega) (k + 1) (up g (m + 1) (102 + 13 * i + k) 1) rfl (by omega) (by omega) ?_ (fun a' k' q => (rdU_n (by omega)).trans (hf a' k' q))
                   exact (mciIs (M := wI M g) hw).trans (blkN_s k0 rfl (if_pos h25).symm))
                | (refine ih2 _ (by omega) (k + 1) (up g (m + 1) (102 + 13 * i + k) 0) rfl (by omega) (by omega) ?_ (fun a' k' q => (rdU_n (by omega)).trans (hf a' k' q))
                   exact (mciIs (M := wI M g) hw).trans (blkN_s k0 rfl (if_neg h25).symm))
              · refine x_iconst dX8_bothBoot_28 rfl ?_
                refine x_goto (tgt := 33) dX8_bothBoot_29 (by decide) ?_
                refine x_iast (by omega) dX8_bothBoot_33 (by first | assumption | exact hT.2.1) (by omega) (by omega) ?_
                first | refine x_iincN (L' := [some _, some _, some _]) dX8_bothBoot_34 rfl (by decide) (by unfold i32; omega) rfl ?_ | refine x_iinc (L' := [some _, some _, some _]) dX8_bothBoot_34 rfl (by decide) rfl ?_
                refine x_goto (tgt := 9) dX8_bothBoot_37 (by decide) ?_
                first
                | (refine ih2 _ (by omega) (k + 1) (up g (m + 1) (102 + 13 * i + k) 1) rfl (by omega) (by omega) ?_ (fun a' k' q => (rdU_n (by omega)).trans (hf a' k' q))
                   exact (mciIs (M := wI M g) hw).trans (blkN_s k0 rfl (if_pos h25).symm))
                | (refine ih2 _ (by omega) (k + 1) (up g (m + 1) (102 + 13 * i + k) 0) rfl (by omega) (by omega) ?_ (fun a' k' q => (rdU_n (by omega)).trans (hf a' k' q))
                   exact (mciIs (M := wI M g) hw).trans (blkN_s k0 rfl (if_neg h25).symm))
        refine x_iload_n dX8_bothBoot_2 rfl rfl ?_
        refine x_iconst dX8_bothBoot_3 rfl ?_
        refine x_icmp_ge (tgt := 81) dX8_bothBoot_4 (by decide) (fun h4 => ?_) (fun h4 => ?_)
        · omega
        · refine x_iconst dX8_bothBoot_7 rfl ?_
          refine x_istore_n (L' := [some _, some _, some _]) dX8_bothBoot_8 rfl (by decide) rfl ?_
          exact in1 _ 0 g rfl (by omega) (by omega) (hw.trans blkN_0.symm) hf
      · refine x_iload_n dX8_bothBoot_2 rfl rfl ?_
        refine x_iconst dX8_bothBoot_3 rfl ?_
        refine x_icmp_ge (tgt := 81) dX8_bothBoot_4 (by decide) (fun h4 => ?_) (fun h4 => ?_)
        · refine x_vreturn rfl dX8_bothBoot_81 ?_
          refine hQ _ _ ⟨rfl, g, rfl, ?_, hf⟩
          rcases hww with ⟨e1, e⟩ | ⟨e1, e⟩ | ⟨e1, e⟩
          · omega
          · omega
          · exact hw.trans e
        · omega
  refine x_iconst dX8_bothBoot_0 rfl ?_
  refine x_istore_n (L' := [some _, some _, none]) dX8_bothBoot_1 rfl (by decide) rfl ?_
  exact loop _ 0 v (mci M) rfl (by omega) (by omega) hw (Or.inl ⟨rfl, rfl⟩) fun _ _ _ => rfl
theorem sk01.at {f g : Ci} {m : Int} (h : sk01 f m) (e : g m 23 = f m 23) : sk01 g m := by
  unfold sk01 at h ⊢
  rw [e]
  exact h
/-- what is brought back -/
theorem back_w {M : Mem} {m : Int} {g : Ci} {v : Vw} (hw : mci M (m + 1) = v) (h4 : ∀ k, g (m + 4) k = mci (mC M (m + 1) 0 (m + 4) 0 368) (m + 4) k) (ho : ∀ k, 368 ≤ k ∨ k < 0 → g (m + 1) k = v k) : mci (mC (wI M g) (m + 4) 0 (m + 1) 0 368) (m + 1) = v := funext fun k => by
  by_cases hk : 0 ≤ k ∧ k < 368
  · refine (rdC_i (by omega)).trans ?_
    refine (h4 _).trans ?_
    refine (rdC_i (by omega)).trans ?_
    rw [← hw]
    exact congrArg _ (by omega)
  · exact (rdC_o (by omega)).trans (ho k (by omega))
theorem s_X8_openOnes (hd : 18 ≤ d) (hT : TwS (msh M) (mcr M) m) (hw : mci M (m + 1) = v) (hv : okB v) (hK : KnOk (mci M) (mcl M) m) (hsk : sk01 (mci M) m) : CS G d mX8_openOnes [dR m] M (postI fun x M1 => x = openV v ∧ ∃ g l, M1 = wL M g l ∧ TG m (mci M) g ∧ TLl m (mcl M) l ∧ KnOk g l m ∧ sk01 g m) := by
  have hv0 := hv.1
  refine CS.mkQ (by decide) (Nat.le_of_ble_eq_true rfl) fun Q hQ => ?_
  have loop : ∀ (g l : Ci) (hw : g (m + 1) = v) (hTr : TrOk g m v), TG m (mci M) g → TLl m (mcl M) l → KnOk g l m → sk01 g m → WP G d mX8_openOnes 8 [some (dR m), some (dI 0), some (dI 0)] [] (wL M g l) Q := by
    intro g l hw hTr f1 f2 f3 f4
    have lp : ∀ (t : Nat) (p x : Int), (v 0 - p).toNat = t → (0 ≤ p) → (p ≤ v 0) → (x = numR (openP v) p.toNat) → WP G d mX8_openOnes 8 [some (dR m), some (dI x), some (dI p)] [] (wL M g l) Q := by
      intro t
      induction t using Nat.strongRecOn with
      | _ t ih =>
        intro p x ht h0 h1 hx
        have hr := num_r (openP v) p.toNat
        have h8 := pw_le8 (t := p.toNat) (by omega)
        rw [show ((p.toNat : Nat) : Int) = p by omega] at hr h8
        have hs : numR (openP v) (p + 1).toNat = numR (openP v) p.toNat + (@ite Int (openP v p) (Classical.propDecidable _) (pw p) 0) := by
          rw [show (p + 1).toNat = p.toNat + 1 by omega]
          show numR (openP v) p.toNat + (@ite Int (openP v ((p.toNat : Nat) : Int)) (Classical.propDecidable _) (pw ((p.toNat : Nat) : Int)) 0) = _
          rw [show ((p.toNat : Nat) : Int) = p by omega]
        have eg : v (30 + 9 * p + 1) = opG v p := congrArg v (by omega)
        refine x_iload_n dX8_openOnes_8 rfl rfl ?_
        refine x_aload_n dX8_openOnes_9 rfl rfl ?_
        refine g_callI (vs := [_]) (d' := d - 1) rfl (s_X8_ops (by omega) hT (by first | exact hw | exact mciI (by omega) hw | exact mciI (by omega) (mciI (by omega) hw) | exact mciI (by omega) (mciI (by omega) (mciI (by omega) hw)) | exact mciI (by omega) (mciI (by omega) (mciI (by omega) (mciI (by omega) hw))) | exact mciC (by omega) hw)) dX8_openOnes_10 kX8_84 (by omega) (by decide) rfl (Nat.le_of_ble_eq_true rfl) (rcv_o (by first | assumption | exact hT.2.1) rfl) (fun x10 M10 h10 => ?_)
        obtain ⟨e10, f10⟩ := h10
        have f10' := f10.symm
        subst f10'
        subst e10
        refine x_icmp_ge (tgt := 49) dX8_openOnes_13 (by decide) (fun h13 => ?_) (fun h13 => ?_)
        · refine x_iload_n dX8_openOnes_49 rfl rfl ?_
          refine x_ireturn rfl dX8_openOnes_50 ?_
          refine hQ _ _ ⟨_, rfl, ?_, g, l, rfl, f1, f2, f3, f4⟩
          unfold openV
          rw [hx, show p = v 0 by omega]
        · refine x_iload_n dX8_openOnes_16 rfl rfl ?_
          refine x_aload_n dX8_openOnes_17 rfl rfl ?_
          refine x_iload_n dX8_openOnes_18 rfl rfl ?_
          refine g_callI (vs := [_, _]) (d' := d - 1) rfl (s_X8_isSensitive (v := v) (by omega) hT (by omega) (hTr p h0 (by omega))) dX8_openOnes_19 kX8_371 (by omega) (by decide) rfl (Nat.le_of_ble_eq_true rfl) (rcv_o (by first | assumption | exact hT.2.1) rfl) (fun x19 M19 h19 => ?_)
          obtain ⟨e19, f19⟩ := h19
          have f19' := f19.symm
          subst f19'
          subst e19
          refine x_if_eq (tgt := 40) dX8_openOnes_22 (by decide) (fun h22 => ?_) (fun h22 => ?_)
          · try simp only [vP_0, vP_1, vP_n0, vP_n1, Classical.not_not] at h22
            refine x_iconst dX8_openOnes_40 rfl ?_
            refine x_ior dX8_openOnes_41 ?_
            first
            | rw [jshl_1 (by omega), hx, jor_lt (by omega) hr]
            | rw [hx, jor_z (by omega)]
            refine x_istore_n (L' := [some _, some _, some _]) dX8_openOnes_42 rfl (by decide) rfl ?_
            first | refine x_iincN (L' := [some _, some _, some _]) dX8_openOnes_43 rfl (by decide) (by unfold i32; omega) rfl ?_ | refine x_iinc (L' := [some _, some _, some _]) dX8_openOnes_43 rfl (by decide) rfl ?_
            refine x_goto (tgt := 8) dX8_openOnes_46 (by decide) ?_
            first
            | (rw [if_pos (show openP v p from ⟨h22, eg.symm.trans h31⟩)] at hs
               exact ih _ (by omega) (p + 1) _ rfl (by omega) (by omega) hs.symm)
            | (rw [if_neg (show ¬ openP v p from fun q => by first | exact h22 q.1 | exact h31 (eg.trans q.2)), Int.add_zero] at hs
               exact ih _ (by omega) (p + 1) _ rfl (by omega) (by omega) hs.symm)
          · try simp only [vP_0, vP_1, vP_n0, vP_n1, Classical.not_not] at h22
            refine x_aload_n dX8_openOnes_25 rfl rfl ?_
            refine x_iload_n dX8_openOnes_26 rfl rfl ?_
            refine x_iconst dX8_openOnes_27 rfl ?_
            refine g_callI (vs := [_, _, _]) (d' := d - 1) rfl (s_X8_of (by omega) hT (by first | exact hw | exact mciI (by omega) hw | exact mciI (by omega) (mciI (by omega) hw) | exact mciI (by omega) (mciI (by omega) (mciI (by omega) hw)) | exact mciI (by omega) (mciI (by omega) (mciI (by omega) (mciI (by omega) hw))) | exact mciC (by omega) hw) (by omega) (by omega)) dX8_openOnes_28 kX8_78 (by omega) (by decide) rfl (Nat.le_of_ble_eq_true rfl) (rcv_o (by first | assumption | exact hT.2.1) rfl) (fun x28 M28 h28 => ?_)
            obtain ⟨e28, f28⟩ := h28
            have f28' := f28.symm
            subst f28'
            subst e28
            refine x_if_ne (tgt := 40) dX8_openOnes_31 (by decide) (fun h31 => ?_) (fun h31 => ?_)
            · refine x_iconst dX8_openOnes_40 rfl ?_
              refine x_ior dX8_openOnes_41 ?_
              first
              | rw [jshl_1 (by omega), hx, jor_lt (by omega) hr]
              | rw [hx, jor_z (by omega)]
              refine x_istore_n (L' := [some _, some _, some _]) dX8_openOnes_42 rfl (by decide) rfl ?_
              first | refine x_iincN (L' := [some _, some _, some _]) dX8_openOnes_43 rfl (by decide) (by unfold i32; omega) rfl ?_ | refine x_iinc (L' := [some _, some _, some _]) dX8_openOnes_43 rfl (by decide) rfl ?_
              refine x_goto (tgt := 8) dX8_openOnes_46 (by decide) ?_
              first
              | (rw [if_pos (show openP v p from ⟨h22, eg.symm.trans h31⟩)] at hs
                 exact ih _ (by omega) (p + 1) _ rfl (by omega) (by omega) hs.symm)
              | (rw [if_neg (show ¬ openP v p from fun q => by first | exact h22 q.1 | exact h31 (eg.trans q.2)), Int.add_zero] at hs
                 exact ih _ (by omega) (p + 1) _ rfl (by omega) (by omega) hs.symm)
            · refine x_iconst dX8_openOnes_34 rfl ?_
              refine x_iload_n dX8_openOnes_35 rfl rfl ?_
              refine x_ishl dX8_openOnes_36 ?_
              refine x_goto (tgt := 41) dX8_openOnes_37 (by decide) ?_
              refine x_ior dX8_openOnes_41 ?_
              first
              | rw [jshl_1 (by omega), hx, jor_lt (by omega) hr]
              | rw [hx, jor_z (by omega)]
              refine x_istore_n (L' := [some _, some _, some _]) dX8_openOnes_42 rfl (by decide) rfl ?_
              first | refine x_iincN (L' := [some _, some _, some _]) dX8_openOnes_43 rfl (by decide) (by unfold i32; omega) rfl ?_ | refine x_iinc (L' := [some _, some _, some _]) dX8_openOnes_43 rfl (by decide) rfl ?_
              refine x_goto (tgt := 8) dX8_openOnes_46 (by decide) ?_
              first
              | (rw [if_pos (show openP v p from ⟨h22, eg.symm.trans h31⟩)] at hs
                 exact ih _ (by omega) (p + 1) _ rfl (by omega) (by omega) hs.symm)
              | (rw [if_neg (show ¬ openP v p from fun q => by first | exact h22 q.1 | exact h31 (eg.trans q.2)), Int.add_zero] at hs
                 exact ih _ (by omega) (p + 1) _ rfl (by omega) (by omega) hs.symm)
    exact lp _ 0 0 rfl (by omega) (by omega) rfl
  refine x_aload_n dX8_openOnes_0 rfl rfl ?_
  refine g_callN (vs := [_]) (d' := d - 1) rfl (s_X8_laysTraits (by omega) hT (by first | exact hw | exact mciI (by omega) hw | exact mciI (by omega) (mciI (by omega) hw) | exact mciI (by omega) (mciI (by omega) (mciI (by omega) hw)) | exact mciI (by omega) (mciI (by omega) (mciI (by omega) (mciI (by omega) hw))) | exact mciC (by omega) hw) hv hK hsk) dX8_openOnes_1 kX8_423 (by omega) (by decide) rfl (Nat.le_of_ble_eq_true rfl) (rcv_o (by first | assumption | exact hT.2.1) rfl) (fun M1 h1 => ?_)
  obtain ⟨g1, l1, hM1, q1, y1, hK, hTr, hsk⟩ := h1
  subst hM1
  refine x_iconst dX8_openOnes_4 rfl ?_
  refine x_istore_n (L' := [some _, some _, none]) dX8_openOnes_5 rfl (by decide) rfl ?_
  refine x_iconst dX8_openOnes_6 rfl ?_
  refine x_istore_n (L' := [some _, some _, some _]) dX8_openOnes_7 rfl (by decide) rfl ?_
  exact loop g1 l1 (TG.w q1 hw) hTr q1 y1 hK hsk
theorem s_X8_hostable (hd : 19 ≤ d) (hP : TP M m v) : CS G d mX8_hostable [dR m] M (postI fun x M1 => RD M m 0 M1 ∧ x = vP (openV v = 0)) := by
  obtain ⟨hT, hw, hA, hL, hK, hsk⟩ := id hP
  have hv := hA.1
  have hT_ := hT; obtain ⟨p0, p1, ⟨c1, c2, c3, c4, c5, c6, c7, c8, c9, c10, c11, c12, c13, c14, c15⟩, ⟨t1, t2, t3, t4, t5, t6, t7, t8, t9, t10, t11, t12, t13, t14, t15⟩⟩ := hT_
  refine CS.mkQ (by decide) (Nat.le_of_ble_eq_true rfl) fun Q hQ => ?_
  refine x_aload_n dX8_hostable_0 rfl rfl ?_
  refine x_iconst dX8_hostable_1 rfl ?_
  refine g_putI (kI := 0) rfl dX8_hostable_2 fX8_3_8 (by first | assumption | exact hT.2.1) ?_
  obtain ⟨hT, hw, hA, hL, hK, hsk⟩ := TP.z (x := 0) hP
  refine x_aload_n dX8_hostable_5 rfl rfl ?_
  refine g_callI (vs := [_]) (d' := d - 1) rfl (s_X8_openOnes (by omega) hT (by first | exact hw | exact mciI (by omega) hw | exact mciI (by omega) (mciI (by omega) hw) | exact mciI (by omega) (mciI (by omega) (mciI (by omega) hw)) | exact mciI (by omega) (mciI (by omega) (mciI (by omega) (mciI (by omega) hw))) | exact mciC (by omega) hw) hv hK hsk) dX8_hostable_6 kX8_456 (by omega) (by decide) rfl (Nat.le_of_ble_eq_true rfl) (rcv_o (by first | assumption | exact hT.2.1) rfl) (fun x6 M6 h6 => ?_)
  obtain ⟨e6, g6, l6, hM6, q6, y6, hK, hsk⟩ := h6
  subst hM6
  have hw := TG.w q6 (by first | exact hw | exact mciI (by omega) hw | exact mciI (by omega) (mciI (by omega) hw) | exact mciI (by omega) (mciI (by omega) (mciI (by omega) hw)) | exact mciI (by omega) (mciI (by omega) (mciI (by omega) (mciI (by omega) hw))) | exact mciC (by omega) hw)
  refine x_if_ne (tgt := 16) dX8_hostable_9 (by decide) (fun h9 => ?_) (fun h9 => ?_)
  · refine x_iconst dX8_hostable_16 rfl ?_
    refine x_zreturn (by first | exact Or.inl rfl | exact Or.inr rfl | exact vB_r _ | exact vP_r _ | assumption | omega) rfl dX8_hostable_17 ?_
    refine hQ _ _ ⟨_, rfl, RD.mk q6.tq y6.tm hK hsk, ?_⟩
    rw [e6] at h9
    first | exact (vP_t h9).symm | exact (vP_f h9).symm
  · refine x_iconst dX8_hostable_12 rfl ?_
    refine x_goto (tgt := 17) dX8_hostable_13 (by decide) ?_
    refine x_zreturn (by first | exact Or.inl rfl | exact Or.inr rfl | exact vB_r _ | exact vP_r _ | assumption | omega) rfl dX8_hostable_17 ?_
    refine hQ _ _ ⟨_, rfl, RD.mk q6.tq y6.tm hK hsk, ?_⟩
    rw [e6] at h9
    first | exact (vP_t h9).symm | exact (vP_f h9).symm
theorem openV_r {v : Vw} (hv : okB v) : 0 ≤ openV v ∧ openV v < 256 := by
  have h := num_r (openP v) (v 0).toNat
  have h8 := pw_le8 (t := (v 0).toNat) (by have := hv.1; omega)
  unfold openV
  omega
theorem s_X8_open (hd : 19 ≤ d) (hP : TP M m v) : CS G d mX8_open [dR m] M (postI fun x M1 => RD M m 0 M1 ∧ x = bc0 (openV v)) := by
  obtain ⟨hT, hw, hA, hL, hK, hsk⟩ := id hP
  have hv := hA.1
  have hr := openV_r hv
  have hT_ := hT; obtain ⟨p0, p1, ⟨c1, c2, c3, c4, c5, c6, c7, c8, c9, c10, c11, c12, c13, c14, c15⟩, ⟨t1, t2, t3, t4, t5, t6, t7, t8, t9, t10, t11, t12, t13, t14, t15⟩⟩ := hT_
  refine CS.mkQ (by decide) (Nat.le_of_ble_eq_true rfl) fun Q hQ => ?_
  refine x_aload_n dX8_open_0 rfl rfl ?_
  refine x_iconst dX8_open_1 rfl ?_
  refine g_putI (kI := 0) rfl dX8_open_2 fX8_3_8 (by first | assumption | exact hT.2.1) ?_
  obtain ⟨hT, hw, hA, hL, hK, hsk⟩ := TP.z (x := 0) hP
  refine x_aload_n dX8_open_5 rfl rfl ?_
  refine g_callI (vs := [_]) (d' := d - 1) rfl (s_X8_openOnes (by omega) hT (by first | exact hw | exact mciI (by omega) hw | exact mciI (by omega) (mciI (by omega) hw) | exact mciI (by omega) (mciI (by omega) (mciI (by omega) hw)) | exact mciI (by omega) (mciI (by omega) (mciI (by omega) (mciI (by omega) hw))) | exact mciC (by omega) hw) hv hK hsk) dX8_open_6 kX8_456 (by omega) (by decide) rfl (Nat.le_of_ble_eq_true rfl) (rcv_o (by first | assumption | exact hT.2.1) rfl) (fun x6 M6 h6 => ?_)
  obtain ⟨e6, g6, l6, hM6, q6, y6, hK, hsk⟩ := h6
  subst hM6
  have hw := TG.w q6 (by first | exact hw | exact mciI (by omega) hw | exact mciI (by omega) (mciI (by omega) hw) | exact mciI (by omega) (mciI (by omega) (mciI (by omega) hw)) | exact mciI (by omega) (mciI (by omega) (mciI (by omega) (mciI (by omega) hw))) | exact mciC (by omega) hw)
  refine g_callI (vs := [_]) (d' := d - 1) rfl (s_bitCount (by omega) (by omega)) dX8_open_9 kX8_459 (by omega) (by decide) rfl (Nat.le_of_ble_eq_true rfl) (rcv_n) (fun x9 M9 h9 => ?_)
  obtain ⟨e9, f9⟩ := h9
  have f9' := f9.symm
  subst f9'
  subst e9
  try simp (disch := omega) only [rdI_e, rdI_n, rdC_i, rdC_o, rdW, rdR, rdU_e, rdU_n, rdLW, Int.add_zero, hw]
  refine x_ireturn rfl dX8_open_12 ?_
  exact hQ _ _ ⟨_, rfl, RD.mk q6.tq y6.tm hK hsk, by rw [e6]⟩
theorem s_X8_least (hd : 19 ≤ d) (hP : TP M m v) : CS G d mX8_least [dR m] M (postI fun x M1 => RD M m 0 M1 ∧ x = leastV v) := by
  obtain ⟨hT, hw, hA, hL, hK, hsk⟩ := id hP
  have hv := hA.1
  have hv0 := hv.1
  have hT_ := hT; obtain ⟨p0, p1, ⟨c1, c2, c3, c4, c5, c6, c7, c8, c9, c10, c11, c12, c13, c14, c15⟩, ⟨t1, t2, t3, t4, t5, t6, t7, t8, t9, t10, t11, t12, t13, t14, t15⟩⟩ := hT_
  refine CS.mkQ (by decide) (Nat.le_of_ble_eq_true rfl) fun Q hQ => ?_
  have loop : ∀ (g l : Ci) (hw : g (m + 1) = v), TQ m (mci (mI M m 0 0)) g → TM m (mcl M) l → KnOk g l m → sk01 g m → WP G d mX8_least 12 [some (dR m), some (dI (openV v)), some (dI 0)] [] (wL M g l) Q := by
    intro g l hw f1 f2 f3 f4
    have lp : ∀ (t : Nat) (p x : Int), (v 0 - p).toNat = t → (0 ≤ p) → (p ≤ v 0) → (x = numR (fun j => openP v j ∧ (j < p → ¬ opP v j = 1)) (v 0).toNat) → WP G d mX8_least 12 [some (dR m), some (dI x), some (dI p)] [] (wL M g l) Q := by
      intro t
      induction t using Nat.strongRecOn with
      | _ t ih =>
        intro p x ht h0 h1 hx
        have hr := num_r (fun j => openP v j ∧ (j < p → ¬ opP v j = 1)) (v 0).toNat
        have h8 := pw_le8 (t := (v 0).toNat) (by omega)
        have eg : v (30 + 9 * p + 2) = opP v p := congrArg v (by omega)
        refine x_iload_n dX8_least_12 rfl rfl ?_
        refine x_aload_n dX8_least_13 rfl rfl ?_
        refine g_callI (vs := [_]) (d' := d - 1) rfl (s_X8_ops (by omega) hT (by first | exact hw | exact mciI (by omega) hw | exact mciI (by omega) (mciI (by omega) hw) | exact mciI (by omega) (mciI (by omega) (mciI (by omega) hw)) | exact mciI (by omega) (mciI (by omega) (mciI (by omega) (mciI (by omega) hw))) | exact mciC (by omega) hw)) dX8_least_14 kX8_84 (by omega) (by decide) rfl (Nat.le_of_ble_eq_true rfl) (rcv_o (by first | assumption | exact hT.2.1) rfl) (fun x14 M14 h14 => ?_)
        obtain ⟨e14, f14⟩ := h14
        have f14' := f14.symm
        subst f14'
        subst e14
        refine x_icmp_ge (tgt := 48) dX8_least_17 (by decide) (fun h17 => ?_) (fun h17 => ?_)
        · refine x_iload_n dX8_least_48 rfl rfl ?_
          refine x_ireturn rfl dX8_least_49 ?_
          refine hQ _ _ ⟨_, rfl, RD.mk f1 f2 f3 f4, ?_⟩
          unfold leastV
          rw [hx]
          exact num_ext fun k k0 k1 => ⟨fun q => ⟨q.1, q.2 (by omega)⟩, fun q => ⟨q.1, fun _ => q.2⟩⟩
        · refine x_iload_n dX8_least_20 rfl rfl ?_
          refine x_aload_n dX8_least_21 rfl rfl ?_
          refine x_iload_n dX8_least_22 rfl rfl ?_
          refine x_iconst dX8_least_23 rfl ?_
          refine g_callI (vs := [_, _, _]) (d' := d - 1) rfl (s_X8_of (by omega) hT (by first | exact hw | exact mciI (by omega) hw | exact mciI (by omega) (mciI (by omega) hw) | exact mciI (by omega) (mciI (by omega) (mciI (by omega) hw)) | exact mciI (by omega) (mciI (by omega) (mciI (by omega) (mciI (by omega) hw))) | exact mciC (by omega) hw) (by omega) (by omega)) dX8_least_24 kX8_78 (by omega) (by decide) rfl (Nat.le_of_ble_eq_true rfl) (rcv_o (by first | assumption | exact hT.2.1) rfl) (fun x24 M24 h24 => ?_)
          obtain ⟨e24, f24⟩ := h24
          have f24' := f24.symm
          subst f24'
          subst e24
          refine x_iconst dX8_least_27 rfl ?_
          refine x_icmp_ne (tgt := 39) dX8_least_28 (by decide) (fun h28 => ?_) (fun h28 => ?_)
          · refine x_iconst dX8_least_39 rfl ?_
            refine x_iand dX8_least_40 ?_
            first
            | rw [hx, num_clr (by omega) (by omega)]
            | rw [hx, jand_m1 (by omega)]
            refine x_istore_n (L' := [some _, some _, some _]) dX8_least_41 rfl (by decide) rfl ?_
            first | refine x_iincN (L' := [some _, some _, some _]) dX8_least_42 rfl (by decide) (by unfold i32; omega) rfl ?_ | refine x_iinc (L' := [some _, some _, some _]) dX8_least_42 rfl (by decide) rfl ?_
            refine x_goto (tgt := 12) dX8_least_45 (by decide) ?_
            refine ih _ (by omega) (p + 1) _ rfl (by omega) (by omega) (num_ext fun k k0 k1 => ?_)
            rw [eg] at h28
            first
            | (refine ⟨fun q => ⟨q.1.1, fun y => ?_⟩, fun q => ⟨⟨q.1, fun y => q.2 (by omega)⟩, fun y => ?_⟩⟩
               · exact q.1.2 (by have := q.2; omega)
               · exact q.2 (by omega) (by rw [y]; exact h28))
            | (refine ⟨fun q => ⟨q.1, fun y => ?_⟩, fun q => ⟨q.1, fun y => q.2 (by omega)⟩⟩
               by_cases e : k = p
               · rw [e]; exact h28
               · exact q.2 (by omega))
          · refine x_iconst dX8_least_31 rfl ?_
            refine x_iload_n dX8_least_32 rfl rfl ?_
            refine x_ishl dX8_least_33 ?_
            refine x_iconst dX8_least_34 rfl ?_
            refine x_ixor dX8_least_35 ?_
            refine x_goto (tgt := 40) dX8_least_36 (by decide) ?_
            refine x_iand dX8_least_40 ?_
            first
            | rw [hx, num_clr (by omega) (by omega)]
            | rw [hx, jand_m1 (by omega)]
            refine x_istore_n (L' := [some _, some _, some _]) dX8_least_41 rfl (by decide) rfl ?_
            first | refine x_iincN (L' := [some _, some _, some _]) dX8_least_42 rfl (by decide) (by unfold i32; omega) rfl ?_ | refine x_iinc (L' := [some _, some _, some _]) dX8_least_42 rfl (by decide) rfl ?_
            refine x_goto (tgt := 12) dX8_least_45 (by decide) ?_
            refine ih _ (by omega) (p + 1) _ rfl (by omega) (by omega) (num_ext fun k k0 k1 => ?_)
            rw [eg] at h28
            first
            | (refine ⟨fun q => ⟨q.1.1, fun y => ?_⟩, fun q => ⟨⟨q.1, fun y => q.2 (by omega)⟩, fun y => ?_⟩⟩
               · exact q.1.2 (by have := q.2; omega)
               · exact q.2 (by omega) (by rw [y]; exact h28))
            | (refine ⟨fun q => ⟨q.1, fun y => ?_⟩, fun q => ⟨q.1, fun y => q.2 (by omega)⟩⟩
               by_cases e : k = p
               · rw [e]; exact h28
               · exact q.2 (by omega))
    refine lp _ 0 _ rfl (by omega) (by omega) ?_
    unfold openV
    exact num_ext fun k k0 k1 => ⟨fun q => ⟨q, fun y => by omega⟩, fun q => q.1⟩
  refine x_aload_n dX8_least_0 rfl rfl ?_
  refine x_iconst dX8_least_1 rfl ?_
  refine g_putI (kI := 0) rfl dX8_least_2 fX8_3_8 (by first | assumption | exact hT.2.1) ?_
  obtain ⟨hT, hw, hA, hL, hK, hsk⟩ := TP.z (x := 0) hP
  refine x_aload_n dX8_least_5 rfl rfl ?_
  refine g_callI (vs := [_]) (d' := d - 1) rfl (s_X8_openOnes (by omega) hT (by first | exact hw | exact mciI (by omega) hw | exact mciI (by omega) (mciI (by omega) hw) | exact mciI (by omega) (mciI (by omega) (mciI (by omega) hw)) | exact mciI (by omega) (mciI (by omega) (mciI (by omega) (mciI (by omega) hw))) | exact mciC (by omega) hw) hv hK hsk) dX8_least_6 kX8_456 (by omega) (by decide) rfl (Nat.le_of_ble_eq_true rfl) (rcv_o (by first | assumption | exact hT.2.1) rfl) (fun x6 M6 h6 => ?_)
  obtain ⟨e6, g6, l6, hM6, q6, y6, hK, hsk⟩ := h6
  subst hM6
  rw [e6]
  refine x_istore_n (L' := [some _, some _, none]) dX8_least_9 rfl (by decide) rfl ?_
  refine x_iconst dX8_least_10 rfl ?_
  refine x_istore_n (L' := [some _, some _, some _]) dX8_least_11 rfl (by decide) rfl ?_
  exact loop g6 l6 (TG.w q6 hw) q6.tq y6.tm hK hsk
theorem likeG_leak {t : Nat} {n : Int} {u : Vw} (h : likeG (stepV u)) : leakR (t + 1) n u = leakR t (n + 1) (stepV u) := if_pos h
theorem unlikeG_leak {t : Nat} {n : Int} {u : Vw} (h : ¬ likeG (stepV u)) : leakR (t + 1) n u = n := if_neg h
theorem eqB.trans {v v' v'' : Vw} (a : eqB v v') (b : eqB v' v'') : eqB v v'' := fun k h => (b k h).trans (a k h)
theorem stepV_eqB {v : Vw} : eqB v (stepV v) := (bareV_eqB (Or.inl rfl)).trans hostV_eqB
theorem leakR_r : ∀ (t : Nat) (n : Int) (u : Vw), leakR t n u = -1 ∨ (n ≤ leakR t n u ∧ leakR t n u < n + t) := by
  intro t
  induction t with
  | zero => intro n u; exact Or.inl rfl
  | succ t ih =>
    intro n u
    by_cases h : likeG (stepV u)
    · rw [likeG_leak h]
      rcases ih (n + 1) (stepV u) with q | q
      · exact Or.inl q
      · exact Or.inr (by omega)
    · rw [unlikeG_leak h]
      exact Or.inr (by omega)
theorem s_X8_leaksAt (hd : 20 ≤ d) (hT : TwS (msh M) (mcr M) m) (hw : mci M (m + 1) = v) (hv : okB v) (hTr : TrOk (mci M) m v) (hL : lawOK v) (hsk : sk01 (mci M) m) : CS G d mX8_leaksAt [dR m] M (postI fun x M1 => x = leakV v ∧ ∃ g, M1 = wI M g ∧ eqB v (g (m + 1)) ∧ TF m (mci M) g ∧ sk01 g m) := by
  have hT_ := hT; obtain ⟨p0, p1, ⟨c1, c2, c3, c4, c5, c6, c7, c8, c9, c10, c11, c12, c13, c14, c15⟩, ⟨t1, t2, t3, t4, t5, t6, t7, t8, t9, t10, t11, t12, t13, t14, t15⟩⟩ := hT_
  refine CS.mkQ (by decide) (Nat.le_of_ble_eq_true rfl) fun Q hQ => ?_
  have loop : ∀ (t : Nat) (n y : Int) (u : Vw) (g : Ci), (61 - n).toNat = t → (1 ≤ n) → (n ≤ 61) → (g (m + 1) = u) → (okA u) → (eqB v u) → ((y = -1 ∧ leakV v = leakR t n u) ∨ (¬ y = -1 ∧ y = leakV v)) → (TF m (mci M) g) → (sk01 g m) → WP G d mX8_leaksAt 8 [some (dR m), some (dI y), some (dI n)] [] (wI M g) Q := by
    intro t
    induction t using Nat.strongRecOn with
    | _ t ih =>
      intro n y u g ht n0 n1 hw hu hB hy hf hs
      have hTu : TrOk g m u := (hf.tr hTr).eqM hv hB.m
      have hLu : lawOK u := hL.eqM hB.m
      have hb1 := okA_bareV hu
      have hMb : eqM u (bareV u 0) := (bareV_eqB (Or.inl rfl)).m
      by_cases hgo : n ≤ 60 ∧ y = -1
      · have hy' : leakV v = leakR t n u := by
          rcases hy with q | q
          · exact q.2
          · exact absurd hgo.2 q.1
        rw [show t = (61 - (n + 1)).toNat + 1 by omega] at hy'
        refine x_iload_n dX8_leaksAt_8 rfl rfl ?_
        refine x_bipush dX8_leaksAt_9 rfl ?_
        refine x_icmp_gt (tgt := 47) dX8_leaksAt_11 (by decide) (fun h11 => ?_) (fun h11 => ?_)
        · omega
        · refine x_iload_n dX8_leaksAt_14 rfl rfl ?_
          refine x_iconst dX8_leaksAt_15 rfl ?_
          refine x_icmp_ne (tgt := 47) dX8_leaksAt_16 (by decide) (fun h16 => ?_) (fun h16 => ?_)
          · omega
          · refine x_aload_n dX8_leaksAt_19 rfl rfl ?_
            refine g_callN (vs := [_]) (d' := d - 1) rfl (s_X8_bareSteps (M := wI M g) (by omega) hT hw hu.1 hu.2.1 hs) dX8_leaksAt_20 kX8_414 (by omega) (by decide) rfl (Nat.le_of_ble_eq_true rfl) (rcv_o (by first | assumption | exact hT.2.1) rfl) (fun M20 h20 => ?_)
            obtain ⟨g20, hM20, r20, q20, z20⟩ := h20
            subst hM20
            refine x_aload_n dX8_leaksAt_23 rfl rfl ?_
            refine g_callI (vs := [_]) (d' := d - 1) rfl (s_X8_hostedSteps (M := wI M g20) (by omega) hT r20 hb1.1 hb1.2.2 ((q20.tr hTu).eqM hu.1 hMb) (hLu.eqM hMb) z20) dX8_leaksAt_24 kX8_417 (by omega) (by decide) rfl (Nat.le_of_ble_eq_true rfl) (rcv_o (by first | assumption | exact hT.2.1) rfl) (fun x24 M24 h24 => ?_)
            obtain ⟨e24, g24, hM24, r24, q24, z24⟩ := h24
            subst hM24
            have hw2 : g24 (m + 1) = stepV u := r24
            refine x_pop dX8_leaksAt_27 rfl ?_
            refine x_aload_n dX8_leaksAt_28 rfl rfl ?_
            refine g_callI (vs := [_]) (d' := d - 1) rfl (s_X8_areAlike (M := wI M g24) (by omega) hT hw2) dX8_leaksAt_29 kX8_408 (by omega) (by decide) rfl (Nat.le_of_ble_eq_true rfl) (rcv_o (by first | assumption | exact hT.2.1) rfl) (fun x29 M29 h29 => ?_)
            obtain ⟨e29, f29⟩ := h29
            have f29' := f29.symm
            subst f29'
            subst e29
            refine x_if_eq (tgt := 39) dX8_leaksAt_32 (by decide) (fun h32 => ?_) (fun h32 => ?_)
            · try simp only [vP_0, vP_1, vP_n0, vP_n1, Classical.not_not] at h32
              refine x_iload_n dX8_leaksAt_39 rfl rfl ?_
              refine x_istore_n (L' := [some _, some _, some _]) dX8_leaksAt_40 rfl (by decide) rfl ?_
              first | refine x_iincN (L' := [some _, some _, some _]) dX8_leaksAt_41 rfl (by decide) (by unfold i32; omega) rfl ?_ | refine x_iinc (L' := [some _, some _, some _]) dX8_leaksAt_41 rfl (by decide) rfl ?_
              refine x_goto (tgt := 8) dX8_leaksAt_44 (by decide) ?_
              first
              | (refine WP.mem (M1 := wI M g24) rfl (ih _ (by omega) (n + 1) (-1) (stepV u) g24 rfl (by omega) (by omega) hw2 (okA_stepV hu) (hB.trans stepV_eqB) (Or.inl ⟨rfl, ?_⟩) (TF.trans hf (TF.trans q20 q24)) z24)
                 rw [hy', likeG_leak h32])
              | (refine WP.mem (M1 := wI M g24) rfl (ih _ (by omega) (n + 1) n (stepV u) g24 rfl (by omega) (by omega) hw2 (okA_stepV hu) (hB.trans stepV_eqB) (Or.inr ⟨by omega, ?_⟩) (TF.trans hf (TF.trans q20 q24)) z24)
                 rw [hy', unlikeG_leak h32])
            · try simp only [vP_0, vP_1, vP_n0, vP_n1, Classical.not_not] at h32
              refine x_iconst dX8_leaksAt_35 rfl ?_
              refine x_goto (tgt := 40) dX8_leaksAt_36 (by decide) ?_
              refine x_istore_n (L' := [some _, some _, some _]) dX8_leaksAt_40 rfl (by decide) rfl ?_
              first | refine x_iincN (L' := [some _, some _, some _]) dX8_leaksAt_41 rfl (by decide) (by unfold i32; omega) rfl ?_ | refine x_iinc (L' := [some _, some _, some _]) dX8_leaksAt_41 rfl (by decide) rfl ?_
              refine x_goto (tgt := 8) dX8_leaksAt_44 (by decide) ?_
              first
              | (refine WP.mem (M1 := wI M g24) rfl (ih _ (by omega) (n + 1) (-1) (stepV u) g24 rfl (by omega) (by omega) hw2 (okA_stepV hu) (hB.trans stepV_eqB) (Or.inl ⟨rfl, ?_⟩) (TF.trans hf (TF.trans q20 q24)) z24)
                 rw [hy', likeG_leak h32])
              | (refine WP.mem (M1 := wI M g24) rfl (ih _ (by omega) (n + 1) n (stepV u) g24 rfl (by omega) (by omega) hw2 (okA_stepV hu) (hB.trans stepV_eqB) (Or.inr ⟨by omega, ?_⟩) (TF.trans hf (TF.trans q20 q24)) z24)
                 rw [hy', unlikeG_leak h32])
      · refine x_iload_n dX8_leaksAt_8 rfl rfl ?_
        refine x_bipush dX8_leaksAt_9 rfl ?_
        refine x_icmp_gt (tgt := 47) dX8_leaksAt_11 (by decide) (fun h11 => ?_) (fun h11 => ?_)
        · refine x_iload_n dX8_leaksAt_47 rfl rfl ?_
          refine x_ireturn rfl dX8_leaksAt_48 ?_
          refine hQ _ _ ⟨_, rfl, ?_, g, rfl, by rw [hw]; exact hB, hf, hs⟩
          rcases hy with q | q
          · rw [q.1, q.2, show t = 0 by omega]
            rfl
          · exact q.2
        · refine x_iload_n dX8_leaksAt_14 rfl rfl ?_
          refine x_iconst dX8_leaksAt_15 rfl ?_
          refine x_icmp_ne (tgt := 47) dX8_leaksAt_16 (by decide) (fun h16 => ?_) (fun h16 => ?_)
          · refine x_iload_n dX8_leaksAt_47 rfl rfl ?_
            refine x_ireturn rfl dX8_leaksAt_48 ?_
            refine hQ _ _ ⟨_, rfl, ?_, g, rfl, by rw [hw]; exact hB, hf, hs⟩
            rcases hy with q | q
            · rw [q.1, q.2, show t = 0 by omega]
              rfl
            · exact q.2
          · omega
  refine x_aload_n dX8_leaksAt_0 rfl rfl ?_
  refine g_callN (vs := [_]) (d' := d - 1) rfl (s_X8_bothBoot (by omega) hT hw) dX8_leaksAt_1 kX8_64 (by omega) (by decide) rfl (Nat.le_of_ble_eq_true rfl) (rcv_o (by first | assumption | exact hT.2.1) rfl) (fun M1 h1 => ?_)
  obtain ⟨g1, hM1, r1, q1⟩ := h1
  subst hM1
  refine x_iconst dX8_leaksAt_4 rfl ?_
  refine x_istore_n (L' := [some _, some _, none]) dX8_leaksAt_5 rfl (by decide) rfl ?_
  refine x_iconst dX8_leaksAt_6 rfl ?_
  refine x_istore_n (L' := [some _, some _, some _]) dX8_leaksAt_7 rfl (by decide) rfl ?_
  exact loop _ 1 (-1) (bootV v) g1 rfl (by omega) (by omega) r1 (bootV_ok hv) bootV_eqB (Or.inl ⟨rfl, rfl⟩) q1.tf (q1.sk hsk)
/-- all is brought back behind a call that kept it -/
theorem TQ.back {M : Mem} {m : Int} {g : Ci} {v : Vw} (hw : mci M (m + 1) = v) (hf : TH m (mci (mC M (m + 1) 0 (m + 4) 0 368)) g) (ho : ∀ k, 368 ≤ k ∨ k < 0 → g (m + 1) k = v k) : mci (mC (wI M g) (m + 4) 0 (m + 1) 0 368) (m + 1) = v ∧ TQ m (mci M) (mci (mC (wI M g) (m + 4) 0 (m + 1) 0 368)) := by
  have e := back_w hw (fun k => hf _ _ (by omega) (by omega) (by unfold scr; omega)) ho
  refine ⟨e, fun a k p1 p2 p3 p4 p5 p6 p7 => ?_⟩
  by_cases ha : a = m + 1
  · subst ha
    rw [e, hw]
  · refine (rdC_o (by omega)).trans ((hf a k ha p4 p1).trans (rdC_o (by omega)))
theorem s_X8_leaks (hd : 21 ≤ d) (hP : TP M m v) : CS G d mX8_leaks [dR m] M (postI fun x M1 => RD M m 0 M1 ∧ x = leakV v) := by
  obtain ⟨hT, hw, hA, hL, hK, hsk⟩ := id hP
  have hv := hA.1
  have hT_ := hT; obtain ⟨p0, p1, ⟨c1, c2, c3, c4, c5, c6, c7, c8, c9, c10, c11, c12, c13, c14, c15⟩, ⟨t1, t2, t3, t4, t5, t6, t7, t8, t9, t10, t11, t12, t13, t14, t15⟩⟩ := hT_
  refine CS.mkQ (by decide) (Nat.le_of_ble_eq_true rfl) fun Q hQ => ?_
  refine x_aload_n dX8_leaks_0 rfl rfl ?_
  refine x_iconst dX8_leaks_1 rfl ?_
  refine g_putI (kI := 0) rfl dX8_leaks_2 fX8_3_8 (by first | assumption | exact hT.2.1) ?_
  obtain ⟨hT, hw, hA, hL, hK, hsk⟩ := TP.z (x := 0) hP
  refine x_aload_n dX8_leaks_5 rfl rfl ?_
  refine g_callN (vs := [_]) (d' := d - 1) rfl (s_X8_laysTraits (by omega) hT (by first | exact hw | exact mciI (by omega) hw | exact mciI (by omega) (mciI (by omega) hw) | exact mciI (by omega) (mciI (by omega) (mciI (by omega) hw)) | exact mciI (by omega) (mciI (by omega) (mciI (by omega) (mciI (by omega) hw))) | exact mciC (by omega) hw) hv hK hsk) dX8_leaks_6 kX8_423 (by omega) (by decide) rfl (Nat.le_of_ble_eq_true rfl) (rcv_o (by first | assumption | exact hT.2.1) rfl) (fun M6 h6 => ?_)
  obtain ⟨g6, l6, hM6, q6, y6, hK, hTr, hsk⟩ := h6
  subst hM6
  have hw := TG.w q6 (by first | exact hw | exact mciI (by omega) hw | exact mciI (by omega) (mciI (by omega) hw) | exact mciI (by omega) (mciI (by omega) (mciI (by omega) hw)) | exact mciI (by omega) (mciI (by omega) (mciI (by omega) (mciI (by omega) hw))) | exact mciC (by omega) hw)
  refine x_aload_n dX8_leaks_9 rfl rfl ?_
  refine g_callN (vs := [_]) (d' := d - 1) rfl (s_X8_keepsAll (M := wL M g6 l6) (by omega) hT) dX8_leaks_10 kX8_464 (by omega) (by decide) rfl (Nat.le_of_ble_eq_true rfl) (rcv_o (by first | assumption | exact hT.2.1) rfl) (fun M10 h10 => ?_)
  subst h10
  have hTr' : TrOk (mci (mC (wL M g6 l6) (m + 1) 0 (m + 4) 0 368)) m v := fun p a b => (rdC_o (by omega)).trans (hTr p a b)
  have hsk' : sk01 (mci (mC (wL M g6 l6) (m + 1) 0 (m + 4) 0 368)) m := by
    unfold sk01 at hsk ⊢
    rw [rdC_o (by omega)]
    exact hsk
  refine x_aload_n dX8_leaks_13 rfl rfl ?_
  refine g_callI (vs := [_]) (d' := d - 1) rfl (s_X8_leaksAt (M := mC (wL M g6 l6) (m + 1) 0 (m + 4) 0 368) (by omega) hT (mciC (by omega) hw) hv hTr' hL hsk') dX8_leaks_14 kX8_467 (by omega) (by decide) rfl (Nat.le_of_ble_eq_true rfl) (rcv_o (by first | assumption | exact hT.2.1) rfl) (fun x14 M14 h14 => ?_)
  obtain ⟨e14, g14, hM14, r14, q14, z14⟩ := h14
  subst hM14
  refine x_istore_n (L' := [some _, some _]) dX8_leaks_17 rfl (by decide) rfl ?_
  refine x_aload_n dX8_leaks_18 rfl rfl ?_
  refine g_callN (vs := [_]) (d' := d - 1) rfl (s_X8_bringsBack (M := wI (wL M g6 l6) g14) (by omega) hT) dX8_leaks_19 kX8_470 (by omega) (by decide) rfl (Nat.le_of_ble_eq_true rfl) (rcv_o (by first | assumption | exact hT.2.1) rfl) (fun M19 h19 => ?_)
  subst h19
  refine x_iload_n dX8_leaks_22 rfl rfl ?_
  refine x_ireturn rfl dX8_leaks_23 ?_
  have hb := TQ.back (M := wL M g6 l6) hw q14.th (fun k hk => r14 k (by omega))
  refine hQ _ _ ⟨_, rfl, RD.mk (g := mci (mC (wI (wL M g6 l6) g14) (m + 4) 0 (m + 1) 0 368)) (l := l6) (TQ.trans q6.tq hb.2) y6.tm (KnOk.at hK (fun p => ?_) (fun p => rfl)) ?_, e14⟩
  · exact (rdC_o (by omega)).trans ((q14.t10 p).trans (rdC_o (by omega)))
  · exact sk01.at z14 (rdC_o (by omega))
end X8

