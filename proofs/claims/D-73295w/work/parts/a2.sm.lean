/-! GuestView: small methods, the tape -/
/-- all that lasts, and all else as it was -/
def CO (M : Mem) (v : Vw) (n : Int) (A : Int → Vw) (hi : Int) (vi : Vw) (tp : Int → Int) (sz fa N : Int) (c s : Nat) (M1 : Mem) : Prop := CI M1 v n A hi vi tp sz fa N ∧ CR M M1 c s
theorem CR.zero {M : Mem} : CR M M 0 0 := ⟨Kp.rfl, Nat.le_refl _, Nat.le_refl _, Nat.le_refl _⟩
theorem CR.x {M : Mem} : CR M (mX M 6) 1 6 := ⟨fun b _ => ⟨rfl, fun k => rfl, fun k => rfl, fun k => rfl⟩, Nat.le_succ _, Nat.le_refl _, Nat.le_refl _⟩
theorem CR.w {M : Mem} {g : Ci} (h : ∀ b k, (b < 0 ∨ 744 ≤ b) → g b k = mci M b k) : CR M (wI M g) 0 0 := ⟨fun b hb => ⟨rfl, fun k => h b k (by omega), fun k => rfl, fun k => rfl⟩, Nat.le_refl _, Nat.le_refl _, Nat.le_refl _⟩
theorem FQ.cr {M : Mem} {g : Ci} (h : FQ (mci M) g) : CR M (wI M g) 0 0 := CR.w fun b k q => h b k (by omega) (by omega)
section X1
variable {G : GW} {d : Nat} {M : Mem} {a b c e k n x op what hi sz fa N i arr : Int} {v vi : Vw} {A : Int → Vw} {tp : Int → Int}
theorem CO.r (h : CI M v n A hi vi tp sz fa N) : CO M v n A hi vi tp sz fa N 0 0 M := ⟨h, CR.zero⟩
theorem CO.q {M1 : Mem} {c s : Nat} (h : CI M v n A hi vi tp sz fa N) (hq : CQ M M1 c s) : CO M v n A hi vi tp sz fa N c s M1 := ⟨h.cq hq, hq.cr⟩
theorem CO.tr {M1 M2 : Mem} {c s c' s' : Nat} (h : CR M M1 c s) (h' : CO M1 v n A hi vi tp sz fa N c' s' M2) : CO M v n A hi vi tp sz fa N (c + c') (s + s') M2 := ⟨h'.1, h.trans h'.2⟩
theorem CO.xx (h : CI M v n A hi vi tp sz fa N) : CO M v n A hi vi tp sz fa N 1 6 (mX M 6) := CO.q h (CQ.x h.1.2.2.2.2.1)
/-- the tape and the reader's numbers, the last fault -/
theorem CI.rd {g : Ci} {tp' : Int → Int} {sz' fa' : Int} (h : CI M v n A hi vi tp sz fa N) (hg : ∀ b k, ¬ (b = 2 ∧ 7 ≤ k) → ¬ b = 3 → ¬ (b = 0 ∧ k = 13) → g b k = mci M b k) (ht : g 3 = tp') (hs : g 2 7 = sz') (hz : 0 ≤ sz' ∧ sz' ≤ 400) (hf : g 0 13 = fa') : CO M v n A hi vi tp' sz' fa' N 0 0 (wI M g) := by
  obtain ⟨h1, h2, ⟨a1, a2, a3, a4⟩, ⟨⟨b1, b2⟩, b3, ⟨b4, b5, b6⟩, b7⟩⟩ := h
  have hk : Kp (fun b => ¬ b = 0 ∧ ¬ b = 2 ∧ ¬ b = 3) M (wI M g) := fun b hb => ⟨rfl, fun k => hg b k (by omega) (by omega) (by omega), fun k => rfl, fun k => rfl⟩
  have st : ∀ p u, 54 ≤ p → StOk M p u N → StOk (wI M g) p u N := fun p u hp h => h.kp hk (fun b x y => by omega) (fun b x y z => by omega) (Nat.le_refl _)
  refine ⟨⟨h1.of (hk.mono fun b hb => by omega) (fun b x y => rfl) (fun b k x y z => rfl) h1.2.2.2.1 ?_ (Nat.le_refl _), st _ _ (by omega) h2, ⟨(hg _ _ (by omega) (by omega) (by omega)).trans a1, a2, by rw [show mci (wI M g) 0 15 = mci M 0 15 from hg _ _ (by omega) (by omega) (by omega)]; exact a3, fun j x y => by rw [show mci (wI M g) 0 15 = mci M 0 15 from hg _ _ (by omega) (by omega) (by omega)]; exact st _ _ (by omega) (a4 j x y)⟩, ⟨⟨(hg _ _ (by omega) (by omega) (by omega)).trans b1, b2⟩, fun q => st _ _ (by omega) (b3 q), ⟨ht, hs, hz⟩, hf⟩⟩, CR.w fun b k q => hg b k (by omega) (by omega) (by omega)⟩
  obtain ⟨i1, i2, i3, i4, i5⟩ := h1.2.2.2.2.1
  refine ⟨fun p hp => ?_, ?_, ?_, ?_, ?_⟩
  · have e1 : mci (wI M g) (p + 8) 6 = mci M (p + 8) 6 := hg _ _ (by unfold SB at hp; omega) (by unfold SB at hp; omega) (by omega)
    have e2 : mci (wI M g) (p + 11) 6 = mci M (p + 11) 6 := hg _ _ (by unfold SB at hp; omega) (by unfold SB at hp; omega) (by omega)
    rw [e1, e2]
    exact i1 p hp
  · exact (show mci (wI M g) 189 6 = mci M 189 6 from hg _ _ (by omega) (by omega) (by omega)) ▸ i2
  · exact (show mci (wI M g) 191 6 = mci M 191 6 from hg _ _ (by omega) (by omega) (by omega)) ▸ i3
  · exact (show mci (wI M g) 194 6 = mci M 194 6 from hg _ _ (by omega) (by omega) (by omega)) ▸ i4
  · exact (show mci (wI M g) 197 6 = mci M 197 6 from hg _ _ (by omega) (by omega) (by omega)) ▸ i5
theorem s_X1_isIn (hd : 10 ≤ d) : CS G d mX1_isIn [dI a, dI b, dI c] M (pur M (vP (b ≤ a ∧ a ≤ c))) := by
  refine CS.mkQ (by decide) (Nat.le_of_ble_eq_true rfl) fun Q hQ => ?_
  refine x_iload_n dX1_isIn_0 rfl rfl ?_
  refine x_iload_n dX1_isIn_1 rfl rfl ?_
  refine x_icmp_lt (tgt := 14) dX1_isIn_2 (by decide) (fun h2 => ?_) (fun h2 => ?_)
  · refine x_iconst dX1_isIn_14 rfl ?_
    refine x_zreturn (by first | exact Or.inl rfl | exact Or.inr rfl | exact vB_r _ | exact vP_r _ | assumption | omega) rfl dX1_isIn_15 ?_
    exact hQ _ _ ⟨_, rfl, (by first | rfl | omega | exact (vP_t (by omega)).symm | exact (vP_f (by omega)).symm), rfl⟩
  · refine x_iload_n dX1_isIn_5 rfl rfl ?_
    refine x_iload_n dX1_isIn_6 rfl rfl ?_
    refine x_icmp_gt (tgt := 14) dX1_isIn_7 (by decide) (fun h7 => ?_) (fun h7 => ?_)
    · refine x_iconst dX1_isIn_14 rfl ?_
      refine x_zreturn (by first | exact Or.inl rfl | exact Or.inr rfl | exact vB_r _ | exact vP_r _ | assumption | omega) rfl dX1_isIn_15 ?_
      exact hQ _ _ ⟨_, rfl, (by first | rfl | omega | exact (vP_t (by omega)).symm | exact (vP_f (by omega)).symm), rfl⟩
    · refine x_iconst dX1_isIn_10 rfl ?_
      refine x_goto (tgt := 15) dX1_isIn_11 (by decide) ?_
      refine x_zreturn (by first | exact Or.inl rfl | exact Or.inr rfl | exact vB_r _ | exact vP_r _ | assumption | omega) rfl dX1_isIn_15 ?_
      exact hQ _ _ ⟨_, rfl, (by first | rfl | omega | exact (vP_t (by omega)).symm | exact (vP_f (by omega)).symm), rfl⟩
theorem s_X1_flag (hd : 10 ≤ d) (hb : b = 0 ∨ b = 1) : CS G d mX1_flag [dI b] M (pur M b) := by
  refine CS.mkQ (by decide) (Nat.le_of_ble_eq_true rfl) fun Q hQ => ?_
  refine x_iload_n dX1_flag_0 rfl rfl ?_
  refine x_if_eq (tgt := 8) dX1_flag_1 (by decide) (fun h1 => ?_) (fun h1 => ?_)
  · refine x_iconst dX1_flag_8 rfl ?_
    refine x_ireturn rfl dX1_flag_9 ?_
    exact hQ _ _ ⟨_, rfl, (by first | rfl | omega | exact (vP_t (by omega)).symm | exact (vP_f (by omega)).symm), rfl⟩
  · refine x_iconst dX1_flag_4 rfl ?_
    refine x_goto (tgt := 9) dX1_flag_5 (by decide) ?_
    refine x_ireturn rfl dX1_flag_9 ?_
    exact hQ _ _ ⟨_, rfl, (by first | rfl | omega | exact (vP_t (by omega)).symm | exact (vP_f (by omega)).symm), rfl⟩
theorem s_X1_stretch (hd : 10 ≤ d) (ha : 0 ≤ a ∧ a ≤ 8) (hb : 0 ≤ b ∧ b ≤ 8) : CS G d mX1_stretch [dI a, dI b] M (pur M (9 * a + b)) := by
  refine CS.mkQ (by decide) (Nat.le_of_ble_eq_true rfl) fun Q hQ => ?_
  refine x_bipush dX1_stretch_0 rfl ?_
  refine x_iload_n dX1_stretch_2 rfl rfl ?_
  first | refine x_imulN dX1_stretch_3 (by unfold i32; omega) ?_ | refine x_imul dX1_stretch_3 ?_
  refine x_iload_n dX1_stretch_4 rfl rfl ?_
  first | refine x_iaddN dX1_stretch_5 (by unfold i32; omega) ?_ | refine x_iadd dX1_stretch_5 ?_
  refine x_ireturn rfl dX1_stretch_6 ?_
  exact hQ _ _ ⟨_, rfl, (by first | rfl | omega | exact (vP_t (by omega)).symm | exact (vP_f (by omega)).symm), rfl⟩
theorem s_X1_isAny (hd : 10 ≤ d) (hs : msh M arr = some (100, n)) (h0 : 0 ≤ arr) (hn : n ≤ 100) : CS G d mX1_isAny [dI a, dR arr] M (pur M (vP (∃ k, 0 ≤ k ∧ k < n ∧ mci M arr k = a))) := by
  refine CS.mkQ (by decide) (Nat.le_of_ble_eq_true rfl) fun Q hQ => ?_
  have lp : ∀ (t : Nat) (k : Int), (n - k).toNat = t → (0 ≤ k) → (∀ j, 0 ≤ j → j < k → ¬ mci M arr j = a) → WP G d mX1_isAny 2 [some (dI a), some (dR arr), some (dI k)] [] (M) Q := by
    intro t
    induction t using Nat.strongRecOn with
    | _ t ih =>
      intro k ht k0 hk
      refine x_iload_n dX1_isAny_2 rfl rfl ?_
      refine x_aload_n dX1_isAny_3 rfl rfl ?_
      refine x_alen rfl dX1_isAny_4 (by first | assumption | first | assumption | (simp (disch := omega) only [shI, shR, shL, shC, shD, shW, sh_V, shN_e, shN_n, crI, crL, crC, crW, crV, crR_e, crR_n, crN_e, crN_n, ciR, ciL, ciD, ciN_e, ciN_n, rdI_e, rdI_n, rdC_i, rdC_o, rdW, rdU_e, rdU_n, rdLW, clI, clR, clC, clD, clW, clV, clN_e, clN_n, clL_e, clL_n]; done) | (simp (disch := omega) only [shI, shR, shL, shC, shD, shW, sh_V, shN_e, shN_n, crI, crL, crC, crW, crV, crR_e, crR_n, crN_e, crN_n, ciR, ciL, ciD, ciN_e, ciN_n, rdI_e, rdI_n, rdC_i, rdC_o, rdW, rdU_e, rdU_n, rdLW, clI, clR, clC, clD, clW, clV, clN_e, clN_n, clL_e, clL_n] <;> first | assumption | rfl | omega)) ?_
      refine x_icmp_ge (tgt := 23) dX1_isAny_5 (by decide) (fun h5 => ?_) (fun h5 => ?_)
      · refine x_iconst dX1_isAny_23 rfl ?_
        refine x_zreturn (by first | exact Or.inl rfl | exact Or.inr rfl | exact vB_r _ | exact vP_r _ | assumption | omega) rfl dX1_isAny_24 ?_
        exact hQ _ _ ⟨_, rfl, (vP_f fun ⟨j, j0, j1, j2⟩ => hk j j0 (by omega) j2).symm, rfl⟩
      · refine x_aload_n dX1_isAny_8 rfl rfl ?_
        refine x_iload_n dX1_isAny_9 rfl rfl ?_
        refine x_iald dX1_isAny_10 (by first | assumption | first | assumption | (simp (disch := omega) only [shI, shR, shL, shC, shD, shW, sh_V, shN_e, shN_n, crI, crL, crC, crW, crV, crR_e, crR_n, crN_e, crN_n, ciR, ciL, ciD, ciN_e, ciN_n, rdI_e, rdI_n, rdC_i, rdC_o, rdW, rdU_e, rdU_n, rdLW, clI, clR, clC, clD, clW, clV, clN_e, clN_n, clL_e, clL_n]; done) | (simp (disch := omega) only [shI, shR, shL, shC, shD, shW, sh_V, shN_e, shN_n, crI, crL, crC, crW, crV, crR_e, crR_n, crN_e, crN_n, ciR, ciL, ciD, ciN_e, ciN_n, rdI_e, rdI_n, rdC_i, rdC_o, rdW, rdU_e, rdU_n, rdLW, clI, clR, clC, clD, clW, clV, clN_e, clN_n, clL_e, clL_n] <;> first | assumption | rfl | omega)) (by omega) (by omega) ?_
        refine x_iload_n dX1_isAny_11 rfl rfl ?_
        refine x_icmp_ne (tgt := 17) dX1_isAny_12 (by decide) (fun h12 => ?_) (fun h12 => ?_)
        · first | refine x_iincN (L' := [some _, some _, some _]) dX1_isAny_17 rfl (by decide) (by unfold i32; omega) rfl ?_ | refine x_iinc (L' := [some _, some _, some _]) dX1_isAny_17 rfl (by decide) rfl ?_
          refine x_goto (tgt := 2) dX1_isAny_20 (by decide) ?_
          exact ih _ (by omega) (k + 1) rfl (by omega) fun j j0 j1 => by
            by_cases q : j = k
            · rw [q]; exact h12
            · exact hk j j0 (by omega)
        · refine x_iconst dX1_isAny_15 rfl ?_
          refine x_zreturn (by first | exact Or.inl rfl | exact Or.inr rfl | exact vB_r _ | exact vP_r _ | assumption | omega) rfl dX1_isAny_16 ?_
          exact hQ _ _ ⟨_, rfl, (vP_t ⟨k, k0, by omega, h12⟩).symm, rfl⟩
  refine x_iconst dX1_isAny_0 rfl ?_
  refine x_istore_n (L' := [some _, some _, some _]) dX1_isAny_1 rfl (by decide) rfl ?_
  exact lp _ 0 rfl (by omega) (fun j j0 j1 => by omega)
theorem s_X1_must (hd : 10 ≤ d) (hb : b = 0 ∨ b = 1) : CS G d mX1_must [dI b] M (orT (postN fun M1 => b = 1 ∧ M = M1) (fun a E M1 => b = 0 ∧ E = "java/lang/IllegalArgumentException" ∧ M1 = mX M 6)) := by
  refine CS.mkQ (by decide) (Nat.le_of_ble_eq_true rfl) fun Q hQ => ?_
  refine x_iload_n dX1_must_0 rfl rfl ?_
  refine x_if_ne (tgt := 12) dX1_must_1 (by decide) (fun h1 => ?_) (fun h1 => ?_)
  · refine x_vreturn rfl dX1_must_12 ?_
    exact hQ _ _ (Or.inl ⟨rfl, by omega, rfl⟩)
  · refine x_throw0 thr_IAE (by omega) (Nat.le_of_ble_eq_true rfl) rfl dX1_must_4 dX1_must_7 dX1_must_8 dX1_must_11 ?_
    exact hQ _ _ (Or.inr ⟨_, _, rfl, by omega, rfl, rfl⟩)
theorem s_X1_mayBe (hd : 10 ≤ d) (hb : b = 0 ∨ b = 1) : CS G d mX1_mayBe [dI b] M (orT (postN fun M1 => b = 1 ∧ M = M1) (fun a E M1 => b = 0 ∧ E = "java/lang/UnsupportedOperationException" ∧ M1 = mX M 6)) := by
  refine CS.mkQ (by decide) (Nat.le_of_ble_eq_true rfl) fun Q hQ => ?_
  refine x_iload_n dX1_mayBe_0 rfl rfl ?_
  refine x_if_ne (tgt := 12) dX1_mayBe_1 (by decide) (fun h1 => ?_) (fun h1 => ?_)
  · refine x_vreturn rfl dX1_mayBe_12 ?_
    exact hQ _ _ (Or.inl ⟨rfl, by omega, rfl⟩)
  · refine x_throw0 thr_UOE (by omega) (Nat.le_of_ble_eq_true rfl) rfl dX1_mayBe_4 dX1_mayBe_7 dX1_mayBe_8 dX1_mayBe_11 ?_
    exact hQ _ _ (Or.inr ⟨_, _, rfl, by omega, rfl, rfl⟩)
theorem s_X1_mustBe (hd : 10 ≤ d) (hb : b = 0 ∨ b = 1) : CS G d mX1_mustBe [dI b] M (orT (postN fun M1 => b = 1 ∧ M = M1) (fun a E M1 => b = 0 ∧ E = "java/lang/IndexOutOfBoundsException" ∧ M1 = mX M 6)) := by
  refine CS.mkQ (by decide) (Nat.le_of_ble_eq_true rfl) fun Q hQ => ?_
  refine x_iload_n dX1_mustBe_0 rfl rfl ?_
  refine x_if_ne (tgt := 12) dX1_mustBe_1 (by decide) (fun h1 => ?_) (fun h1 => ?_)
  · refine x_vreturn rfl dX1_mustBe_12 ?_
    exact hQ _ _ (Or.inl ⟨rfl, by omega, rfl⟩)
  · refine x_throw0 thr_IOB (by omega) (Nat.le_of_ble_eq_true rfl) rfl dX1_mustBe_4 dX1_mustBe_7 dX1_mustBe_8 dX1_mustBe_11 ?_
    exact hQ _ _ (Or.inr ⟨_, _, rfl, by omega, rfl, rfl⟩)
theorem s_X1_thereIs (hd : 10 ≤ d) (hb : b = 0 ∨ b = 1) : CS G d mX1_thereIs [dI b] M (orT (postN fun M1 => b = 1 ∧ M = M1) (fun a E M1 => b = 0 ∧ E = "java/util/NoSuchElementException" ∧ M1 = mX M 6)) := by
  refine CS.mkQ (by decide) (Nat.le_of_ble_eq_true rfl) fun Q hQ => ?_
  refine x_iload_n dX1_thereIs_0 rfl rfl ?_
  refine x_if_ne (tgt := 12) dX1_thereIs_1 (by decide) (fun h1 => ?_) (fun h1 => ?_)
  · refine x_vreturn rfl dX1_thereIs_12 ?_
    exact hQ _ _ (Or.inl ⟨rfl, by omega, rfl⟩)
  · refine x_throw0 thr_NSE (by omega) (Nat.le_of_ble_eq_true rfl) rfl dX1_thereIs_4 dX1_thereIs_7 dX1_thereIs_8 dX1_thereIs_11 ?_
    exact hQ _ _ (Or.inr ⟨_, _, rfl, by omega, rfl, rfl⟩)
theorem s_X1_isCell (hd : 12 ≤ d) : CS G d mX1_isCell [dI k] M (orT (postN fun M1 => (0 ≤ k ∧ k ≤ 7) ∧ M = M1) (fun a E M1 => ¬ (0 ≤ k ∧ k ≤ 7) ∧ E = "java/lang/IndexOutOfBoundsException" ∧ M1 = mX M 6)) := by
  refine CS.mkQ (by decide) (Nat.le_of_ble_eq_true rfl) fun Q hQ => ?_
  refine x_iload_n dX1_isCell_0 rfl rfl ?_
  refine x_iconst dX1_isCell_1 rfl ?_
  refine x_bipush dX1_isCell_2 rfl ?_
  refine g_callI (vs := [_, _, _]) (d' := d - 1) rfl (s_X1_isIn (by omega)) dX1_isCell_4 kX1_104 (by omega) (by decide) rfl (Nat.le_of_ble_eq_true rfl) (rcv_n) (fun x4 M4 h4 => ?_)
  obtain ⟨e4, f4⟩ := h4
  have f4' := f4.symm
  subst f4'
  subst e4
  refine g_callNX (vs := [_]) (d' := d - 1) rfl (s_X1_mustBe (by omega) (by first | omega | exact vP_r _)) dX1_isCell_7 kX1_108 (by omega) (by decide) rfl (Nat.le_of_ble_eq_true rfl) (rcv_n) (fun M7 h7 => ?_) (fun a7 E7 M7 h7 => ?_)
  · obtain ⟨q7, e7⟩ := h7
    subst e7
    try simp only [vP_0, vP_1, vP_n0, vP_n1, Classical.not_not] at q7
    refine x_vreturn rfl dX1_isCell_10 ?_
    exact hQ _ _ (Or.inl ⟨rfl, by omega, rfl⟩)
  · obtain ⟨q7, eE7, eM7⟩ := h7
    subst eE7
    subst eM7
    try simp only [vP_0, vP_1, vP_n0, vP_n1, Classical.not_not] at q7
    exact th_nil rfl (hQ _ _ (Or.inr ⟨_, _, rfl, by omega, rfl, rfl⟩))
theorem s_X1_areSteps (hd : 12 ≤ d) : CS G d mX1_areSteps [dI k] M (orT (postN fun M1 => (0 ≤ k ∧ k ≤ 60) ∧ M = M1) (fun a E M1 => ¬ (0 ≤ k ∧ k ≤ 60) ∧ E = "java/lang/IllegalArgumentException" ∧ M1 = mX M 6)) := by
  refine CS.mkQ (by decide) (Nat.le_of_ble_eq_true rfl) fun Q hQ => ?_
  refine x_iload_n dX1_areSteps_0 rfl rfl ?_
  refine x_iconst dX1_areSteps_1 rfl ?_
  refine x_bipush dX1_areSteps_2 rfl ?_
  refine g_callI (vs := [_, _, _]) (d' := d - 1) rfl (s_X1_isIn (by omega)) dX1_areSteps_4 kX1_104 (by omega) (by decide) rfl (Nat.le_of_ble_eq_true rfl) (rcv_n) (fun x4 M4 h4 => ?_)
  obtain ⟨e4, f4⟩ := h4
  have f4' := f4.symm
  subst f4'
  subst e4
  refine g_callNX (vs := [_]) (d' := d - 1) rfl (s_X1_must (by omega) (by first | omega | exact vP_r _)) dX1_areSteps_7 kX1_116 (by omega) (by decide) rfl (Nat.le_of_ble_eq_true rfl) (rcv_n) (fun M7 h7 => ?_) (fun a7 E7 M7 h7 => ?_)
  · obtain ⟨q7, e7⟩ := h7
    subst e7
    try simp only [vP_0, vP_1, vP_n0, vP_n1, Classical.not_not] at q7
    refine x_vreturn rfl dX1_areSteps_10 ?_
    exact hQ _ _ (Or.inl ⟨rfl, by omega, rfl⟩)
  · obtain ⟨q7, eE7, eM7⟩ := h7
    subst eE7
    subst eM7
    try simp only [vP_0, vP_1, vP_n0, vP_n1, Classical.not_not] at q7
    exact th_nil rfl (hQ _ _ (Or.inr ⟨_, _, rfl, by omega, rfl, rfl⟩))
theorem s_X1_opOf (hd : 12 ≤ d) (hC : CI M v n A hi vi tp sz fa N) : CS G d mX1_opOf [dR 0, dI op] M (orT (postR fun r M1 => (0 ≤ op ∧ op < v 0) ∧ r = some (54 + 13 + 4 * op) ∧ M = M1) (fun a E M1 => ¬ (0 ≤ op ∧ op < v 0) ∧ E = "java/lang/IndexOutOfBoundsException" ∧ M1 = mX M 6)) := by
  obtain ⟨hC1, hC54, hCA, hCR⟩ := id hC; obtain ⟨hS, hTab, hTx, hLn, hSk, hnx⟩ := id hC1; obtain ⟨hA, hL, hR⟩ := id hC54; obtain ⟨⟨s0, s199, s200, s201, s202, s203⟩, ⟨c0, c1, c2, c3, c4, c5, c6, c7, c8, c9, c10, c11, c12⟩, c203, hSt, m189, m191, g193, g196, ⟨⟨r2, r3, r4, r5, r6, r7, r53⟩, ⟨w0, w1, w2, w3, w4, w5, w6⟩, wx1, wx2, wx3⟩⟩ := id hS; have hv := hA.1; have hv8 := hv.n8; have hv0 := hv.1.1; have hv3 := hv.2.2.2.1; have hs54 := hSt 54 (by unfold SB; omega); obtain ⟨p0, p1, ⟨d0, d1, d2, d3, d4, d5, d6, d7⟩, ⟨t1, t2, t3, t4, t5, t6⟩, p5, p6, p7⟩ := id hs54; have t7 : msh M (54 + 7) = some (4, 0) := p5.2.1; have t10 : msh M (54 + 10) = some (4, 0) := p6.2.1; obtain ⟨hB, hW, hLw⟩ := id hR.1; obtain ⟨b1, b2, b3, b4, b5, b6, b7, b8, b9, b10, b11, b12, b13, b14, b15⟩ := id hB; obtain ⟨hn, hn2, hat, hAc⟩ := id hCA; obtain ⟨⟨hki, hhi⟩, hIm, ⟨htp, hsz, hsz2⟩, hfa⟩ := id hCR
  refine CS.mkQ (by decide) (Nat.le_of_ble_eq_true rfl) fun Q hQ => ?_
  refine x_iload_n dX1_opOf_0 rfl rfl ?_
  refine x_iconst dX1_opOf_1 rfl ?_
  refine x_aload_n dX1_opOf_2 rfl rfl ?_
  refine g_getR (kI := 1) rfl dX1_opOf_3 fX1_22_1 (by first | assumption | first | assumption | (simp (disch := omega) only [shI, shR, shL, shC, shD, shW, sh_V, shN_e, shN_n, crI, crL, crC, crW, crV, crR_e, crR_n, crN_e, crN_n, ciR, ciL, ciD, ciN_e, ciN_n, rdI_e, rdI_n, rdC_i, rdC_o, rdW, rdU_e, rdU_n, rdLW, clI, clR, clC, clD, clW, clV, clN_e, clN_n, clL_e, clL_n]; done) | (simp (disch := omega) only [shI, shR, shL, shC, shD, shW, sh_V, shN_e, shN_n, crI, crL, crC, crW, crV, crR_e, crR_n, crN_e, crN_n, ciR, ciL, ciD, ciN_e, ciN_n, rdI_e, rdI_n, rdC_i, rdC_o, rdW, rdU_e, rdU_n, rdLW, clI, clR, clC, clD, clW, clV, clN_e, clN_n, clL_e, clL_n] <;> first | assumption | rfl | omega)) (by first | assumption | first | assumption | (simp (disch := omega) only [shI, shR, shL, shC, shD, shW, sh_V, shN_e, shN_n, crI, crL, crC, crW, crV, crR_e, crR_n, crN_e, crN_n, ciR, ciL, ciD, ciN_e, ciN_n, rdI_e, rdI_n, rdC_i, rdC_o, rdW, rdU_e, rdU_n, rdLW, clI, clR, clC, clD, clW, clV, clN_e, clN_n, clL_e, clL_n]; done) | (simp (disch := omega) only [shI, shR, shL, shC, shD, shW, sh_V, shN_e, shN_n, crI, crL, crC, crW, crV, crR_e, crR_n, crN_e, crN_n, ciR, ciL, ciD, ciN_e, ciN_n, rdI_e, rdI_n, rdC_i, rdC_o, rdW, rdU_e, rdU_n, rdLW, clI, clR, clC, clD, clW, clV, clN_e, clN_n, clL_e, clL_n] <;> first | assumption | rfl | omega)) ?_
  refine g_getI (kI := 8) rfl dX1_opOf_6 fX1_101_3 (by first | assumption | first | assumption | (simp (disch := omega) only [shI, shR, shL, shC, shD, shW, sh_V, shN_e, shN_n, crI, crL, crC, crW, crV, crR_e, crR_n, crN_e, crN_n, ciR, ciL, ciD, ciN_e, ciN_n, rdI_e, rdI_n, rdC_i, rdC_o, rdW, rdU_e, rdU_n, rdLW, clI, clR, clC, clD, clW, clV, clN_e, clN_n, clL_e, clL_n]; done) | (simp (disch := omega) only [shI, shR, shL, shC, shD, shW, sh_V, shN_e, shN_n, crI, crL, crC, crW, crV, crR_e, crR_n, crN_e, crN_n, ciR, ciL, ciD, ciN_e, ciN_n, rdI_e, rdI_n, rdC_i, rdC_o, rdW, rdU_e, rdU_n, rdLW, clI, clR, clC, clD, clW, clV, clN_e, clN_n, clL_e, clL_n] <;> first | assumption | rfl | omega)) ?_
  try simp (disch := omega) only [rdI_e, rdI_n, rdC_i, rdC_o, rdW, rdR, rdU_e, rdU_n, rdLW, Int.add_zero, b1]
  refine x_iconst dX1_opOf_9 rfl ?_
  first | refine x_isubN dX1_opOf_10 (by unfold i32; omega) ?_ | refine x_isub dX1_opOf_10 ?_
  refine g_callI (vs := [_, _, _]) (d' := d - 1) rfl (s_X1_isIn (by omega)) dX1_opOf_11 kX1_104 (by omega) (by decide) rfl (Nat.le_of_ble_eq_true rfl) (rcv_n) (fun x11 M11 h11 => ?_)
  obtain ⟨e11, f11⟩ := h11
  have f11' := f11.symm
  subst f11'
  subst e11
  try simp (disch := omega) only [rdI_e, rdI_n, rdC_i, rdC_o, rdW, rdR, rdU_e, rdU_n, rdLW, Int.add_zero, b1]
  refine g_callNX (vs := [_]) (d' := d - 1) rfl (s_X1_mustBe (by omega) (by first | omega | exact vP_r _)) dX1_opOf_14 kX1_108 (by omega) (by decide) rfl (Nat.le_of_ble_eq_true rfl) (rcv_n) (fun M14 h14 => ?_) (fun a14 E14 M14 h14 => ?_)
  · obtain ⟨q14, e14⟩ := h14
    subst e14
    try simp only [vP_0, vP_1, vP_n0, vP_n1, Classical.not_not] at q14
    refine x_aload_n dX1_opOf_17 rfl rfl ?_
    refine g_getR (kI := 1) rfl dX1_opOf_18 fX1_22_1 (by first | assumption | first | assumption | (simp (disch := omega) only [shI, shR, shL, shC, shD, shW, sh_V, shN_e, shN_n, crI, crL, crC, crW, crV, crR_e, crR_n, crN_e, crN_n, ciR, ciL, ciD, ciN_e, ciN_n, rdI_e, rdI_n, rdC_i, rdC_o, rdW, rdU_e, rdU_n, rdLW, clI, clR, clC, clD, clW, clV, clN_e, clN_n, clL_e, clL_n]; done) | (simp (disch := omega) only [shI, shR, shL, shC, shD, shW, sh_V, shN_e, shN_n, crI, crL, crC, crW, crV, crR_e, crR_n, crN_e, crN_n, ciR, ciL, ciD, ciN_e, ciN_n, rdI_e, rdI_n, rdC_i, rdC_o, rdW, rdU_e, rdU_n, rdLW, clI, clR, clC, clD, clW, clV, clN_e, clN_n, clL_e, clL_n] <;> first | assumption | rfl | omega)) (by first | assumption | first | assumption | (simp (disch := omega) only [shI, shR, shL, shC, shD, shW, sh_V, shN_e, shN_n, crI, crL, crC, crW, crV, crR_e, crR_n, crN_e, crN_n, ciR, ciL, ciD, ciN_e, ciN_n, rdI_e, rdI_n, rdC_i, rdC_o, rdW, rdU_e, rdU_n, rdLW, clI, clR, clC, clD, clW, clV, clN_e, clN_n, clL_e, clL_n]; done) | (simp (disch := omega) only [shI, shR, shL, shC, shD, shW, sh_V, shN_e, shN_n, crI, crL, crC, crW, crV, crR_e, crR_n, crN_e, crN_n, ciR, ciL, ciD, ciN_e, ciN_n, rdI_e, rdI_n, rdC_i, rdC_o, rdW, rdU_e, rdU_n, rdLW, clI, clR, clC, clD, clW, clV, clN_e, clN_n, clL_e, clL_n] <;> first | assumption | rfl | omega)) ?_
    refine g_getR (kI := 0) rfl dX1_opOf_21 fX1_112_3 (by first | assumption | first | assumption | (simp (disch := omega) only [shI, shR, shL, shC, shD, shW, sh_V, shN_e, shN_n, crI, crL, crC, crW, crV, crR_e, crR_n, crN_e, crN_n, ciR, ciL, ciD, ciN_e, ciN_n, rdI_e, rdI_n, rdC_i, rdC_o, rdW, rdU_e, rdU_n, rdLW, clI, clR, clC, clD, clW, clV, clN_e, clN_n, clL_e, clL_n]; done) | (simp (disch := omega) only [shI, shR, shL, shC, shD, shW, sh_V, shN_e, shN_n, crI, crL, crC, crW, crV, crR_e, crR_n, crN_e, crN_n, ciR, ciL, ciD, ciN_e, ciN_n, rdI_e, rdI_n, rdC_i, rdC_o, rdW, rdU_e, rdU_n, rdLW, clI, clR, clC, clD, clW, clV, clN_e, clN_n, clL_e, clL_n] <;> first | assumption | rfl | omega)) (by first | assumption | first | assumption | (simp (disch := omega) only [shI, shR, shL, shC, shD, shW, sh_V, shN_e, shN_n, crI, crL, crC, crW, crV, crR_e, crR_n, crN_e, crN_n, ciR, ciL, ciD, ciN_e, ciN_n, rdI_e, rdI_n, rdC_i, rdC_o, rdW, rdU_e, rdU_n, rdLW, clI, clR, clC, clD, clW, clV, clN_e, clN_n, clL_e, clL_n]; done) | (simp (disch := omega) only [shI, shR, shL, shC, shD, shW, sh_V, shN_e, shN_n, crI, crL, crC, crW, crV, crR_e, crR_n, crN_e, crN_n, ciR, ciL, ciD, ciN_e, ciN_n, rdI_e, rdI_n, rdC_i, rdC_o, rdW, rdU_e, rdU_n, rdLW, clI, clR, clC, clD, clW, clV, clN_e, clN_n, clL_e, clL_n] <;> first | assumption | rfl | omega)) ?_
    refine x_iload_n dX1_opOf_24 rfl rfl ?_
    refine x_aald (t := 126) rfl (by decide) dX1_opOf_25 (by first | assumption | first | assumption | (simp (disch := omega) only [shI, shR, shL, shC, shD, shW, sh_V, shN_e, shN_n, crI, crL, crC, crW, crV, crR_e, crR_n, crN_e, crN_n, ciR, ciL, ciD, ciN_e, ciN_n, rdI_e, rdI_n, rdC_i, rdC_o, rdW, rdU_e, rdU_n, rdLW, clI, clR, clC, clD, clW, clV, clN_e, clN_n, clL_e, clL_n]; done) | (simp (disch := omega) only [shI, shR, shL, shC, shD, shW, sh_V, shN_e, shN_n, crI, crL, crC, crW, crV, crR_e, crR_n, crN_e, crN_n, ciR, ciL, ciD, ciN_e, ciN_n, rdI_e, rdI_n, rdC_i, rdC_o, rdW, rdU_e, rdU_n, rdLW, clI, clR, clC, clD, clW, clV, clN_e, clN_n, clL_e, clL_n] <;> first | assumption | rfl | omega)) (by omega) (by omega) (by exact (p7 op (by omega) (by omega)).1) ?_
    refine x_areturn rfl (by first | exact Or.inl ⟨_, rfl⟩ | exact Or.inr ⟨_, rfl⟩) dX1_opOf_26 ?_
    exact hQ _ _ (Or.inl ⟨_, rfl, by omega, rfl, rfl⟩)
  · obtain ⟨q14, eE14, eM14⟩ := h14
    subst eE14
    subst eM14
    try simp only [vP_0, vP_1, vP_n0, vP_n1, Classical.not_not] at q14
    exact th_nil rfl (hQ _ _ (Or.inr ⟨_, _, rfl, by omega, rfl, rfl⟩))
theorem s_X1_fault (hd : 10 ≤ d) (hC : CI M v n A hi vi tp sz fa N) : CS G d mX1_fault [dR 0] M (postI fun y M1 => y = fa ∧ CO M v n A hi vi tp sz fa N 0 0 M1) := by
  obtain ⟨hC1, hC54, hCA, hCR⟩ := id hC; obtain ⟨hS, hTab, hTx, hLn, hSk, hnx⟩ := id hC1; obtain ⟨hA, hL, hR⟩ := id hC54; obtain ⟨⟨s0, s199, s200, s201, s202, s203⟩, ⟨c0, c1, c2, c3, c4, c5, c6, c7, c8, c9, c10, c11, c12⟩, c203, hSt, m189, m191, g193, g196, ⟨⟨r2, r3, r4, r5, r6, r7, r53⟩, ⟨w0, w1, w2, w3, w4, w5, w6⟩, wx1, wx2, wx3⟩⟩ := id hS; have hv := hA.1; have hv8 := hv.n8; have hv0 := hv.1.1; have hv3 := hv.2.2.2.1; have hs54 := hSt 54 (by unfold SB; omega); obtain ⟨p0, p1, ⟨d0, d1, d2, d3, d4, d5, d6, d7⟩, ⟨t1, t2, t3, t4, t5, t6⟩, p5, p6, p7⟩ := id hs54; have t7 : msh M (54 + 7) = some (4, 0) := p5.2.1; have t10 : msh M (54 + 10) = some (4, 0) := p6.2.1; obtain ⟨hB, hW, hLw⟩ := id hR.1; obtain ⟨b1, b2, b3, b4, b5, b6, b7, b8, b9, b10, b11, b12, b13, b14, b15⟩ := id hB; obtain ⟨hn, hn2, hat, hAc⟩ := id hCA; obtain ⟨⟨hki, hhi⟩, hIm, ⟨htp, hsz, hsz2⟩, hfa⟩ := id hCR
  refine CS.mkQ (by decide) (Nat.le_of_ble_eq_true rfl) fun Q hQ => ?_
  refine x_aload_n dX1_fault_0 rfl rfl ?_
  refine g_getI (kI := 13) rfl dX1_fault_1 fX1_65_1 (by first | assumption | first | assumption | (simp (disch := omega) only [shI, shR, shL, shC, shD, shW, sh_V, shN_e, shN_n, crI, crL, crC, crW, crV, crR_e, crR_n, crN_e, crN_n, ciR, ciL, ciD, ciN_e, ciN_n, rdI_e, rdI_n, rdC_i, rdC_o, rdW, rdU_e, rdU_n, rdLW, clI, clR, clC, clD, clW, clV, clN_e, clN_n, clL_e, clL_n]; done) | (simp (disch := omega) only [shI, shR, shL, shC, shD, shW, sh_V, shN_e, shN_n, crI, crL, crC, crW, crV, crR_e, crR_n, crN_e, crN_n, ciR, ciL, ciD, ciN_e, ciN_n, rdI_e, rdI_n, rdC_i, rdC_o, rdW, rdU_e, rdU_n, rdLW, clI, clR, clC, clD, clW, clV, clN_e, clN_n, clL_e, clL_n] <;> first | assumption | rfl | omega)) ?_
  refine x_ireturn rfl dX1_fault_4 ?_
  exact hQ _ _ ⟨_, rfl, hfa, CO.r hC⟩
theorem s_X1_program (hd : 12 ≤ d) (hC : CI M v n A hi vi tp sz fa N) : CS G d mX1_program [dR 0, dI k] M (postI fun y M1 => y = progAns v k ∧ M1 = M) := by
  obtain ⟨hC1, hC54, hCA, hCR⟩ := id hC; obtain ⟨hS, hTab, hTx, hLn, hSk, hnx⟩ := id hC1; obtain ⟨hA, hL, hR⟩ := id hC54; obtain ⟨⟨s0, s199, s200, s201, s202, s203⟩, ⟨c0, c1, c2, c3, c4, c5, c6, c7, c8, c9, c10, c11, c12⟩, c203, hSt, m189, m191, g193, g196, ⟨⟨r2, r3, r4, r5, r6, r7, r53⟩, ⟨w0, w1, w2, w3, w4, w5, w6⟩, wx1, wx2, wx3⟩⟩ := id hS; have hv := hA.1; have hv8 := hv.n8; have hv0 := hv.1.1; have hv3 := hv.2.2.2.1; have hs54 := hSt 54 (by unfold SB; omega); obtain ⟨p0, p1, ⟨d0, d1, d2, d3, d4, d5, d6, d7⟩, ⟨t1, t2, t3, t4, t5, t6⟩, p5, p6, p7⟩ := id hs54; have t7 : msh M (54 + 7) = some (4, 0) := p5.2.1; have t10 : msh M (54 + 10) = some (4, 0) := p6.2.1; obtain ⟨hB, hW, hLw⟩ := id hR.1; obtain ⟨b1, b2, b3, b4, b5, b6, b7, b8, b9, b10, b11, b12, b13, b14, b15⟩ := id hB; obtain ⟨hn, hn2, hat, hAc⟩ := id hCA; obtain ⟨⟨hki, hhi⟩, hIm, ⟨htp, hsz, hsz2⟩, hfa⟩ := id hCR
  refine CS.mkQ (by decide) (Nat.le_of_ble_eq_true rfl) fun Q hQ => ?_
  refine x_iload_n dX1_program_0 rfl rfl ?_
  refine x_iconst dX1_program_1 rfl ?_
  refine x_aload_n dX1_program_2 rfl rfl ?_
  refine g_getR (kI := 1) rfl dX1_program_3 fX1_22_1 (by first | assumption | first | assumption | (simp (disch := omega) only [shI, shR, shL, shC, shD, shW, sh_V, shN_e, shN_n, crI, crL, crC, crW, crV, crR_e, crR_n, crN_e, crN_n, ciR, ciL, ciD, ciN_e, ciN_n, rdI_e, rdI_n, rdC_i, rdC_o, rdW, rdU_e, rdU_n, rdLW, clI, clR, clC, clD, clW, clV, clN_e, clN_n, clL_e, clL_n]; done) | (simp (disch := omega) only [shI, shR, shL, shC, shD, shW, sh_V, shN_e, shN_n, crI, crL, crC, crW, crV, crR_e, crR_n, crN_e, crN_n, ciR, ciL, ciD, ciN_e, ciN_n, rdI_e, rdI_n, rdC_i, rdC_o, rdW, rdU_e, rdU_n, rdLW, clI, clR, clC, clD, clW, clV, clN_e, clN_n, clL_e, clL_n] <;> first | assumption | rfl | omega)) (by first | assumption | first | assumption | (simp (disch := omega) only [shI, shR, shL, shC, shD, shW, sh_V, shN_e, shN_n, crI, crL, crC, crW, crV, crR_e, crR_n, crN_e, crN_n, ciR, ciL, ciD, ciN_e, ciN_n, rdI_e, rdI_n, rdC_i, rdC_o, rdW, rdU_e, rdU_n, rdLW, clI, clR, clC, clD, clW, clV, clN_e, clN_n, clL_e, clL_n]; done) | (simp (disch := omega) only [shI, shR, shL, shC, shD, shW, sh_V, shN_e, shN_n, crI, crL, crC, crW, crV, crR_e, crR_n, crN_e, crN_n, ciR, ciL, ciD, ciN_e, ciN_n, rdI_e, rdI_n, rdC_i, rdC_o, rdW, rdU_e, rdU_n, rdLW, clI, clR, clC, clD, clW, clV, clN_e, clN_n, clL_e, clL_n] <;> first | assumption | rfl | omega)) ?_
  refine g_getI (kI := 9) rfl dX1_program_6 fX1_272_3 (by first | assumption | first | assumption | (simp (disch := omega) only [shI, shR, shL, shC, shD, shW, sh_V, shN_e, shN_n, crI, crL, crC, crW, crV, crR_e, crR_n, crN_e, crN_n, ciR, ciL, ciD, ciN_e, ciN_n, rdI_e, rdI_n, rdC_i, rdC_o, rdW, rdU_e, rdU_n, rdLW, clI, clR, clC, clD, clW, clV, clN_e, clN_n, clL_e, clL_n]; done) | (simp (disch := omega) only [shI, shR, shL, shC, shD, shW, sh_V, shN_e, shN_n, crI, crL, crC, crW, crV, crR_e, crR_n, crN_e, crN_n, ciR, ciL, ciD, ciN_e, ciN_n, rdI_e, rdI_n, rdC_i, rdC_o, rdW, rdU_e, rdU_n, rdLW, clI, clR, clC, clD, clW, clV, clN_e, clN_n, clL_e, clL_n] <;> first | assumption | rfl | omega)) ?_
  try simp (disch := omega) only [rdI_e, rdI_n, rdC_i, rdC_o, rdW, rdR, rdU_e, rdU_n, rdLW, Int.add_zero, b2]
  refine x_iconst dX1_program_9 rfl ?_
  first | refine x_isubN dX1_program_10 (by unfold i32; omega) ?_ | refine x_isub dX1_program_10 ?_
  refine g_callI (vs := [_, _, _]) (d' := d - 1) rfl (s_X1_isIn (by omega)) dX1_program_11 kX1_104 (by omega) (by decide) rfl (Nat.le_of_ble_eq_true rfl) (rcv_n) (fun x11 M11 h11 => ?_)
  obtain ⟨e11, f11⟩ := h11
  have f11' := f11.symm
  subst f11'
  subst e11
  try simp (disch := omega) only [rdI_e, rdI_n, rdC_i, rdC_o, rdW, rdR, rdU_e, rdU_n, rdLW, Int.add_zero, b2]
  refine x_if_eq (tgt := 29) dX1_program_14 (by decide) (fun h14 => ?_) (fun h14 => ?_)
  · try simp only [vP_0, vP_1, vP_n0, vP_n1, Classical.not_not] at h14
    refine x_iconst dX1_program_29 rfl ?_
    refine x_ireturn rfl dX1_program_30 ?_
    refine hQ _ _ ⟨_, rfl, ?_, rfl⟩
    unfold progAns
    first
    | (rw [if_pos (by omega)]; exact b12 k (by omega) (by omega))
    | rw [if_neg (by omega)]
  · try simp only [vP_0, vP_1, vP_n0, vP_n1, Classical.not_not] at h14
    refine x_aload_n dX1_program_17 rfl rfl ?_
    refine g_getR (kI := 1) rfl dX1_program_18 fX1_22_1 (by first | assumption | first | assumption | (simp (disch := omega) only [shI, shR, shL, shC, shD, shW, sh_V, shN_e, shN_n, crI, crL, crC, crW, crV, crR_e, crR_n, crN_e, crN_n, ciR, ciL, ciD, ciN_e, ciN_n, rdI_e, rdI_n, rdC_i, rdC_o, rdW, rdU_e, rdU_n, rdLW, clI, clR, clC, clD, clW, clV, clN_e, clN_n, clL_e, clL_n]; done) | (simp (disch := omega) only [shI, shR, shL, shC, shD, shW, sh_V, shN_e, shN_n, crI, crL, crC, crW, crV, crR_e, crR_n, crN_e, crN_n, ciR, ciL, ciD, ciN_e, ciN_n, rdI_e, rdI_n, rdC_i, rdC_o, rdW, rdU_e, rdU_n, rdLW, clI, clR, clC, clD, clW, clV, clN_e, clN_n, clL_e, clL_n] <;> first | assumption | rfl | omega)) (by first | assumption | first | assumption | (simp (disch := omega) only [shI, shR, shL, shC, shD, shW, sh_V, shN_e, shN_n, crI, crL, crC, crW, crV, crR_e, crR_n, crN_e, crN_n, ciR, ciL, ciD, ciN_e, ciN_n, rdI_e, rdI_n, rdC_i, rdC_o, rdW, rdU_e, rdU_n, rdLW, clI, clR, clC, clD, clW, clV, clN_e, clN_n, clL_e, clL_n]; done) | (simp (disch := omega) only [shI, shR, shL, shC, shD, shW, sh_V, shN_e, shN_n, crI, crL, crC, crW, crV, crR_e, crR_n, crN_e, crN_n, ciR, ciL, ciD, ciN_e, ciN_n, rdI_e, rdI_n, rdC_i, rdC_o, rdW, rdU_e, rdU_n, rdLW, clI, clR, clC, clD, clW, clV, clN_e, clN_n, clL_e, clL_n] <;> first | assumption | rfl | omega)) ?_
    refine g_getR (kI := 4) rfl dX1_program_21 fX1_293_3 (by first | assumption | first | assumption | (simp (disch := omega) only [shI, shR, shL, shC, shD, shW, sh_V, shN_e, shN_n, crI, crL, crC, crW, crV, crR_e, crR_n, crN_e, crN_n, ciR, ciL, ciD, ciN_e, ciN_n, rdI_e, rdI_n, rdC_i, rdC_o, rdW, rdU_e, rdU_n, rdLW, clI, clR, clC, clD, clW, clV, clN_e, clN_n, clL_e, clL_n]; done) | (simp (disch := omega) only [shI, shR, shL, shC, shD, shW, sh_V, shN_e, shN_n, crI, crL, crC, crW, crV, crR_e, crR_n, crN_e, crN_n, ciR, ciL, ciD, ciN_e, ciN_n, rdI_e, rdI_n, rdC_i, rdC_o, rdW, rdU_e, rdU_n, rdLW, clI, clR, clC, clD, clW, clV, clN_e, clN_n, clL_e, clL_n] <;> first | assumption | rfl | omega)) (by first | assumption | first | assumption | (simp (disch := omega) only [shI, shR, shL, shC, shD, shW, sh_V, shN_e, shN_n, crI, crL, crC, crW, crV, crR_e, crR_n, crN_e, crN_n, ciR, ciL, ciD, ciN_e, ciN_n, rdI_e, rdI_n, rdC_i, rdC_o, rdW, rdU_e, rdU_n, rdLW, clI, clR, clC, clD, clW, clV, clN_e, clN_n, clL_e, clL_n]; done) | (simp (disch := omega) only [shI, shR, shL, shC, shD, shW, sh_V, shN_e, shN_n, crI, crL, crC, crW, crV, crR_e, crR_n, crN_e, crN_n, ciR, ciL, ciD, ciN_e, ciN_n, rdI_e, rdI_n, rdC_i, rdC_o, rdW, rdU_e, rdU_n, rdLW, clI, clR, clC, clD, clW, clV, clN_e, clN_n, clL_e, clL_n] <;> first | assumption | rfl | omega)) ?_
    refine x_iload_n dX1_program_24 rfl rfl ?_
    refine x_iald dX1_program_25 (by first | assumption | first | assumption | (simp (disch := omega) only [shI, shR, shL, shC, shD, shW, sh_V, shN_e, shN_n, crI, crL, crC, crW, crV, crR_e, crR_n, crN_e, crN_n, ciR, ciL, ciD, ciN_e, ciN_n, rdI_e, rdI_n, rdC_i, rdC_o, rdW, rdU_e, rdU_n, rdLW, clI, clR, clC, clD, clW, clV, clN_e, clN_n, clL_e, clL_n]; done) | (simp (disch := omega) only [shI, shR, shL, shC, shD, shW, sh_V, shN_e, shN_n, crI, crL, crC, crW, crV, crR_e, crR_n, crN_e, crN_n, ciR, ciL, ciD, ciN_e, ciN_n, rdI_e, rdI_n, rdC_i, rdC_o, rdW, rdU_e, rdU_n, rdLW, clI, clR, clC, clD, clW, clV, clN_e, clN_n, clL_e, clL_n] <;> first | assumption | rfl | omega)) (by omega) (by omega) ?_
    try simp (disch := omega) only [rdI_e, rdI_n, rdC_i, rdC_o, rdW, rdR, rdU_e, rdU_n, rdLW, Int.add_zero, b2]
    refine x_goto (tgt := 30) dX1_program_26 (by decide) ?_
    refine x_ireturn rfl dX1_program_30 ?_
    refine hQ _ _ ⟨_, rfl, ?_, rfl⟩
    unfold progAns
    first
    | (rw [if_pos (by omega)]; exact b12 k (by omega) (by omega))
    | rw [if_neg (by omega)]
theorem s_X1_took (hd : 10 ≤ d) (hC : CI M v n A hi vi tp sz fa N) : CS G d mX1_took [dR 0] M (postI fun y M1 => y = sz ∧ M1 = mI M 2 7 0 ∧ CO M v n A hi vi tp 0 fa N 0 0 M1) := by
  obtain ⟨hC1, hC54, hCA, hCR⟩ := id hC; obtain ⟨hS, hTab, hTx, hLn, hSk, hnx⟩ := id hC1; obtain ⟨hA, hL, hR⟩ := id hC54; obtain ⟨⟨s0, s199, s200, s201, s202, s203⟩, ⟨c0, c1, c2, c3, c4, c5, c6, c7, c8, c9, c10, c11, c12⟩, c203, hSt, m189, m191, g193, g196, ⟨⟨r2, r3, r4, r5, r6, r7, r53⟩, ⟨w0, w1, w2, w3, w4, w5, w6⟩, wx1, wx2, wx3⟩⟩ := id hS; have hv := hA.1; have hv8 := hv.n8; have hv0 := hv.1.1; have hv3 := hv.2.2.2.1; have hs54 := hSt 54 (by unfold SB; omega); obtain ⟨p0, p1, ⟨d0, d1, d2, d3, d4, d5, d6, d7⟩, ⟨t1, t2, t3, t4, t5, t6⟩, p5, p6, p7⟩ := id hs54; have t7 : msh M (54 + 7) = some (4, 0) := p5.2.1; have t10 : msh M (54 + 10) = some (4, 0) := p6.2.1; obtain ⟨hB, hW, hLw⟩ := id hR.1; obtain ⟨b1, b2, b3, b4, b5, b6, b7, b8, b9, b10, b11, b12, b13, b14, b15⟩ := id hB; obtain ⟨hn, hn2, hat, hAc⟩ := id hCA; obtain ⟨⟨hki, hhi⟩, hIm, ⟨htp, hsz, hsz2⟩, hfa⟩ := id hCR
  refine CS.mkQ (by decide) (Nat.le_of_ble_eq_true rfl) fun Q hQ => ?_
  refine x_aload_n dX1_took_0 rfl rfl ?_
  refine g_getR (kI := 0) rfl dX1_took_1 fX1_15_1 (by first | assumption | first | assumption | (simp (disch := omega) only [shI, shR, shL, shC, shD, shW, sh_V, shN_e, shN_n, crI, crL, crC, crW, crV, crR_e, crR_n, crN_e, crN_n, ciR, ciL, ciD, ciN_e, ciN_n, rdI_e, rdI_n, rdC_i, rdC_o, rdW, rdU_e, rdU_n, rdLW, clI, clR, clC, clD, clW, clV, clN_e, clN_n, clL_e, clL_n]; done) | (simp (disch := omega) only [shI, shR, shL, shC, shD, shW, sh_V, shN_e, shN_n, crI, crL, crC, crW, crV, crR_e, crR_n, crN_e, crN_n, ciR, ciL, ciD, ciN_e, ciN_n, rdI_e, rdI_n, rdC_i, rdC_o, rdW, rdU_e, rdU_n, rdLW, clI, clR, clC, clD, clW, clV, clN_e, clN_n, clL_e, clL_n] <;> first | assumption | rfl | omega)) (by first | assumption | first | assumption | (simp (disch := omega) only [shI, shR, shL, shC, shD, shW, sh_V, shN_e, shN_n, crI, crL, crC, crW, crV, crR_e, crR_n, crN_e, crN_n, ciR, ciL, ciD, ciN_e, ciN_n, rdI_e, rdI_n, rdC_i, rdC_o, rdW, rdU_e, rdU_n, rdLW, clI, clR, clC, clD, clW, clV, clN_e, clN_n, clL_e, clL_n]; done) | (simp (disch := omega) only [shI, shR, shL, shC, shD, shW, sh_V, shN_e, shN_n, crI, crL, crC, crW, crV, crR_e, crR_n, crN_e, crN_n, ciR, ciL, ciD, ciN_e, ciN_n, rdI_e, rdI_n, rdC_i, rdC_o, rdW, rdU_e, rdU_n, rdLW, clI, clR, clC, clD, clW, clV, clN_e, clN_n, clL_e, clL_n] <;> first | assumption | rfl | omega)) ?_
  refine g_getI (kI := 7) rfl dX1_took_4 fX1_123_2 (by first | assumption | first | assumption | (simp (disch := omega) only [shI, shR, shL, shC, shD, shW, sh_V, shN_e, shN_n, crI, crL, crC, crW, crV, crR_e, crR_n, crN_e, crN_n, ciR, ciL, ciD, ciN_e, ciN_n, rdI_e, rdI_n, rdC_i, rdC_o, rdW, rdU_e, rdU_n, rdLW, clI, clR, clC, clD, clW, clV, clN_e, clN_n, clL_e, clL_n]; done) | (simp (disch := omega) only [shI, shR, shL, shC, shD, shW, sh_V, shN_e, shN_n, crI, crL, crC, crW, crV, crR_e, crR_n, crN_e, crN_n, ciR, ciL, ciD, ciN_e, ciN_n, rdI_e, rdI_n, rdC_i, rdC_o, rdW, rdU_e, rdU_n, rdLW, clI, clR, clC, clD, clW, clV, clN_e, clN_n, clL_e, clL_n] <;> first | assumption | rfl | omega)) ?_
  refine x_istore_n (L' := [some _, some _]) dX1_took_7 rfl (by decide) rfl ?_
  refine x_aload_n dX1_took_8 rfl rfl ?_
  refine g_getR (kI := 0) rfl dX1_took_9 fX1_15_1 (by first | assumption | first | assumption | (simp (disch := omega) only [shI, shR, shL, shC, shD, shW, sh_V, shN_e, shN_n, crI, crL, crC, crW, crV, crR_e, crR_n, crN_e, crN_n, ciR, ciL, ciD, ciN_e, ciN_n, rdI_e, rdI_n, rdC_i, rdC_o, rdW, rdU_e, rdU_n, rdLW, clI, clR, clC, clD, clW, clV, clN_e, clN_n, clL_e, clL_n]; done) | (simp (disch := omega) only [shI, shR, shL, shC, shD, shW, sh_V, shN_e, shN_n, crI, crL, crC, crW, crV, crR_e, crR_n, crN_e, crN_n, ciR, ciL, ciD, ciN_e, ciN_n, rdI_e, rdI_n, rdC_i, rdC_o, rdW, rdU_e, rdU_n, rdLW, clI, clR, clC, clD, clW, clV, clN_e, clN_n, clL_e, clL_n] <;> first | assumption | rfl | omega)) (by first | assumption | first | assumption | (simp (disch := omega) only [shI, shR, shL, shC, shD, shW, sh_V, shN_e, shN_n, crI, crL, crC, crW, crV, crR_e, crR_n, crN_e, crN_n, ciR, ciL, ciD, ciN_e, ciN_n, rdI_e, rdI_n, rdC_i, rdC_o, rdW, rdU_e, rdU_n, rdLW, clI, clR, clC, clD, clW, clV, clN_e, clN_n, clL_e, clL_n]; done) | (simp (disch := omega) only [shI, shR, shL, shC, shD, shW, sh_V, shN_e, shN_n, crI, crL, crC, crW, crV, crR_e, crR_n, crN_e, crN_n, ciR, ciL, ciD, ciN_e, ciN_n, rdI_e, rdI_n, rdC_i, rdC_o, rdW, rdU_e, rdU_n, rdLW, clI, clR, clC, clD, clW, clV, clN_e, clN_n, clL_e, clL_n] <;> first | assumption | rfl | omega)) ?_
  refine x_iconst dX1_took_12 rfl ?_
  refine g_putI (kI := 7) rfl dX1_took_13 fX1_123_2 (by first | assumption | first | assumption | (simp (disch := omega) only [shI, shR, shL, shC, shD, shW, sh_V, shN_e, shN_n, crI, crL, crC, crW, crV, crR_e, crR_n, crN_e, crN_n, ciR, ciL, ciD, ciN_e, ciN_n, rdI_e, rdI_n, rdC_i, rdC_o, rdW, rdU_e, rdU_n, rdLW, clI, clR, clC, clD, clW, clV, clN_e, clN_n, clL_e, clL_n]; done) | (simp (disch := omega) only [shI, shR, shL, shC, shD, shW, sh_V, shN_e, shN_n, crI, crL, crC, crW, crV, crR_e, crR_n, crN_e, crN_n, ciR, ciL, ciD, ciN_e, ciN_n, rdI_e, rdI_n, rdC_i, rdC_o, rdW, rdU_e, rdU_n, rdLW, clI, clR, clC, clD, clW, clV, clN_e, clN_n, clL_e, clL_n] <;> first | assumption | rfl | omega)) ?_
  refine x_iload_n dX1_took_16 rfl rfl ?_
  refine x_ireturn rfl dX1_took_17 ?_
  refine hQ _ _ ⟨_, rfl, hsz, rfl, ?_⟩
  exact hC.rd (g := mci (mI M 2 7 0)) (fun b k q1 q2 q3 => rdI_n (by omega)) ((funext fun k => rdI_n (by omega)).trans htp) (rdI_e ⟨rfl, rfl⟩) (by omega) ((rdI_n (by omega)).trans hfa)
theorem s_X1_end (hd : 12 ≤ d) (hC : CI M v n A hi vi tp sz fa N) : CS G d mX1_end [dR 0, dI k] M (postI fun y M1 => (0 ≤ k ∧ k ≤ sz → y = 1 ∧ CO M v n A hi vi tp k fa N 0 0 M1) ∧ (¬ (0 ≤ k ∧ k ≤ sz) → y = 0 ∧ CO M v n A hi vi tp sz fa N 0 0 M1)) := by
  obtain ⟨hC1, hC54, hCA, hCR⟩ := id hC; obtain ⟨hS, hTab, hTx, hLn, hSk, hnx⟩ := id hC1; obtain ⟨hA, hL, hR⟩ := id hC54; obtain ⟨⟨s0, s199, s200, s201, s202, s203⟩, ⟨c0, c1, c2, c3, c4, c5, c6, c7, c8, c9, c10, c11, c12⟩, c203, hSt, m189, m191, g193, g196, ⟨⟨r2, r3, r4, r5, r6, r7, r53⟩, ⟨w0, w1, w2, w3, w4, w5, w6⟩, wx1, wx2, wx3⟩⟩ := id hS; have hv := hA.1; have hv8 := hv.n8; have hv0 := hv.1.1; have hv3 := hv.2.2.2.1; have hs54 := hSt 54 (by unfold SB; omega); obtain ⟨p0, p1, ⟨d0, d1, d2, d3, d4, d5, d6, d7⟩, ⟨t1, t2, t3, t4, t5, t6⟩, p5, p6, p7⟩ := id hs54; have t7 : msh M (54 + 7) = some (4, 0) := p5.2.1; have t10 : msh M (54 + 10) = some (4, 0) := p6.2.1; obtain ⟨hB, hW, hLw⟩ := id hR.1; obtain ⟨b1, b2, b3, b4, b5, b6, b7, b8, b9, b10, b11, b12, b13, b14, b15⟩ := id hB; obtain ⟨hn, hn2, hat, hAc⟩ := id hCA; obtain ⟨⟨hki, hhi⟩, hIm, ⟨htp, hsz, hsz2⟩, hfa⟩ := id hCR
  refine CS.mkQ (by decide) (Nat.le_of_ble_eq_true rfl) fun Q hQ => ?_
  refine x_iload_n dX1_end_0 rfl rfl ?_
  refine x_iconst dX1_end_1 rfl ?_
  refine x_aload_n dX1_end_2 rfl rfl ?_
  refine g_getR (kI := 0) rfl dX1_end_3 fX1_15_1 (by first | assumption | first | assumption | (simp (disch := omega) only [shI, shR, shL, shC, shD, shW, sh_V, shN_e, shN_n, crI, crL, crC, crW, crV, crR_e, crR_n, crN_e, crN_n, ciR, ciL, ciD, ciN_e, ciN_n, rdI_e, rdI_n, rdC_i, rdC_o, rdW, rdU_e, rdU_n, rdLW, clI, clR, clC, clD, clW, clV, clN_e, clN_n, clL_e, clL_n]; done) | (simp (disch := omega) only [shI, shR, shL, shC, shD, shW, sh_V, shN_e, shN_n, crI, crL, crC, crW, crV, crR_e, crR_n, crN_e, crN_n, ciR, ciL, ciD, ciN_e, ciN_n, rdI_e, rdI_n, rdC_i, rdC_o, rdW, rdU_e, rdU_n, rdLW, clI, clR, clC, clD, clW, clV, clN_e, clN_n, clL_e, clL_n] <;> first | assumption | rfl | omega)) (by first | assumption | first | assumption | (simp (disch := omega) only [shI, shR, shL, shC, shD, shW, sh_V, shN_e, shN_n, crI, crL, crC, crW, crV, crR_e, crR_n, crN_e, crN_n, ciR, ciL, ciD, ciN_e, ciN_n, rdI_e, rdI_n, rdC_i, rdC_o, rdW, rdU_e, rdU_n, rdLW, clI, clR, clC, clD, clW, clV, clN_e, clN_n, clL_e, clL_n]; done) | (simp (disch := omega) only [shI, shR, shL, shC, shD, shW, sh_V, shN_e, shN_n, crI, crL, crC, crW, crV, crR_e, crR_n, crN_e, crN_n, ciR, ciL, ciD, ciN_e, ciN_n, rdI_e, rdI_n, rdC_i, rdC_o, rdW, rdU_e, rdU_n, rdLW, clI, clR, clC, clD, clW, clV, clN_e, clN_n, clL_e, clL_n] <;> first | assumption | rfl | omega)) ?_
  refine g_getI (kI := 7) rfl dX1_end_6 fX1_123_2 (by first | assumption | first | assumption | (simp (disch := omega) only [shI, shR, shL, shC, shD, shW, sh_V, shN_e, shN_n, crI, crL, crC, crW, crV, crR_e, crR_n, crN_e, crN_n, ciR, ciL, ciD, ciN_e, ciN_n, rdI_e, rdI_n, rdC_i, rdC_o, rdW, rdU_e, rdU_n, rdLW, clI, clR, clC, clD, clW, clV, clN_e, clN_n, clL_e, clL_n]; done) | (simp (disch := omega) only [shI, shR, shL, shC, shD, shW, sh_V, shN_e, shN_n, crI, crL, crC, crW, crV, crR_e, crR_n, crN_e, crN_n, ciR, ciL, ciD, ciN_e, ciN_n, rdI_e, rdI_n, rdC_i, rdC_o, rdW, rdU_e, rdU_n, rdLW, clI, clR, clC, clD, clW, clV, clN_e, clN_n, clL_e, clL_n] <;> first | assumption | rfl | omega)) ?_
  try simp (disch := omega) only [rdI_e, rdI_n, rdC_i, rdC_o, rdW, rdR, rdU_e, rdU_n, rdLW, Int.add_zero, hsz]
  refine g_callI (vs := [_, _, _]) (d' := d - 1) rfl (s_X1_isIn (by omega)) dX1_end_9 kX1_104 (by omega) (by decide) rfl (Nat.le_of_ble_eq_true rfl) (rcv_n) (fun x9 M9 h9 => ?_)
  obtain ⟨e9, f9⟩ := h9
  have f9' := f9.symm
  subst f9'
  subst e9
  try simp (disch := omega) only [rdI_e, rdI_n, rdC_i, rdC_o, rdW, rdR, rdU_e, rdU_n, rdLW, Int.add_zero, hsz]
  refine x_if_ne (tgt := 17) dX1_end_12 (by decide) (fun h12 => ?_) (fun h12 => ?_)
  · try simp only [vP_0, vP_1, vP_n0, vP_n1, Classical.not_not] at h12
    refine x_aload_n dX1_end_17 rfl rfl ?_
    refine g_getR (kI := 0) rfl dX1_end_18 fX1_15_1 (by first | assumption | first | assumption | (simp (disch := omega) only [shI, shR, shL, shC, shD, shW, sh_V, shN_e, shN_n, crI, crL, crC, crW, crV, crR_e, crR_n, crN_e, crN_n, ciR, ciL, ciD, ciN_e, ciN_n, rdI_e, rdI_n, rdC_i, rdC_o, rdW, rdU_e, rdU_n, rdLW, clI, clR, clC, clD, clW, clV, clN_e, clN_n, clL_e, clL_n]; done) | (simp (disch := omega) only [shI, shR, shL, shC, shD, shW, sh_V, shN_e, shN_n, crI, crL, crC, crW, crV, crR_e, crR_n, crN_e, crN_n, ciR, ciL, ciD, ciN_e, ciN_n, rdI_e, rdI_n, rdC_i, rdC_o, rdW, rdU_e, rdU_n, rdLW, clI, clR, clC, clD, clW, clV, clN_e, clN_n, clL_e, clL_n] <;> first | assumption | rfl | omega)) (by first | assumption | first | assumption | (simp (disch := omega) only [shI, shR, shL, shC, shD, shW, sh_V, shN_e, shN_n, crI, crL, crC, crW, crV, crR_e, crR_n, crN_e, crN_n, ciR, ciL, ciD, ciN_e, ciN_n, rdI_e, rdI_n, rdC_i, rdC_o, rdW, rdU_e, rdU_n, rdLW, clI, clR, clC, clD, clW, clV, clN_e, clN_n, clL_e, clL_n]; done) | (simp (disch := omega) only [shI, shR, shL, shC, shD, shW, sh_V, shN_e, shN_n, crI, crL, crC, crW, crV, crR_e, crR_n, crN_e, crN_n, ciR, ciL, ciD, ciN_e, ciN_n, rdI_e, rdI_n, rdC_i, rdC_o, rdW, rdU_e, rdU_n, rdLW, clI, clR, clC, clD, clW, clV, clN_e, clN_n, clL_e, clL_n] <;> first | assumption | rfl | omega)) ?_
    refine x_iload_n dX1_end_21 rfl rfl ?_
    refine g_putI (kI := 7) rfl dX1_end_22 fX1_123_2 (by first | assumption | first | assumption | (simp (disch := omega) only [shI, shR, shL, shC, shD, shW, sh_V, shN_e, shN_n, crI, crL, crC, crW, crV, crR_e, crR_n, crN_e, crN_n, ciR, ciL, ciD, ciN_e, ciN_n, rdI_e, rdI_n, rdC_i, rdC_o, rdW, rdU_e, rdU_n, rdLW, clI, clR, clC, clD, clW, clV, clN_e, clN_n, clL_e, clL_n]; done) | (simp (disch := omega) only [shI, shR, shL, shC, shD, shW, sh_V, shN_e, shN_n, crI, crL, crC, crW, crV, crR_e, crR_n, crN_e, crN_n, ciR, ciL, ciD, ciN_e, ciN_n, rdI_e, rdI_n, rdC_i, rdC_o, rdW, rdU_e, rdU_n, rdLW, clI, clR, clC, clD, clW, clV, clN_e, clN_n, clL_e, clL_n] <;> first | assumption | rfl | omega)) ?_
    refine x_iconst dX1_end_25 rfl ?_
    refine x_zreturn (by first | exact Or.inl rfl | exact Or.inr rfl | exact vB_r _ | exact vP_r _ | assumption | omega) rfl dX1_end_26 ?_
    first
    | exact hQ _ _ ⟨_, rfl, fun q => absurd q (by omega), fun _ => ⟨rfl, CO.r hC⟩⟩
    | exact hQ _ _ ⟨_, rfl, fun q => ⟨rfl, hC.rd (g := mci (mI M 2 7 k)) (fun b k q1 q2 q3 => rdI_n (by omega)) ((funext fun k => rdI_n (by omega)).trans htp) (rdI_e ⟨rfl, rfl⟩) (by omega) ((rdI_n (by omega)).trans hfa)⟩, fun q => absurd (by omega) q⟩
  · try simp only [vP_0, vP_1, vP_n0, vP_n1, Classical.not_not] at h12
    refine x_iconst dX1_end_15 rfl ?_
    refine x_zreturn (by first | exact Or.inl rfl | exact Or.inr rfl | exact vB_r _ | exact vP_r _ | assumption | omega) rfl dX1_end_16 ?_
    first
    | exact hQ _ _ ⟨_, rfl, fun q => absurd q (by omega), fun _ => ⟨rfl, CO.r hC⟩⟩
    | exact hQ _ _ ⟨_, rfl, fun q => ⟨rfl, hC.rd (g := mci (mI M 2 7 k)) (fun b k q1 q2 q3 => rdI_n (by omega)) ((funext fun k => rdI_n (by omega)).trans htp) (rdI_e ⟨rfl, rfl⟩) (by omega) ((rdI_n (by omega)).trans hfa)⟩, fun q => absurd (by omega) q⟩
/-- four bytes of a number behind those that are there -/
def tapF (t : Int → Int) (s x n : Int) : Int → Int := fun i => if s ≤ i ∧ i < s + n then w8 (jshr x (24 - 8 * (i - s))) else t i
theorem w8_w8 : w8 (w8 x) = w8 x := by unfold w8; omega
theorem tapF_0 {t : Int → Int} {s x : Int} : tapF t s x 0 = t := funext fun i => if_neg (by omega)
theorem tapF_s {t : Int → Int} {s x n i y : Int} (hn : 0 ≤ n) (hi : i = s + n) (hy : y = w8 (jshr x (24 - 8 * n))) : us (tapF t s x n) i y = tapF t s x (n + 1) := funext fun k => by
  subst hi
  subst hy
  unfold us tapF
  by_cases h : k = s + n
  · rw [if_pos h, if_pos (by omega), h, show s + n - s = n by omega]
  · rw [if_neg h]
    by_cases h2 : s ≤ k ∧ k < s + n
    · rw [if_pos h2, if_pos (by omega)]
    · rw [if_neg h2, if_neg (by omega)]
/-- the tape and its length are others -/
def tpM (M : Mem) (t : Int → Int) (s : Int) : Mem := wI M (fun b k => if b = 3 then t k else if b = 2 ∧ k = 7 then s else mci M b k)
theorem tpM_t {t : Int → Int} {s : Int} : mci (tpM M t s) 3 k = t k := by
  show (if (3 : Int) = 3 then t k else if (3 : Int) = 2 ∧ k = 7 then s else mci M 3 k) = t k
  exact if_pos rfl
theorem tpM_f {t : Int → Int} {s : Int} : mci (tpM M t s) 3 = t := funext fun k => tpM_t
theorem tpM_s {t : Int → Int} {s : Int} : mci (tpM M t s) 2 7 = s := by
  show (if (2 : Int) = 3 then t 7 else if (2 : Int) = 2 ∧ (7 : Int) = 7 then s else mci M 2 7) = s
  rw [if_neg (by decide), if_pos ⟨rfl, rfl⟩]
theorem tpM_o {t : Int → Int} {s : Int} (h : ¬ b = 3) (h2 : ¬ (b = 2 ∧ k = 7)) : mci (tpM M t s) b k = mci M b k := (if_neg h).trans (if_neg h2)
theorem tpM_wt {t : Int → Int} {s : Int} : mI (tpM M t s) 3 i x = tpM M (us t i x) s := by
  refine mem_ext (M := M) fun a k => ?_
  show (if a = 3 ∧ k = i then x else if a = 3 then t k else _) = if a = 3 then (if k = i then x else t k) else _
  by_cases h : a = 3
  · rw [if_pos h, if_pos h]
    by_cases h2 : k = i
    · rw [if_pos ⟨h, h2⟩, if_pos h2]
    · rw [if_neg (fun q => h2 q.2), if_neg h2]
  · rw [if_neg (fun q => h q.1), if_neg h, if_neg h]
theorem tpM_ws {t : Int → Int} {s : Int} : mI (tpM M t s) 2 7 x = tpM M t x := by
  refine mem_ext (M := M) fun a k => ?_
  show (if a = 2 ∧ k = 7 then x else if a = 3 then t k else if a = 2 ∧ k = 7 then s else _) = if a = 3 then t k else if a = 2 ∧ k = 7 then x else _
  by_cases h : a = 2 ∧ k = 7
  · rw [if_pos h, if_neg (by omega), if_pos h]
  · rw [if_neg h, if_neg h, if_neg h]
theorem tpM_z : tpM M (mci M 3) (mci M 2 7) = M := by
  refine (mem_ext (M := M) (g := mci M) fun a k => ?_).trans rfl
  show (if a = 3 then mci M 3 k else if a = 2 ∧ k = 7 then mci M 2 7 else mci M a k) = mci M a k
  by_cases h : a = 3
  · rw [if_pos h, h]
  · rw [if_neg h]
    by_cases h2 : a = 2 ∧ k = 7
    · rw [if_pos h2, h2.1, h2.2]
    · rw [if_neg h2]
theorem s_X1_four {tq : Int → Int} {s : Int} (hd : 10 ≤ d) (hC : CI M v n A hi vi tp sz fa N) (hs : 0 ≤ s ∧ s ≤ 396) : CS G d mX1_four [dR 0, dI x] (tpM M tq s) (postN fun M1 => M1 = tpM M (tapF tq s x 4) (s + 4)) := by
  obtain ⟨hC1, hC54, hCA, hCR⟩ := id hC; obtain ⟨hS, hTab, hTx, hLn, hSk, hnx⟩ := id hC1; obtain ⟨hA, hL, hR⟩ := id hC54; obtain ⟨⟨s0, s199, s200, s201, s202, s203⟩, ⟨c0, c1, c2, c3, c4, c5, c6, c7, c8, c9, c10, c11, c12⟩, c203, hSt, m189, m191, g193, g196, ⟨⟨r2, r3, r4, r5, r6, r7, r53⟩, ⟨w0, w1, w2, w3, w4, w5, w6⟩, wx1, wx2, wx3⟩⟩ := id hS; have hv := hA.1; have hv8 := hv.n8; have hv0 := hv.1.1; have hv3 := hv.2.2.2.1; have hs54 := hSt 54 (by unfold SB; omega); obtain ⟨p0, p1, ⟨d0, d1, d2, d3, d4, d5, d6, d7⟩, ⟨t1, t2, t3, t4, t5, t6⟩, p5, p6, p7⟩ := id hs54; have t7 : msh M (54 + 7) = some (4, 0) := p5.2.1; have t10 : msh M (54 + 10) = some (4, 0) := p6.2.1; obtain ⟨hB, hW, hLw⟩ := id hR.1; obtain ⟨b1, b2, b3, b4, b5, b6, b7, b8, b9, b10, b11, b12, b13, b14, b15⟩ := id hB; obtain ⟨hn, hn2, hat, hAc⟩ := id hCA; obtain ⟨⟨hki, hhi⟩, hIm, ⟨htp, hsz, hsz2⟩, hfa⟩ := id hCR
  refine CS.mkQ (by decide) (Nat.le_of_ble_eq_true rfl) fun Q hQ => ?_
  have lp : ∀ (t : Nat) (k : Int), (4 - k).toNat = t → (0 ≤ k ∧ k ≤ 4) → WP G d mX1_four 3 [some (dR 0), some (dI x), some (dI (24 - 8 * k))] [] (tpM M (tapF tq s x k) (s + k)) Q := by
    intro t
    induction t using Nat.strongRecOn with
    | _ t ih =>
      intro k ht k0
      refine x_iload_n dX1_four_3 rfl rfl ?_
      refine x_if_lt (tgt := 45) dX1_four_4 (by decide) (fun h4 => ?_) (fun h4 => ?_)
      · refine x_vreturn rfl dX1_four_45 ?_
        refine hQ _ _ ⟨rfl, ?_⟩
        rw [show k = 4 by omega]
      · refine x_aload_n dX1_four_7 rfl rfl ?_
        refine g_getR (kI := 0) rfl dX1_four_8 fX1_15_1 (by first | assumption | first | assumption | (simp (disch := omega) only [shI, shR, shL, shC, shD, shW, sh_V, shN_e, shN_n, crI, crL, crC, crW, crV, crR_e, crR_n, crN_e, crN_n, ciR, ciL, ciD, ciN_e, ciN_n, rdI_e, rdI_n, rdC_i, rdC_o, rdW, rdU_e, rdU_n, rdLW, clI, clR, clC, clD, clW, clV, clN_e, clN_n, clL_e, clL_n]; done) | (simp (disch := omega) only [shI, shR, shL, shC, shD, shW, sh_V, shN_e, shN_n, crI, crL, crC, crW, crV, crR_e, crR_n, crN_e, crN_n, ciR, ciL, ciD, ciN_e, ciN_n, rdI_e, rdI_n, rdC_i, rdC_o, rdW, rdU_e, rdU_n, rdLW, clI, clR, clC, clD, clW, clV, clN_e, clN_n, clL_e, clL_n] <;> first | assumption | rfl | omega)) (by first | assumption | first | assumption | (simp (disch := omega) only [shI, shR, shL, shC, shD, shW, sh_V, shN_e, shN_n, crI, crL, crC, crW, crV, crR_e, crR_n, crN_e, crN_n, ciR, ciL, ciD, ciN_e, ciN_n, rdI_e, rdI_n, rdC_i, rdC_o, rdW, rdU_e, rdU_n, rdLW, clI, clR, clC, clD, clW, clV, clN_e, clN_n, clL_e, clL_n]; done) | (simp (disch := omega) only [shI, shR, shL, shC, shD, shW, sh_V, shN_e, shN_n, crI, crL, crC, crW, crV, crR_e, crR_n, crN_e, crN_n, ciR, ciL, ciD, ciN_e, ciN_n, rdI_e, rdI_n, rdC_i, rdC_o, rdW, rdU_e, rdU_n, rdLW, clI, clR, clC, clD, clW, clV, clN_e, clN_n, clL_e, clL_n] <;> first | assumption | rfl | omega)) ?_
        refine g_getR (kI := 0) rfl dX1_four_11 fX1_119_2 (by first | assumption | first | assumption | (simp (disch := omega) only [shI, shR, shL, shC, shD, shW, sh_V, shN_e, shN_n, crI, crL, crC, crW, crV, crR_e, crR_n, crN_e, crN_n, ciR, ciL, ciD, ciN_e, ciN_n, rdI_e, rdI_n, rdC_i, rdC_o, rdW, rdU_e, rdU_n, rdLW, clI, clR, clC, clD, clW, clV, clN_e, clN_n, clL_e, clL_n]; done) | (simp (disch := omega) only [shI, shR, shL, shC, shD, shW, sh_V, shN_e, shN_n, crI, crL, crC, crW, crV, crR_e, crR_n, crN_e, crN_n, ciR, ciL, ciD, ciN_e, ciN_n, rdI_e, rdI_n, rdC_i, rdC_o, rdW, rdU_e, rdU_n, rdLW, clI, clR, clC, clD, clW, clV, clN_e, clN_n, clL_e, clL_n] <;> first | assumption | rfl | omega)) (by first | assumption | first | assumption | (simp (disch := omega) only [shI, shR, shL, shC, shD, shW, sh_V, shN_e, shN_n, crI, crL, crC, crW, crV, crR_e, crR_n, crN_e, crN_n, ciR, ciL, ciD, ciN_e, ciN_n, rdI_e, rdI_n, rdC_i, rdC_o, rdW, rdU_e, rdU_n, rdLW, clI, clR, clC, clD, clW, clV, clN_e, clN_n, clL_e, clL_n]; done) | (simp (disch := omega) only [shI, shR, shL, shC, shD, shW, sh_V, shN_e, shN_n, crI, crL, crC, crW, crV, crR_e, crR_n, crN_e, crN_n, ciR, ciL, ciD, ciN_e, ciN_n, rdI_e, rdI_n, rdC_i, rdC_o, rdW, rdU_e, rdU_n, rdLW, clI, clR, clC, clD, clW, clV, clN_e, clN_n, clL_e, clL_n] <;> first | assumption | rfl | omega)) ?_
        refine x_aload_n dX1_four_14 rfl rfl ?_
        refine g_getR (kI := 0) rfl dX1_four_15 fX1_15_1 (by first | assumption | first | assumption | (simp (disch := omega) only [shI, shR, shL, shC, shD, shW, sh_V, shN_e, shN_n, crI, crL, crC, crW, crV, crR_e, crR_n, crN_e, crN_n, ciR, ciL, ciD, ciN_e, ciN_n, rdI_e, rdI_n, rdC_i, rdC_o, rdW, rdU_e, rdU_n, rdLW, clI, clR, clC, clD, clW, clV, clN_e, clN_n, clL_e, clL_n]; done) | (simp (disch := omega) only [shI, shR, shL, shC, shD, shW, sh_V, shN_e, shN_n, crI, crL, crC, crW, crV, crR_e, crR_n, crN_e, crN_n, ciR, ciL, ciD, ciN_e, ciN_n, rdI_e, rdI_n, rdC_i, rdC_o, rdW, rdU_e, rdU_n, rdLW, clI, clR, clC, clD, clW, clV, clN_e, clN_n, clL_e, clL_n] <;> first | assumption | rfl | omega)) (by first | assumption | first | assumption | (simp (disch := omega) only [shI, shR, shL, shC, shD, shW, sh_V, shN_e, shN_n, crI, crL, crC, crW, crV, crR_e, crR_n, crN_e, crN_n, ciR, ciL, ciD, ciN_e, ciN_n, rdI_e, rdI_n, rdC_i, rdC_o, rdW, rdU_e, rdU_n, rdLW, clI, clR, clC, clD, clW, clV, clN_e, clN_n, clL_e, clL_n]; done) | (simp (disch := omega) only [shI, shR, shL, shC, shD, shW, sh_V, shN_e, shN_n, crI, crL, crC, crW, crV, crR_e, crR_n, crN_e, crN_n, ciR, ciL, ciD, ciN_e, ciN_n, rdI_e, rdI_n, rdC_i, rdC_o, rdW, rdU_e, rdU_n, rdLW, clI, clR, clC, clD, clW, clV, clN_e, clN_n, clL_e, clL_n] <;> first | assumption | rfl | omega)) ?_
        refine g_getI (kI := 7) rfl dX1_four_18 fX1_123_2 (by first | assumption | first | assumption | (simp (disch := omega) only [shI, shR, shL, shC, shD, shW, sh_V, shN_e, shN_n, crI, crL, crC, crW, crV, crR_e, crR_n, crN_e, crN_n, ciR, ciL, ciD, ciN_e, ciN_n, rdI_e, rdI_n, rdC_i, rdC_o, rdW, rdU_e, rdU_n, rdLW, clI, clR, clC, clD, clW, clV, clN_e, clN_n, clL_e, clL_n]; done) | (simp (disch := omega) only [shI, shR, shL, shC, shD, shW, sh_V, shN_e, shN_n, crI, crL, crC, crW, crV, crR_e, crR_n, crN_e, crN_n, ciR, ciL, ciD, ciN_e, ciN_n, rdI_e, rdI_n, rdC_i, rdC_o, rdW, rdU_e, rdU_n, rdLW, clI, clR, clC, clD, clW, clV, clN_e, clN_n, clL_e, clL_n] <;> first | assumption | rfl | omega)) ?_
        try simp (disch := omega) only [rdI_e, rdI_n, rdC_i, rdC_o, rdW, rdR, rdU_e, rdU_n, rdLW, Int.add_zero, tpM_t, tpM_s]
        refine x_iload_n dX1_four_21 rfl rfl ?_
        refine x_iload_n dX1_four_22 rfl rfl ?_
        refine x_ishr dX1_four_23 ?_
        refine x_i2b dX1_four_24 ?_
        refine x_bast (by omega) dX1_four_25 (by first | assumption | first | assumption | (simp (disch := omega) only [shI, shR, shL, shC, shD, shW, sh_V, shN_e, shN_n, crI, crL, crC, crW, crV, crR_e, crR_n, crN_e, crN_n, ciR, ciL, ciD, ciN_e, ciN_n, rdI_e, rdI_n, rdC_i, rdC_o, rdW, rdU_e, rdU_n, rdLW, clI, clR, clC, clD, clW, clV, clN_e, clN_n, clL_e, clL_n]; done) | (simp (disch := omega) only [shI, shR, shL, shC, shD, shW, sh_V, shN_e, shN_n, crI, crL, crC, crW, crV, crR_e, crR_n, crN_e, crN_n, ciR, ciL, ciD, ciN_e, ciN_n, rdI_e, rdI_n, rdC_i, rdC_o, rdW, rdU_e, rdU_n, rdLW, clI, clR, clC, clD, clW, clV, clN_e, clN_n, clL_e, clL_n] <;> first | assumption | rfl | omega)) (by omega) (by omega) ?_
        try simp only [tpM_wt, tpM_ws]
        refine x_aload_n dX1_four_26 rfl rfl ?_
        refine g_getR (kI := 0) rfl dX1_four_27 fX1_15_1 (by first | assumption | first | assumption | (simp (disch := omega) only [shI, shR, shL, shC, shD, shW, sh_V, shN_e, shN_n, crI, crL, crC, crW, crV, crR_e, crR_n, crN_e, crN_n, ciR, ciL, ciD, ciN_e, ciN_n, rdI_e, rdI_n, rdC_i, rdC_o, rdW, rdU_e, rdU_n, rdLW, clI, clR, clC, clD, clW, clV, clN_e, clN_n, clL_e, clL_n]; done) | (simp (disch := omega) only [shI, shR, shL, shC, shD, shW, sh_V, shN_e, shN_n, crI, crL, crC, crW, crV, crR_e, crR_n, crN_e, crN_n, ciR, ciL, ciD, ciN_e, ciN_n, rdI_e, rdI_n, rdC_i, rdC_o, rdW, rdU_e, rdU_n, rdLW, clI, clR, clC, clD, clW, clV, clN_e, clN_n, clL_e, clL_n] <;> first | assumption | rfl | omega)) (by first | assumption | first | assumption | (simp (disch := omega) only [shI, shR, shL, shC, shD, shW, sh_V, shN_e, shN_n, crI, crL, crC, crW, crV, crR_e, crR_n, crN_e, crN_n, ciR, ciL, ciD, ciN_e, ciN_n, rdI_e, rdI_n, rdC_i, rdC_o, rdW, rdU_e, rdU_n, rdLW, clI, clR, clC, clD, clW, clV, clN_e, clN_n, clL_e, clL_n]; done) | (simp (disch := omega) only [shI, shR, shL, shC, shD, shW, sh_V, shN_e, shN_n, crI, crL, crC, crW, crV, crR_e, crR_n, crN_e, crN_n, ciR, ciL, ciD, ciN_e, ciN_n, rdI_e, rdI_n, rdC_i, rdC_o, rdW, rdU_e, rdU_n, rdLW, clI, clR, clC, clD, clW, clV, clN_e, clN_n, clL_e, clL_n] <;> first | assumption | rfl | omega)) ?_
        refine x_dup dX1_four_30 rfl ?_
        refine g_getI (kI := 7) rfl dX1_four_31 fX1_123_2 (by first | assumption | first | assumption | (simp (disch := omega) only [shI, shR, shL, shC, shD, shW, sh_V, shN_e, shN_n, crI, crL, crC, crW, crV, crR_e, crR_n, crN_e, crN_n, ciR, ciL, ciD, ciN_e, ciN_n, rdI_e, rdI_n, rdC_i, rdC_o, rdW, rdU_e, rdU_n, rdLW, clI, clR, clC, clD, clW, clV, clN_e, clN_n, clL_e, clL_n]; done) | (simp (disch := omega) only [shI, shR, shL, shC, shD, shW, sh_V, shN_e, shN_n, crI, crL, crC, crW, crV, crR_e, crR_n, crN_e, crN_n, ciR, ciL, ciD, ciN_e, ciN_n, rdI_e, rdI_n, rdC_i, rdC_o, rdW, rdU_e, rdU_n, rdLW, clI, clR, clC, clD, clW, clV, clN_e, clN_n, clL_e, clL_n] <;> first | assumption | rfl | omega)) ?_
        try simp (disch := omega) only [rdI_e, rdI_n, rdC_i, rdC_o, rdW, rdR, rdU_e, rdU_n, rdLW, Int.add_zero, tpM_t, tpM_s]
        refine x_iconst dX1_four_34 rfl ?_
        first | refine x_iaddN dX1_four_35 (by unfold i32; omega) ?_ | refine x_iadd dX1_four_35 ?_
        refine g_putI (kI := 7) rfl dX1_four_36 fX1_123_2 (by first | assumption | first | assumption | (simp (disch := omega) only [shI, shR, shL, shC, shD, shW, sh_V, shN_e, shN_n, crI, crL, crC, crW, crV, crR_e, crR_n, crN_e, crN_n, ciR, ciL, ciD, ciN_e, ciN_n, rdI_e, rdI_n, rdC_i, rdC_o, rdW, rdU_e, rdU_n, rdLW, clI, clR, clC, clD, clW, clV, clN_e, clN_n, clL_e, clL_n]; done) | (simp (disch := omega) only [shI, shR, shL, shC, shD, shW, sh_V, shN_e, shN_n, crI, crL, crC, crW, crV, crR_e, crR_n, crN_e, crN_n, ciR, ciL, ciD, ciN_e, ciN_n, rdI_e, rdI_n, rdC_i, rdC_o, rdW, rdU_e, rdU_n, rdLW, clI, clR, clC, clD, clW, clV, clN_e, clN_n, clL_e, clL_n] <;> first | assumption | rfl | omega)) ?_
        try simp only [tpM_wt, tpM_ws]
        first | refine x_iincN (L' := [some _, some _, some _]) dX1_four_39 rfl (by decide) (by unfold i32; omega) rfl ?_ | refine x_iinc (L' := [some _, some _, some _]) dX1_four_39 rfl (by decide) rfl ?_
        rw [w8_w8, tapF_s k0.1 rfl rfl, show 24 - 8 * k + -8 = 24 - 8 * (k + 1) by omega, show s + k + 1 = s + (k + 1) by omega]
        refine x_goto (tgt := 3) dX1_four_42 (by decide) ?_
        exact ih _ (by omega) (k + 1) rfl (by omega)
  refine x_bipush dX1_four_0 rfl ?_
  refine x_istore_n (L' := [some _, some _, some _]) dX1_four_2 rfl (by decide) rfl ?_
  refine WP.mem (M1 := tpM M (tapF tq s x 0) (s + 0)) (by rw [tapF_0, Int.add_zero]) (lp _ 0 rfl (by omega))
theorem tapF_feed {t : Int → Int} {s b c' p : Int} : tapF (tapF (tapF (tapF (tapF t s a 4) (s + 4) b 4) (s + 4 + 4) c' 4) (s + 4 + 4 + 4) p 4) (s + 4 + 4 + 4 + 4) e 4 = feedT t s a b c' p e 20 := funext fun i => by
  unfold feedT tapF
  by_cases h5 : s + 4 + 4 + 4 + 4 ≤ i ∧ i < s + 4 + 4 + 4 + 4 + 4
  · rw [if_pos h5, if_pos (by omega)]
    unfold feedB
    rw [if_neg (by omega), if_neg (by omega), if_neg (by omega), if_neg (by omega)]
    exact congrArg (fun z => w8 (jshr e z)) (by omega)
  rw [if_neg h5]
  by_cases h4 : s + 4 + 4 + 4 ≤ i ∧ i < s + 4 + 4 + 4 + 4
  · rw [if_pos h4, if_pos (by omega)]
    unfold feedB
    rw [if_neg (by omega), if_neg (by omega), if_neg (by omega), if_pos (by omega)]
    exact congrArg (fun z => w8 (jshr p z)) (by omega)
  rw [if_neg h4]
  by_cases h3 : s + 4 + 4 ≤ i ∧ i < s + 4 + 4 + 4
  · rw [if_pos h3, if_pos (by omega)]
    unfold feedB
    rw [if_neg (by omega), if_neg (by omega), if_pos (by omega)]
    exact congrArg (fun z => w8 (jshr c' z)) (by omega)
  rw [if_neg h3]
  by_cases h2 : s + 4 ≤ i ∧ i < s + 4 + 4
  · rw [if_pos h2, if_pos (by omega)]
    unfold feedB
    rw [if_neg (by omega), if_pos (by omega)]
    exact congrArg (fun z => w8 (jshr b z)) (by omega)
  rw [if_neg h2]
  by_cases h1 : s ≤ i ∧ i < s + 4
  · rw [if_pos h1, if_pos (by omega)]
    unfold feedB
    rw [if_pos (by omega)]
    exact congrArg (fun z => w8 (jshr a z)) (by omega)
  rw [if_neg h1, if_neg (by omega)]
theorem s_X1_feed (hd : 11 ≤ d) (hC : CI M v n A hi vi tp sz fa N) : CS G d mX1_feed [dR 0, dI a, dI b, dI c, dI op, dI e] M (postI fun y M1 => (400 < sz + 20 → y = -1 ∧ CO M v n A hi vi tp sz fa N 0 0 M1) ∧ (¬ 400 < sz + 20 → y = sz + 20 ∧ CO M v n A hi vi (feedT tp sz a b c op e 20) (sz + 20) fa N 0 0 M1)) := by
  obtain ⟨hC1, hC54, hCA, hCR⟩ := id hC; obtain ⟨hS, hTab, hTx, hLn, hSk, hnx⟩ := id hC1; obtain ⟨hA, hL, hR⟩ := id hC54; obtain ⟨⟨s0, s199, s200, s201, s202, s203⟩, ⟨c0, c1, c2, c3, c4, c5, c6, c7, c8, c9, c10, c11, c12⟩, c203, hSt, m189, m191, g193, g196, ⟨⟨r2, r3, r4, r5, r6, r7, r53⟩, ⟨w0, w1, w2, w3, w4, w5, w6⟩, wx1, wx2, wx3⟩⟩ := id hS; have hv := hA.1; have hv8 := hv.n8; have hv0 := hv.1.1; have hv3 := hv.2.2.2.1; have hs54 := hSt 54 (by unfold SB; omega); obtain ⟨p0, p1, ⟨d0, d1, d2, d3, d4, d5, d6, d7⟩, ⟨t1, t2, t3, t4, t5, t6⟩, p5, p6, p7⟩ := id hs54; have t7 : msh M (54 + 7) = some (4, 0) := p5.2.1; have t10 : msh M (54 + 10) = some (4, 0) := p6.2.1; obtain ⟨hB, hW, hLw⟩ := id hR.1; obtain ⟨b1, b2, b3, b4, b5, b6, b7, b8, b9, b10, b11, b12, b13, b14, b15⟩ := id hB; obtain ⟨hn, hn2, hat, hAc⟩ := id hCA; obtain ⟨⟨hki, hhi⟩, hIm, ⟨htp, hsz, hsz2⟩, hfa⟩ := id hCR
  have eM : M = tpM M tp sz := by
    have h := tpM_z (M := M)
    rw [htp, hsz] at h
    exact h.symm
  refine CS.mkQ (by decide) (Nat.le_of_ble_eq_true rfl) fun Q hQ => ?_
  by_cases hz : 400 < sz + 20
  · refine x_aload_n dX1_feed_0 rfl rfl ?_
    refine g_getR (kI := 0) rfl dX1_feed_1 fX1_15_1 (by first | assumption | first | assumption | (simp (disch := omega) only [shI, shR, shL, shC, shD, shW, sh_V, shN_e, shN_n, crI, crL, crC, crW, crV, crR_e, crR_n, crN_e, crN_n, ciR, ciL, ciD, ciN_e, ciN_n, rdI_e, rdI_n, rdC_i, rdC_o, rdW, rdU_e, rdU_n, rdLW, clI, clR, clC, clD, clW, clV, clN_e, clN_n, clL_e, clL_n]; done) | (simp (disch := omega) only [shI, shR, shL, shC, shD, shW, sh_V, shN_e, shN_n, crI, crL, crC, crW, crV, crR_e, crR_n, crN_e, crN_n, ciR, ciL, ciD, ciN_e, ciN_n, rdI_e, rdI_n, rdC_i, rdC_o, rdW, rdU_e, rdU_n, rdLW, clI, clR, clC, clD, clW, clV, clN_e, clN_n, clL_e, clL_n] <;> first | assumption | rfl | omega)) (by first | assumption | first | assumption | (simp (disch := omega) only [shI, shR, shL, shC, shD, shW, sh_V, shN_e, shN_n, crI, crL, crC, crW, crV, crR_e, crR_n, crN_e, crN_n, ciR, ciL, ciD, ciN_e, ciN_n, rdI_e, rdI_n, rdC_i, rdC_o, rdW, rdU_e, rdU_n, rdLW, clI, clR, clC, clD, clW, clV, clN_e, clN_n, clL_e, clL_n]; done) | (simp (disch := omega) only [shI, shR, shL, shC, shD, shW, sh_V, shN_e, shN_n, crI, crL, crC, crW, crV, crR_e, crR_n, crN_e, crN_n, ciR, ciL, ciD, ciN_e, ciN_n, rdI_e, rdI_n, rdC_i, rdC_o, rdW, rdU_e, rdU_n, rdLW, clI, clR, clC, clD, clW, clV, clN_e, clN_n, clL_e, clL_n] <;> first | assumption | rfl | omega)) ?_
    refine g_getI (kI := 7) rfl dX1_feed_4 fX1_123_2 (by first | assumption | first | assumption | (simp (disch := omega) only [shI, shR, shL, shC, shD, shW, sh_V, shN_e, shN_n, crI, crL, crC, crW, crV, crR_e, crR_n, crN_e, crN_n, ciR, ciL, ciD, ciN_e, ciN_n, rdI_e, rdI_n, rdC_i, rdC_o, rdW, rdU_e, rdU_n, rdLW, clI, clR, clC, clD, clW, clV, clN_e, clN_n, clL_e, clL_n]; done) | (simp (disch := omega) only [shI, shR, shL, shC, shD, shW, sh_V, shN_e, shN_n, crI, crL, crC, crW, crV, crR_e, crR_n, crN_e, crN_n, ciR, ciL, ciD, ciN_e, ciN_n, rdI_e, rdI_n, rdC_i, rdC_o, rdW, rdU_e, rdU_n, rdLW, clI, clR, clC, clD, clW, clV, clN_e, clN_n, clL_e, clL_n] <;> first | assumption | rfl | omega)) ?_
    try simp (disch := omega) only [rdI_e, rdI_n, rdC_i, rdC_o, rdW, rdR, rdU_e, rdU_n, rdLW, Int.add_zero, hsz]
    refine x_bipush dX1_feed_7 rfl ?_
    first | refine x_iaddN dX1_feed_9 (by unfold i32; omega) ?_ | refine x_iadd dX1_feed_9 ?_
    refine x_sipush dX1_feed_10 rfl ?_
    refine x_icmp_le (tgt := 18) dX1_feed_13 (by decide) (fun h13 => ?_) (fun h13 => ?_)
    · omega
    · refine x_iconst dX1_feed_16 rfl ?_
      refine x_ireturn rfl dX1_feed_17 ?_
      exact hQ _ _ ⟨_, rfl, fun _ => ⟨rfl, CO.r hC⟩, fun q => absurd hz q⟩
  · refine WP.mem eM ?_
    refine x_aload_n dX1_feed_0 rfl rfl ?_
    refine g_getR (kI := 0) rfl dX1_feed_1 fX1_15_1 (by first | assumption | first | assumption | (simp (disch := omega) only [shI, shR, shL, shC, shD, shW, sh_V, shN_e, shN_n, crI, crL, crC, crW, crV, crR_e, crR_n, crN_e, crN_n, ciR, ciL, ciD, ciN_e, ciN_n, rdI_e, rdI_n, rdC_i, rdC_o, rdW, rdU_e, rdU_n, rdLW, clI, clR, clC, clD, clW, clV, clN_e, clN_n, clL_e, clL_n]; done) | (simp (disch := omega) only [shI, shR, shL, shC, shD, shW, sh_V, shN_e, shN_n, crI, crL, crC, crW, crV, crR_e, crR_n, crN_e, crN_n, ciR, ciL, ciD, ciN_e, ciN_n, rdI_e, rdI_n, rdC_i, rdC_o, rdW, rdU_e, rdU_n, rdLW, clI, clR, clC, clD, clW, clV, clN_e, clN_n, clL_e, clL_n] <;> first | assumption | rfl | omega)) (by first | assumption | first | assumption | (simp (disch := omega) only [shI, shR, shL, shC, shD, shW, sh_V, shN_e, shN_n, crI, crL, crC, crW, crV, crR_e, crR_n, crN_e, crN_n, ciR, ciL, ciD, ciN_e, ciN_n, rdI_e, rdI_n, rdC_i, rdC_o, rdW, rdU_e, rdU_n, rdLW, clI, clR, clC, clD, clW, clV, clN_e, clN_n, clL_e, clL_n]; done) | (simp (disch := omega) only [shI, shR, shL, shC, shD, shW, sh_V, shN_e, shN_n, crI, crL, crC, crW, crV, crR_e, crR_n, crN_e, crN_n, ciR, ciL, ciD, ciN_e, ciN_n, rdI_e, rdI_n, rdC_i, rdC_o, rdW, rdU_e, rdU_n, rdLW, clI, clR, clC, clD, clW, clV, clN_e, clN_n, clL_e, clL_n] <;> first | assumption | rfl | omega)) ?_
    refine g_getI (kI := 7) rfl dX1_feed_4 fX1_123_2 (by first | assumption | first | assumption | (simp (disch := omega) only [shI, shR, shL, shC, shD, shW, sh_V, shN_e, shN_n, crI, crL, crC, crW, crV, crR_e, crR_n, crN_e, crN_n, ciR, ciL, ciD, ciN_e, ciN_n, rdI_e, rdI_n, rdC_i, rdC_o, rdW, rdU_e, rdU_n, rdLW, clI, clR, clC, clD, clW, clV, clN_e, clN_n, clL_e, clL_n]; done) | (simp (disch := omega) only [shI, shR, shL, shC, shD, shW, sh_V, shN_e, shN_n, crI, crL, crC, crW, crV, crR_e, crR_n, crN_e, crN_n, ciR, ciL, ciD, ciN_e, ciN_n, rdI_e, rdI_n, rdC_i, rdC_o, rdW, rdU_e, rdU_n, rdLW, clI, clR, clC, clD, clW, clV, clN_e, clN_n, clL_e, clL_n] <;> first | assumption | rfl | omega)) ?_
    try simp (disch := omega) only [rdI_e, rdI_n, rdC_i, rdC_o, rdW, rdR, rdU_e, rdU_n, rdLW, Int.add_zero, tpM_s]
    refine x_bipush dX1_feed_7 rfl ?_
    first | refine x_iaddN dX1_feed_9 (by unfold i32; omega) ?_ | refine x_iadd dX1_feed_9 ?_
    refine x_sipush dX1_feed_10 rfl ?_
    refine x_icmp_le (tgt := 18) dX1_feed_13 (by decide) (fun h13 => ?_) (fun h13 => ?_)
    · refine x_aload_n dX1_feed_18 rfl rfl ?_
      refine x_iload_n dX1_feed_19 rfl rfl ?_
      refine g_callN (vs := [_, _]) (d' := d - 1) rfl (s_X1_four (by omega) hC (by omega)) dX1_feed_20 kX1_126 (by omega) (by decide) rfl (Nat.le_of_ble_eq_true rfl) (rcv_o (by first | assumption | first | assumption | (simp (disch := omega) only [shI, shR, shL, shC, shD, shW, sh_V, shN_e, shN_n, crI, crL, crC, crW, crV, crR_e, crR_n, crN_e, crN_n, ciR, ciL, ciD, ciN_e, ciN_n, rdI_e, rdI_n, rdC_i, rdC_o, rdW, rdU_e, rdU_n, rdLW, clI, clR, clC, clD, clW, clV, clN_e, clN_n, clL_e, clL_n]; done) | (simp (disch := omega) only [shI, shR, shL, shC, shD, shW, sh_V, shN_e, shN_n, crI, crL, crC, crW, crV, crR_e, crR_n, crN_e, crN_n, ciR, ciL, ciD, ciN_e, ciN_n, rdI_e, rdI_n, rdC_i, rdC_o, rdW, rdU_e, rdU_n, rdLW, clI, clR, clC, clD, clW, clV, clN_e, clN_n, clL_e, clL_n] <;> first | assumption | rfl | omega)) rfl) (fun M20 h20 => ?_)
      subst h20
      refine x_aload_n dX1_feed_23 rfl rfl ?_
      refine x_iload_n dX1_feed_24 rfl rfl ?_
      refine g_callN (vs := [_, _]) (d' := d - 1) rfl (s_X1_four (by omega) hC (by omega)) dX1_feed_25 kX1_126 (by omega) (by decide) rfl (Nat.le_of_ble_eq_true rfl) (rcv_o (by first | assumption | first | assumption | (simp (disch := omega) only [shI, shR, shL, shC, shD, shW, sh_V, shN_e, shN_n, crI, crL, crC, crW, crV, crR_e, crR_n, crN_e, crN_n, ciR, ciL, ciD, ciN_e, ciN_n, rdI_e, rdI_n, rdC_i, rdC_o, rdW, rdU_e, rdU_n, rdLW, clI, clR, clC, clD, clW, clV, clN_e, clN_n, clL_e, clL_n]; done) | (simp (disch := omega) only [shI, shR, shL, shC, shD, shW, sh_V, shN_e, shN_n, crI, crL, crC, crW, crV, crR_e, crR_n, crN_e, crN_n, ciR, ciL, ciD, ciN_e, ciN_n, rdI_e, rdI_n, rdC_i, rdC_o, rdW, rdU_e, rdU_n, rdLW, clI, clR, clC, clD, clW, clV, clN_e, clN_n, clL_e, clL_n] <;> first | assumption | rfl | omega)) rfl) (fun M25 h25 => ?_)
      subst h25
      refine x_aload_n dX1_feed_28 rfl rfl ?_
      refine x_iload_n dX1_feed_29 rfl rfl ?_
      refine g_callN (vs := [_, _]) (d' := d - 1) rfl (s_X1_four (by omega) hC (by omega)) dX1_feed_30 kX1_126 (by omega) (by decide) rfl (Nat.le_of_ble_eq_true rfl) (rcv_o (by first | assumption | first | assumption | (simp (disch := omega) only [shI, shR, shL, shC, shD, shW, sh_V, shN_e, shN_n, crI, crL, crC, crW, crV, crR_e, crR_n, crN_e, crN_n, ciR, ciL, ciD, ciN_e, ciN_n, rdI_e, rdI_n, rdC_i, rdC_o, rdW, rdU_e, rdU_n, rdLW, clI, clR, clC, clD, clW, clV, clN_e, clN_n, clL_e, clL_n]; done) | (simp (disch := omega) only [shI, shR, shL, shC, shD, shW, sh_V, shN_e, shN_n, crI, crL, crC, crW, crV, crR_e, crR_n, crN_e, crN_n, ciR, ciL, ciD, ciN_e, ciN_n, rdI_e, rdI_n, rdC_i, rdC_o, rdW, rdU_e, rdU_n, rdLW, clI, clR, clC, clD, clW, clV, clN_e, clN_n, clL_e, clL_n] <;> first | assumption | rfl | omega)) rfl) (fun M30 h30 => ?_)
      subst h30
      refine x_aload_n dX1_feed_33 rfl rfl ?_
      refine x_iload dX1_feed_34 rfl ?_
      refine g_callN (vs := [_, _]) (d' := d - 1) rfl (s_X1_four (by omega) hC (by omega)) dX1_feed_36 kX1_126 (by omega) (by decide) rfl (Nat.le_of_ble_eq_true rfl) (rcv_o (by first | assumption | first | assumption | (simp (disch := omega) only [shI, shR, shL, shC, shD, shW, sh_V, shN_e, shN_n, crI, crL, crC, crW, crV, crR_e, crR_n, crN_e, crN_n, ciR, ciL, ciD, ciN_e, ciN_n, rdI_e, rdI_n, rdC_i, rdC_o, rdW, rdU_e, rdU_n, rdLW, clI, clR, clC, clD, clW, clV, clN_e, clN_n, clL_e, clL_n]; done) | (simp (disch := omega) only [shI, shR, shL, shC, shD, shW, sh_V, shN_e, shN_n, crI, crL, crC, crW, crV, crR_e, crR_n, crN_e, crN_n, ciR, ciL, ciD, ciN_e, ciN_n, rdI_e, rdI_n, rdC_i, rdC_o, rdW, rdU_e, rdU_n, rdLW, clI, clR, clC, clD, clW, clV, clN_e, clN_n, clL_e, clL_n] <;> first | assumption | rfl | omega)) rfl) (fun M36 h36 => ?_)
      subst h36
      refine x_aload_n dX1_feed_39 rfl rfl ?_
      refine x_iload dX1_feed_40 rfl ?_
      refine g_callN (vs := [_, _]) (d' := d - 1) rfl (s_X1_four (by omega) hC (by omega)) dX1_feed_42 kX1_126 (by omega) (by decide) rfl (Nat.le_of_ble_eq_true rfl) (rcv_o (by first | assumption | first | assumption | (simp (disch := omega) only [shI, shR, shL, shC, shD, shW, sh_V, shN_e, shN_n, crI, crL, crC, crW, crV, crR_e, crR_n, crN_e, crN_n, ciR, ciL, ciD, ciN_e, ciN_n, rdI_e, rdI_n, rdC_i, rdC_o, rdW, rdU_e, rdU_n, rdLW, clI, clR, clC, clD, clW, clV, clN_e, clN_n, clL_e, clL_n]; done) | (simp (disch := omega) only [shI, shR, shL, shC, shD, shW, sh_V, shN_e, shN_n, crI, crL, crC, crW, crV, crR_e, crR_n, crN_e, crN_n, ciR, ciL, ciD, ciN_e, ciN_n, rdI_e, rdI_n, rdC_i, rdC_o, rdW, rdU_e, rdU_n, rdLW, clI, clR, clC, clD, clW, clV, clN_e, clN_n, clL_e, clL_n] <;> first | assumption | rfl | omega)) rfl) (fun M42 h42 => ?_)
      subst h42
      refine x_aload_n dX1_feed_45 rfl rfl ?_
      refine g_getR (kI := 0) rfl dX1_feed_46 fX1_15_1 (by first | assumption | first | assumption | (simp (disch := omega) only [shI, shR, shL, shC, shD, shW, sh_V, shN_e, shN_n, crI, crL, crC, crW, crV, crR_e, crR_n, crN_e, crN_n, ciR, ciL, ciD, ciN_e, ciN_n, rdI_e, rdI_n, rdC_i, rdC_o, rdW, rdU_e, rdU_n, rdLW, clI, clR, clC, clD, clW, clV, clN_e, clN_n, clL_e, clL_n]; done) | (simp (disch := omega) only [shI, shR, shL, shC, shD, shW, sh_V, shN_e, shN_n, crI, crL, crC, crW, crV, crR_e, crR_n, crN_e, crN_n, ciR, ciL, ciD, ciN_e, ciN_n, rdI_e, rdI_n, rdC_i, rdC_o, rdW, rdU_e, rdU_n, rdLW, clI, clR, clC, clD, clW, clV, clN_e, clN_n, clL_e, clL_n] <;> first | assumption | rfl | omega)) (by first | assumption | first | assumption | (simp (disch := omega) only [shI, shR, shL, shC, shD, shW, sh_V, shN_e, shN_n, crI, crL, crC, crW, crV, crR_e, crR_n, crN_e, crN_n, ciR, ciL, ciD, ciN_e, ciN_n, rdI_e, rdI_n, rdC_i, rdC_o, rdW, rdU_e, rdU_n, rdLW, clI, clR, clC, clD, clW, clV, clN_e, clN_n, clL_e, clL_n]; done) | (simp (disch := omega) only [shI, shR, shL, shC, shD, shW, sh_V, shN_e, shN_n, crI, crL, crC, crW, crV, crR_e, crR_n, crN_e, crN_n, ciR, ciL, ciD, ciN_e, ciN_n, rdI_e, rdI_n, rdC_i, rdC_o, rdW, rdU_e, rdU_n, rdLW, clI, clR, clC, clD, clW, clV, clN_e, clN_n, clL_e, clL_n] <;> first | assumption | rfl | omega)) ?_
      refine g_getI (kI := 7) rfl dX1_feed_49 fX1_123_2 (by first | assumption | first | assumption | (simp (disch := omega) only [shI, shR, shL, shC, shD, shW, sh_V, shN_e, shN_n, crI, crL, crC, crW, crV, crR_e, crR_n, crN_e, crN_n, ciR, ciL, ciD, ciN_e, ciN_n, rdI_e, rdI_n, rdC_i, rdC_o, rdW, rdU_e, rdU_n, rdLW, clI, clR, clC, clD, clW, clV, clN_e, clN_n, clL_e, clL_n]; done) | (simp (disch := omega) only [shI, shR, shL, shC, shD, shW, sh_V, shN_e, shN_n, crI, crL, crC, crW, crV, crR_e, crR_n, crN_e, crN_n, ciR, ciL, ciD, ciN_e, ciN_n, rdI_e, rdI_n, rdC_i, rdC_o, rdW, rdU_e, rdU_n, rdLW, clI, clR, clC, clD, clW, clV, clN_e, clN_n, clL_e, clL_n] <;> first | assumption | rfl | omega)) ?_
      try simp (disch := omega) only [rdI_e, rdI_n, rdC_i, rdC_o, rdW, rdR, rdU_e, rdU_n, rdLW, Int.add_zero, tpM_s]
      refine x_ireturn rfl dX1_feed_52 ?_
      refine hQ _ _ ⟨_, rfl, fun q => absurd q hz, fun _ => ⟨by omega, ?_⟩⟩
      rw [tapF_feed]
      exact hC.rd (g := mci (tpM M (feedT tp sz a b c op e 20) (sz + 4 + 4 + 4 + 4 + 4))) (fun b k q1 q2 q3 => tpM_o q2 (by omega)) tpM_f (tpM_s.trans (by omega)) (by omega) ((tpM_o (by omega) (by omega)).trans hfa)
    · omega
end X1

