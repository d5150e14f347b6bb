/-! constructors: the wrong, the reader -/
section INI
variable {G : GW} {d : Nat} {M M1 : Mem} {a : Int}
/-- only references of a are others -/
def RfA (M M1 : Mem) (a : Int) : Prop := msh M1 = msh M ∧ mci M1 = mci M ∧ mcl M1 = mcl M ∧ mnx M1 = mnx M ∧ mns M1 = mns M ∧ ∀ b k, ¬ b = a → mcr M1 b k = mcr M b k
theorem any_st {b n : Int} (h0 : b < 0) (hs : msh M b = some (99, n)) : anyR G M "java/lang/String" b := fun s H hW hR => by
  have h := (hR.old h0).1
  exact any_str (G := G) (M := M) h0 (h.symm.trans hs) s H hW hR
theorem s_J0_init_2 (hd : 10 ≤ d) (h0 : 0 ≤ a) (hs : msh M a = some (7, 0)) : CS G d mJ0_init_2 [dR a, dN, dN, dI 0, dI 0] M (postN fun M1 => RfA M M1 a) := by
  refine CS.mkFQ (by decide +kernel) rfl (Nat.le_of_ble_eq_true rfl) fun Q hQ => ?_
  refine x_aload_n dJ0_init_2_0 rfl rfl ?_
  refine x_objInit (by omega) kJ0_1 (by omega) (Nat.le_of_ble_eq_true rfl) dJ0_init_2_1 ?_
  refine x_aload_n dJ0_init_2_4 rfl rfl ?_
  refine x_aload_n dJ0_init_2_5 rfl rfl ?_
  refine g_putR (kI := 0) rfl dJ0_init_2_6 fJ0_7_7 (by first | assumption | first | assumption | (simp (disch := omega) only [shI, shR, shL, shC, shD, shW, sh_V, shN_e, shN_n, crI, crL, crC, crW, crV, crR_e, crR_n, crN_e, crN_n, ciR, ciL, ciD, ciN_e, ciN_n, rdI_e, rdI_n, rdC_i, rdC_o, rdW, rdU_e, rdU_n, rdLW, clI, clR, clC, clD, clW, clV, clN_e, clN_n, clL_e, clL_n]; done) | (simp (disch := omega) only [shI, shR, shL, shC, shD, shW, sh_V, shN_e, shN_n, crI, crL, crC, crW, crV, crR_e, crR_n, crN_e, crN_n, ciR, ciL, ciD, ciN_e, ciN_n, rdI_e, rdI_n, rdC_i, rdC_o, rdW, rdU_e, rdU_n, rdLW, clI, clR, clC, clD, clW, clV, clN_e, clN_n, clL_e, clL_n] <;> first | assumption | rfl | omega)) ?_
  refine x_aload_n dJ0_init_2_9 rfl rfl ?_
  refine x_gets (v := dR (-3)) (List.mem_of_getElem? (i := 3) rfl) (by first | exact trivial | (show i32 1; unfold i32; omega)) (Or.inl q454) dJ0_init_2_10 ?_
  refine g_putR (kI := 1) rfl dJ0_init_2_13 fJ0_17_7 (by first | assumption | first | assumption | (simp (disch := omega) only [shI, shR, shL, shC, shD, shW, sh_V, shN_e, shN_n, crI, crL, crC, crW, crV, crR_e, crR_n, crN_e, crN_n, ciR, ciL, ciD, ciN_e, ciN_n, rdI_e, rdI_n, rdC_i, rdC_o, rdW, rdU_e, rdU_n, rdLW, clI, clR, clC, clD, clW, clV, clN_e, clN_n, clL_e, clL_n]; done) | (simp (disch := omega) only [shI, shR, shL, shC, shD, shW, sh_V, shN_e, shN_n, crI, crL, crC, crW, crV, crR_e, crR_n, crN_e, crN_n, ciR, ciL, ciD, ciN_e, ciN_n, rdI_e, rdI_n, rdC_i, rdC_o, rdW, rdU_e, rdU_n, rdLW, clI, clR, clC, clD, clW, clV, clN_e, clN_n, clL_e, clL_n] <;> first | assumption | rfl | omega)) ?_
  refine x_aload_n dJ0_init_2_16 rfl rfl ?_
  refine x_gets (v := dR (-4)) (List.mem_of_getElem? (i := 4) rfl) (by first | exact trivial | (show i32 1; unfold i32; omega)) (Or.inl q456) dJ0_init_2_17 ?_
  refine g_putR (kI := 2) rfl dJ0_init_2_20 fJ0_24_7 (by first | assumption | first | assumption | (simp (disch := omega) only [shI, shR, shL, shC, shD, shW, sh_V, shN_e, shN_n, crI, crL, crC, crW, crV, crR_e, crR_n, crN_e, crN_n, ciR, ciL, ciD, ciN_e, ciN_n, rdI_e, rdI_n, rdC_i, rdC_o, rdW, rdU_e, rdU_n, rdLW, clI, clR, clC, clD, clW, clV, clN_e, clN_n, clL_e, clL_n]; done) | (simp (disch := omega) only [shI, shR, shL, shC, shD, shW, sh_V, shN_e, shN_n, crI, crL, crC, crW, crV, crR_e, crR_n, crN_e, crN_n, ciR, ciL, ciD, ciN_e, ciN_n, rdI_e, rdI_n, rdC_i, rdC_o, rdW, rdU_e, rdU_n, rdLW, clI, clR, clC, clD, clW, clV, clN_e, clN_n, clL_e, clL_n] <;> first | assumption | rfl | omega)) ?_
  refine x_iload dJ0_init_2_23 rfl ?_
  refine x_if_eq (tgt := 36) dJ0_init_2_25 (by decide) (fun h25 => ?_) (fun h25 => ?_)
  · refine x_aload_n dJ0_init_2_36 rfl rfl ?_
    refine x_null dJ0_init_2_37 ?_
    refine g_putR (kI := 1) rfl dJ0_init_2_38 fJ0_17_7 (by first | assumption | first | assumption | (simp (disch := omega) only [shI, shR, shL, shC, shD, shW, sh_V, shN_e, shN_n, crI, crL, crC, crW, crV, crR_e, crR_n, crN_e, crN_n, ciR, ciL, ciD, ciN_e, ciN_n, rdI_e, rdI_n, rdC_i, rdC_o, rdW, rdU_e, rdU_n, rdLW, clI, clR, clC, clD, clW, clV, clN_e, clN_n, clL_e, clL_n]; done) | (simp (disch := omega) only [shI, shR, shL, shC, shD, shW, sh_V, shN_e, shN_n, crI, crL, crC, crW, crV, crR_e, crR_n, crN_e, crN_n, ciR, ciL, ciD, ciN_e, ciN_n, rdI_e, rdI_n, rdC_i, rdC_o, rdW, rdU_e, rdU_n, rdLW, clI, clR, clC, clD, clW, clV, clN_e, clN_n, clL_e, clL_n] <;> first | assumption | rfl | omega)) ?_
    refine x_aload_n dJ0_init_2_41 rfl rfl ?_
    refine x_aload_n dJ0_init_2_42 rfl rfl ?_
    refine g_putR (kI := 3) rfl dJ0_init_2_43 fJ0_31_7 (by first | assumption | first | assumption | (simp (disch := omega) only [shI, shR, shL, shC, shD, shW, sh_V, shN_e, shN_n, crI, crL, crC, crW, crV, crR_e, crR_n, crN_e, crN_n, ciR, ciL, ciD, ciN_e, ciN_n, rdI_e, rdI_n, rdC_i, rdC_o, rdW, rdU_e, rdU_n, rdLW, clI, clR, clC, clD, clW, clV, clN_e, clN_n, clL_e, clL_n]; done) | (simp (disch := omega) only [shI, shR, shL, shC, shD, shW, sh_V, shN_e, shN_n, crI, crL, crC, crW, crV, crR_e, crR_n, crN_e, crN_n, ciR, ciL, ciD, ciN_e, ciN_n, rdI_e, rdI_n, rdC_i, rdC_o, rdW, rdU_e, rdU_n, rdLW, clI, clR, clC, clD, clW, clV, clN_e, clN_n, clL_e, clL_n] <;> first | assumption | rfl | omega)) ?_
    refine x_aload_n dJ0_init_2_46 rfl rfl ?_
    refine x_aload_n dJ0_init_2_47 rfl rfl ?_
    refine g_putR (kI := 0) rfl dJ0_init_2_48 fJ0_7_7 (by first | assumption | first | assumption | (simp (disch := omega) only [shI, shR, shL, shC, shD, shW, sh_V, shN_e, shN_n, crI, crL, crC, crW, crV, crR_e, crR_n, crN_e, crN_n, ciR, ciL, ciD, ciN_e, ciN_n, rdI_e, rdI_n, rdC_i, rdC_o, rdW, rdU_e, rdU_n, rdLW, clI, clR, clC, clD, clW, clV, clN_e, clN_n, clL_e, clL_n]; done) | (simp (disch := omega) only [shI, shR, shL, shC, shD, shW, sh_V, shN_e, shN_n, crI, crL, crC, crW, crV, crR_e, crR_n, crN_e, crN_n, ciR, ciL, ciD, ciN_e, ciN_n, rdI_e, rdI_n, rdC_i, rdC_o, rdW, rdU_e, rdU_n, rdLW, clI, clR, clC, clD, clW, clV, clN_e, clN_n, clL_e, clL_n] <;> first | assumption | rfl | omega)) ?_
    refine x_iload_n dJ0_init_2_51 rfl rfl ?_
    refine x_if_ne (tgt := 60) dJ0_init_2_52 (by decide) (fun h52 => ?_) (fun h52 => ?_)
    · simp at h52
    · refine x_aload_n dJ0_init_2_55 rfl rfl ?_
      refine x_null dJ0_init_2_56 ?_
      refine g_putR (kI := 2) rfl dJ0_init_2_57 fJ0_24_7 (by first | assumption | first | assumption | (simp (disch := omega) only [shI, shR, shL, shC, shD, shW, sh_V, shN_e, shN_n, crI, crL, crC, crW, crV, crR_e, crR_n, crN_e, crN_n, ciR, ciL, ciD, ciN_e, ciN_n, rdI_e, rdI_n, rdC_i, rdC_o, rdW, rdU_e, rdU_n, rdLW, clI, clR, clC, clD, clW, clV, clN_e, clN_n, clL_e, clL_n]; done) | (simp (disch := omega) only [shI, shR, shL, shC, shD, shW, sh_V, shN_e, shN_n, crI, crL, crC, crW, crV, crR_e, crR_n, crN_e, crN_n, ciR, ciL, ciD, ciN_e, ciN_n, rdI_e, rdI_n, rdC_i, rdC_o, rdW, rdU_e, rdU_n, rdLW, clI, clR, clC, clD, clW, clV, clN_e, clN_n, clL_e, clL_n] <;> first | assumption | rfl | omega)) ?_
      refine x_vreturn rfl dJ0_init_2_60 ?_
      refine hQ _ _ ⟨rfl, rfl, rfl, rfl, rfl, rfl, fun b k q => ?_⟩
      exact (crR_n (by omega)).trans ((crR_n (by omega)).trans ((crR_n (by omega)).trans ((crR_n (by omega)).trans ((crR_n (by omega)).trans ((crR_n (by omega)).trans (crR_n (by omega)))))))
  · simp at h25
theorem s_J1_init (hd : 12 ≤ d) (h0 : 0 ≤ a) (hs : msh M a = some (7, 0)) : CS G d mJ1_init [dR a, dN, dN, dI 0, dI 0] M (postN fun M1 => RfA M M1 a) := by
  refine CS.mkFQ (by decide +kernel) rfl (Nat.le_of_ble_eq_true rfl) fun Q hQ => ?_
  refine x_aload_n dJ1_init_0 rfl rfl ?_
  refine x_aload_n dJ1_init_1 rfl rfl ?_
  refine x_aload_n dJ1_init_2 rfl rfl ?_
  refine x_iload_n dJ1_init_3 rfl rfl ?_
  refine x_iload dJ1_init_4 rfl ?_
  refine g_callN (vs := [_, _, _, _, _]) (d' := d - 1) rfl (s_J0_init_2 (by omega) h0 hs) dJ1_init_6 kJ1_16 (by omega) (by decide) rfl (Nat.le_of_ble_eq_true rfl) (rcv_o (by first | assumption | first | assumption | (simp (disch := omega) only [shI, shR, shL, shC, shD, shW, sh_V, shN_e, shN_n, crI, crL, crC, crW, crV, crR_e, crR_n, crN_e, crN_n, ciR, ciL, ciD, ciN_e, ciN_n, rdI_e, rdI_n, rdC_i, rdC_o, rdW, rdU_e, rdU_n, rdLW, clI, clR, clC, clD, clW, clV, clN_e, clN_n, clL_e, clL_n]; done) | (simp (disch := omega) only [shI, shR, shL, shC, shD, shW, sh_V, shN_e, shN_n, crI, crL, crC, crW, crV, crR_e, crR_n, crN_e, crN_n, ciR, ciL, ciD, ciN_e, ciN_n, rdI_e, rdI_n, rdC_i, rdC_o, rdW, rdU_e, rdU_n, rdLW, clI, clR, clC, clD, clW, clV, clN_e, clN_n, clL_e, clL_n] <;> first | assumption | rfl | omega)) rfl) (fun M6 h6 => ?_)
  refine x_vreturn rfl dJ1_init_9 ?_
  exact hQ _ _ ⟨rfl, h6⟩
theorem s_J2_init (hd : 14 ≤ d) (h0 : 0 ≤ a) (hs : msh M a = some (7, 0)) : CS G d mJ2_init [dR a, dN, dN, dI 0, dI 0] M (postN fun M1 => RfA M M1 a) := by
  refine CS.mkFQ (by decide +kernel) rfl (Nat.le_of_ble_eq_true rfl) fun Q hQ => ?_
  refine x_aload_n dJ2_init_0 rfl rfl ?_
  refine x_aload_n dJ2_init_1 rfl rfl ?_
  refine x_aload_n dJ2_init_2 rfl rfl ?_
  refine x_iload_n dJ2_init_3 rfl rfl ?_
  refine x_iload dJ2_init_4 rfl ?_
  refine g_callN (vs := [_, _, _, _, _]) (d' := d - 1) rfl (s_J1_init (by omega) h0 hs) dJ2_init_6 kJ2_16 (by omega) (by decide) rfl (Nat.le_of_ble_eq_true rfl) (rcv_o (by first | assumption | first | assumption | (simp (disch := omega) only [shI, shR, shL, shC, shD, shW, sh_V, shN_e, shN_n, crI, crL, crC, crW, crV, crR_e, crR_n, crN_e, crN_n, ciR, ciL, ciD, ciN_e, ciN_n, rdI_e, rdI_n, rdC_i, rdC_o, rdW, rdU_e, rdU_n, rdLW, clI, clR, clC, clD, clW, clV, clN_e, clN_n, clL_e, clL_n]; done) | (simp (disch := omega) only [shI, shR, shL, shC, shD, shW, sh_V, shN_e, shN_n, crI, crL, crC, crW, crV, crR_e, crR_n, crN_e, crN_n, ciR, ciL, ciD, ciN_e, ciN_n, rdI_e, rdI_n, rdC_i, rdC_o, rdW, rdU_e, rdU_n, rdLW, clI, clR, clC, clD, clW, clV, clN_e, clN_n, clL_e, clL_n] <;> first | assumption | rfl | omega)) rfl) (fun M6 h6 => ?_)
  refine x_vreturn rfl dJ2_init_9 ?_
  exact hQ _ _ ⟨rfl, h6⟩
theorem s_X7_init (hd : 16 ≤ d) (h0 : 0 ≤ a) (hs : msh M a = some (7, 0)) : CS G d mX7_init [dR a] M (postN fun M1 => RfA M M1 a) := by
  refine CS.mkQ (by decide) (Nat.le_of_ble_eq_true rfl) fun Q hQ => ?_
  refine x_aload_n dX7_init_0 rfl rfl ?_
  refine x_null dX7_init_1 ?_
  refine x_null dX7_init_2 ?_
  refine x_iconst dX7_init_3 rfl ?_
  refine x_iconst dX7_init_4 rfl ?_
  refine g_callN (vs := [_, _, _, _, _]) (d' := d - 1) rfl (s_J2_init (by omega) h0 hs) dX7_init_5 kX7_1 (by omega) (by decide) rfl (Nat.le_of_ble_eq_true rfl) (rcv_o (by first | assumption | first | assumption | (simp (disch := omega) only [shI, shR, shL, shC, shD, shW, sh_V, shN_e, shN_n, crI, crL, crC, crW, crV, crR_e, crR_n, crN_e, crN_n, ciR, ciL, ciD, ciN_e, ciN_n, rdI_e, rdI_n, rdC_i, rdC_o, rdW, rdU_e, rdU_n, rdLW, clI, clR, clC, clD, clW, clV, clN_e, clN_n, clL_e, clL_n]; done) | (simp (disch := omega) only [shI, shR, shL, shC, shD, shW, sh_V, shN_e, shN_n, crI, crL, crC, crW, crV, crR_e, crR_n, crN_e, crN_n, ciR, ciL, ciD, ciN_e, ciN_n, rdI_e, rdI_n, rdC_i, rdC_o, rdW, rdU_e, rdU_n, rdLW, clI, clR, clC, clD, clW, clV, clN_e, clN_n, clL_e, clL_n] <;> first | assumption | rfl | omega)) rfl) (fun M5 h5 => ?_)
  refine x_vreturn rfl dX7_init_8 ?_
  exact hQ _ _ ⟨rfl, h5⟩
theorem IniS.kp {M M1 : Mem} {p : Int} {P : Int → Prop} (h : IniS M p) (hk : Kp P M M1) (hp : ∀ b, p ≤ b → b ≤ p + 44 → P b) : IniS M1 p := by
  obtain ⟨h1, h2, h3, h4, h5, h6⟩ := h
  have e : ∀ b, p ≤ b → b ≤ p + 44 → ∀ k, mci M1 b k = mci M b k := fun b x y => (hk b (hp b x y)).2.1
  exact ⟨fun k => (e _ (by omega) (by omega) k).trans (h1 k), fun k => ((hk _ (hp _ (by omega) (by omega))).2.2.1 k).trans (h2 k), fun k => ⟨(e _ (by omega) (by omega) k).trans (h3 k).1, (e _ (by omega) (by omega) k).trans (h3 k).2.1, (e _ (by omega) (by omega) k).trans (h3 k).2.2.1, (e _ (by omega) (by omega) k).trans (h3 k).2.2.2⟩, fun k => ⟨(e _ (by omega) (by omega) k).trans (h4 k).1, (e _ (by omega) (by omega) k).trans (h4 k).2.1, (e _ (by omega) (by omega) k).trans (h4 k).2.2⟩, fun k => ⟨(e _ (by omega) (by omega) k).trans (h5 k).1, (e _ (by omega) (by omega) k).trans (h5 k).2.1, (e _ (by omega) (by omega) k).trans (h5 k).2.2⟩, fun j j0 j1 => (h6 j j0 j1).kp hk fun b x y => hp b (by omega) (by omega)⟩
theorem s_X2_initW (hd : 20 ≤ d) {Q : Res → Mem → Prop} (hs : msh M 2 = some (2, 0)) (hx : (mnx M : Int) = 4) (hT : TxS M) (hk : ∀ M1, (∀ b, ¬ b = 2 → ¬ b = 4 → msh M1 b = msh M b ∧ (∀ k, mci M1 b k = mci M b k) ∧ (∀ k, mcr M1 b k = mcr M b k) ∧ ∀ k, mcl M1 b k = mcl M b k) → msh M1 2 = some (2, 0) → (∀ k, mci M1 2 k = mci M 2 k) → (∀ k, mcr M1 2 k = if k = 1 then some 4 else mcr M 2 k) → msh M1 4 = some (140, 7) → (∀ k, 0 ≤ k → k < 7 → mcr M1 4 k = some (-(10 + 2 * (0 + k)))) → (mnx M1 : Int) = 5 → mns M1 ≤ mns M + 20 → WP G d mX2_init 58 [some (dR 2)] [] M1 Q) : WP G d mX2_init 13 [some (dR 2)] [] M Q := by
  refine x_aload_n dX2_init_13 rfl rfl ?_
  refine x_bipush dX2_init_14 rfl ?_
  refine x_anewX (x := 4) (by first | (simp only [nxI, nxR, nxL, nxC, nxD, nxW, nxV, nxN]; done) | (simp only [nxI, nxR, nxL, nxC, nxD, nxW, nxV, nxN]; omega) | omega) (t := 140) (by decide) rfl q201 (by omega) (by omega) dX2_init_16 ?_
  refine x_dup dX2_init_19 rfl ?_
  refine x_iconst dX2_init_20 rfl ?_
  refine x_ldcs dX2_init_21 (List.mem_of_getElem? (i := 0) rfl) ?_
  refine x_aast (t := 140) (by decide) rfl (by omega) dX2_init_23 (by first | assumption | first | assumption | (simp (disch := omega) only [shI, shR, shL, shC, shD, shW, sh_V, shN_e, shN_n, crI, crL, crC, crW, crV, crR_e, crR_n, crN_e, crN_n, ciR, ciL, ciD, ciN_e, ciN_n, rdI_e, rdI_n, rdC_i, rdC_o, rdW, rdU_e, rdU_n, rdLW, clI, clR, clC, clD, clW, clV, clN_e, clN_n, clL_e, clL_n]; done) | (simp (disch := omega) only [shI, shR, shL, shC, shD, shW, sh_V, shN_e, shN_n, crI, crL, crC, crW, crV, crR_e, crR_n, crN_e, crN_n, ciR, ciL, ciD, ciN_e, ciN_n, rdI_e, rdI_n, rdC_i, rdC_o, rdW, rdU_e, rdU_n, rdLW, clI, clR, clC, clD, clW, clV, clN_e, clN_n, clL_e, clL_n] <;> first | assumption | rfl | omega)) (by omega) (by omega) (any_st (by omega) (show msh M (-10) = some (99, 0) from (hT 0 (by omega)).2.1)) ?_
  refine x_dup dX2_init_24 rfl ?_
  refine x_iconst dX2_init_25 rfl ?_
  refine x_ldcs dX2_init_26 (List.mem_of_getElem? (i := 1) rfl) ?_
  refine x_aast (t := 140) (by decide) rfl (by omega) dX2_init_28 (by first | assumption | first | assumption | (simp (disch := omega) only [shI, shR, shL, shC, shD, shW, sh_V, shN_e, shN_n, crI, crL, crC, crW, crV, crR_e, crR_n, crN_e, crN_n, ciR, ciL, ciD, ciN_e, ciN_n, rdI_e, rdI_n, rdC_i, rdC_o, rdW, rdU_e, rdU_n, rdLW, clI, clR, clC, clD, clW, clV, clN_e, clN_n, clL_e, clL_n]; done) | (simp (disch := omega) only [shI, shR, shL, shC, shD, shW, sh_V, shN_e, shN_n, crI, crL, crC, crW, crV, crR_e, crR_n, crN_e, crN_n, ciR, ciL, ciD, ciN_e, ciN_n, rdI_e, rdI_n, rdC_i, rdC_o, rdW, rdU_e, rdU_n, rdLW, clI, clR, clC, clD, clW, clV, clN_e, clN_n, clL_e, clL_n] <;> first | assumption | rfl | omega)) (by omega) (by omega) (any_st (by omega) (show msh M (-12) = some (99, 0) from (hT 1 (by omega)).2.1)) ?_
  refine x_dup dX2_init_29 rfl ?_
  refine x_iconst dX2_init_30 rfl ?_
  refine x_ldcs dX2_init_31 (List.mem_of_getElem? (i := 2) rfl) ?_
  refine x_aast (t := 140) (by decide) rfl (by omega) dX2_init_33 (by first | assumption | first | assumption | (simp (disch := omega) only [shI, shR, shL, shC, shD, shW, sh_V, shN_e, shN_n, crI, crL, crC, crW, crV, crR_e, crR_n, crN_e, crN_n, ciR, ciL, ciD, ciN_e, ciN_n, rdI_e, rdI_n, rdC_i, rdC_o, rdW, rdU_e, rdU_n, rdLW, clI, clR, clC, clD, clW, clV, clN_e, clN_n, clL_e, clL_n]; done) | (simp (disch := omega) only [shI, shR, shL, shC, shD, shW, sh_V, shN_e, shN_n, crI, crL, crC, crW, crV, crR_e, crR_n, crN_e, crN_n, ciR, ciL, ciD, ciN_e, ciN_n, rdI_e, rdI_n, rdC_i, rdC_o, rdW, rdU_e, rdU_n, rdLW, clI, clR, clC, clD, clW, clV, clN_e, clN_n, clL_e, clL_n] <;> first | assumption | rfl | omega)) (by omega) (by omega) (any_st (by omega) (show msh M (-14) = some (99, 0) from (hT 2 (by omega)).2.1)) ?_
  refine x_dup dX2_init_34 rfl ?_
  refine x_iconst dX2_init_35 rfl ?_
  refine x_ldcs dX2_init_36 (List.mem_of_getElem? (i := 3) rfl) ?_
  refine x_aast (t := 140) (by decide) rfl (by omega) dX2_init_38 (by first | assumption | first | assumption | (simp (disch := omega) only [shI, shR, shL, shC, shD, shW, sh_V, shN_e, shN_n, crI, crL, crC, crW, crV, crR_e, crR_n, crN_e, crN_n, ciR, ciL, ciD, ciN_e, ciN_n, rdI_e, rdI_n, rdC_i, rdC_o, rdW, rdU_e, rdU_n, rdLW, clI, clR, clC, clD, clW, clV, clN_e, clN_n, clL_e, clL_n]; done) | (simp (disch := omega) only [shI, shR, shL, shC, shD, shW, sh_V, shN_e, shN_n, crI, crL, crC, crW, crV, crR_e, crR_n, crN_e, crN_n, ciR, ciL, ciD, ciN_e, ciN_n, rdI_e, rdI_n, rdC_i, rdC_o, rdW, rdU_e, rdU_n, rdLW, clI, clR, clC, clD, clW, clV, clN_e, clN_n, clL_e, clL_n] <;> first | assumption | rfl | omega)) (by omega) (by omega) (any_st (by omega) (show msh M (-16) = some (99, 0) from (hT 3 (by omega)).2.1)) ?_
  refine x_dup dX2_init_39 rfl ?_
  refine x_iconst dX2_init_40 rfl ?_
  refine x_ldcs dX2_init_41 (List.mem_of_getElem? (i := 4) rfl) ?_
  refine x_aast (t := 140) (by decide) rfl (by omega) dX2_init_43 (by first | assumption | first | assumption | (simp (disch := omega) only [shI, shR, shL, shC, shD, shW, sh_V, shN_e, shN_n, crI, crL, crC, crW, crV, crR_e, crR_n, crN_e, crN_n, ciR, ciL, ciD, ciN_e, ciN_n, rdI_e, rdI_n, rdC_i, rdC_o, rdW, rdU_e, rdU_n, rdLW, clI, clR, clC, clD, clW, clV, clN_e, clN_n, clL_e, clL_n]; done) | (simp (disch := omega) only [shI, shR, shL, shC, shD, shW, sh_V, shN_e, shN_n, crI, crL, crC, crW, crV, crR_e, crR_n, crN_e, crN_n, ciR, ciL, ciD, ciN_e, ciN_n, rdI_e, rdI_n, rdC_i, rdC_o, rdW, rdU_e, rdU_n, rdLW, clI, clR, clC, clD, clW, clV, clN_e, clN_n, clL_e, clL_n] <;> first | assumption | rfl | omega)) (by omega) (by omega) (any_st (by omega) (show msh M (-18) = some (99, 0) from (hT 4 (by omega)).2.1)) ?_
  refine x_dup dX2_init_44 rfl ?_
  refine x_iconst dX2_init_45 rfl ?_
  refine x_ldcs dX2_init_46 (List.mem_of_getElem? (i := 5) rfl) ?_
  refine x_aast (t := 140) (by decide) rfl (by omega) dX2_init_48 (by first | assumption | first | assumption | (simp (disch := omega) only [shI, shR, shL, shC, shD, shW, sh_V, shN_e, shN_n, crI, crL, crC, crW, crV, crR_e, crR_n, crN_e, crN_n, ciR, ciL, ciD, ciN_e, ciN_n, rdI_e, rdI_n, rdC_i, rdC_o, rdW, rdU_e, rdU_n, rdLW, clI, clR, clC, clD, clW, clV, clN_e, clN_n, clL_e, clL_n]; done) | (simp (disch := omega) only [shI, shR, shL, shC, shD, shW, sh_V, shN_e, shN_n, crI, crL, crC, crW, crV, crR_e, crR_n, crN_e, crN_n, ciR, ciL, ciD, ciN_e, ciN_n, rdI_e, rdI_n, rdC_i, rdC_o, rdW, rdU_e, rdU_n, rdLW, clI, clR, clC, clD, clW, clV, clN_e, clN_n, clL_e, clL_n] <;> first | assumption | rfl | omega)) (by omega) (by omega) (any_st (by omega) (show msh M (-20) = some (99, 0) from (hT 5 (by omega)).2.1)) ?_
  refine x_dup dX2_init_49 rfl ?_
  refine x_bipush dX2_init_50 rfl ?_
  refine x_ldcs dX2_init_52 (List.mem_of_getElem? (i := 6) rfl) ?_
  refine x_aast (t := 140) (by decide) rfl (by omega) dX2_init_54 (by first | assumption | first | assumption | (simp (disch := omega) only [shI, shR, shL, shC, shD, shW, sh_V, shN_e, shN_n, crI, crL, crC, crW, crV, crR_e, crR_n, crN_e, crN_n, ciR, ciL, ciD, ciN_e, ciN_n, rdI_e, rdI_n, rdC_i, rdC_o, rdW, rdU_e, rdU_n, rdLW, clI, clR, clC, clD, clW, clV, clN_e, clN_n, clL_e, clL_n]; done) | (simp (disch := omega) only [shI, shR, shL, shC, shD, shW, sh_V, shN_e, shN_n, crI, crL, crC, crW, crV, crR_e, crR_n, crN_e, crN_n, ciR, ciL, ciD, ciN_e, ciN_n, rdI_e, rdI_n, rdC_i, rdC_o, rdW, rdU_e, rdU_n, rdLW, clI, clR, clC, clD, clW, clV, clN_e, clN_n, clL_e, clL_n] <;> first | assumption | rfl | omega)) (by omega) (by omega) (any_st (by omega) (show msh M (-22) = some (99, 0) from (hT 6 (by omega)).2.1)) ?_
  refine g_putRF (kI := 1) rfl dX2_init_55 fX2_31_2 ffX2_init_31_2 (by first | assumption | first | assumption | (simp (disch := omega) only [shI, shR, shL, shC, shD, shW, sh_V, shN_e, shN_n, crI, crL, crC, crW, crV, crR_e, crR_n, crN_e, crN_n, ciR, ciL, ciD, ciN_e, ciN_n, rdI_e, rdI_n, rdC_i, rdC_o, rdW, rdU_e, rdU_n, rdLW, clI, clR, clC, clD, clW, clV, clN_e, clN_n, clL_e, clL_n]; done) | (simp (disch := omega) only [shI, shR, shL, shC, shD, shW, sh_V, shN_e, shN_n, crI, crL, crC, crW, crV, crR_e, crR_n, crN_e, crN_n, ciR, ciL, ciD, ciN_e, ciN_n, rdI_e, rdI_n, rdC_i, rdC_o, rdW, rdU_e, rdU_n, rdLW, clI, clR, clC, clD, clW, clV, clN_e, clN_n, clL_e, clL_n] <;> first | assumption | rfl | omega)) ?_
  generalize hA : mR _ 2 1 (some 4) = MA
  have cA : mcr MA 4 0 = some (-10) ∧ mcr MA 4 1 = some (-12) ∧ mcr MA 4 2 = some (-14) ∧ mcr MA 4 3 = some (-16) ∧ mcr MA 4 4 = some (-18) ∧ mcr MA 4 5 = some (-20) ∧ mcr MA 4 6 = some (-22) := by
    subst hA
    exact ⟨by simp (disch := omega) only [shI, shR, shL, shC, shD, shW, sh_V, shN_e, shN_n, crI, crL, crC, crW, crV, crR_e, crR_n, crN_e, crN_n, ciR, ciL, ciD, ciN_e, ciN_n, rdI_e, rdI_n, rdC_i, rdC_o, rdW, rdU_e, rdU_n, rdLW, clI, clR, clC, clD, clW, clV, clN_e, clN_n, clL_e, clL_n], by simp (disch := omega) only [shI, shR, shL, shC, shD, shW, sh_V, shN_e, shN_n, crI, crL, crC, crW, crV, crR_e, crR_n, crN_e, crN_n, ciR, ciL, ciD, ciN_e, ciN_n, rdI_e, rdI_n, rdC_i, rdC_o, rdW, rdU_e, rdU_n, rdLW, clI, clR, clC, clD, clW, clV, clN_e, clN_n, clL_e, clL_n], by simp (disch := omega) only [shI, shR, shL, shC, shD, shW, sh_V, shN_e, shN_n, crI, crL, crC, crW, crV, crR_e, crR_n, crN_e, crN_n, ciR, ciL, ciD, ciN_e, ciN_n, rdI_e, rdI_n, rdC_i, rdC_o, rdW, rdU_e, rdU_n, rdLW, clI, clR, clC, clD, clW, clV, clN_e, clN_n, clL_e, clL_n], by simp (disch := omega) only [shI, shR, shL, shC, shD, shW, sh_V, shN_e, shN_n, crI, crL, crC, crW, crV, crR_e, crR_n, crN_e, crN_n, ciR, ciL, ciD, ciN_e, ciN_n, rdI_e, rdI_n, rdC_i, rdC_o, rdW, rdU_e, rdU_n, rdLW, clI, clR, clC, clD, clW, clV, clN_e, clN_n, clL_e, clL_n], by simp (disch := omega) only [shI, shR, shL, shC, shD, shW, sh_V, shN_e, shN_n, crI, crL, crC, crW, crV, crR_e, crR_n, crN_e, crN_n, ciR, ciL, ciD, ciN_e, ciN_n, rdI_e, rdI_n, rdC_i, rdC_o, rdW, rdU_e, rdU_n, rdLW, clI, clR, clC, clD, clW, clV, clN_e, clN_n, clL_e, clL_n], by simp (disch := omega) only [shI, shR, shL, shC, shD, shW, sh_V, shN_e, shN_n, crI, crL, crC, crW, crV, crR_e, crR_n, crN_e, crN_n, ciR, ciL, ciD, ciN_e, ciN_n, rdI_e, rdI_n, rdC_i, rdC_o, rdW, rdU_e, rdU_n, rdLW, clI, clR, clC, clD, clW, clV, clN_e, clN_n, clL_e, clL_n], by simp (disch := omega) only [shI, shR, shL, shC, shD, shW, sh_V, shN_e, shN_n, crI, crL, crC, crW, crV, crR_e, crR_n, crN_e, crN_n, ciR, ciL, ciD, ciN_e, ciN_n, rdI_e, rdI_n, rdC_i, rdC_o, rdW, rdU_e, rdU_n, rdLW, clI, clR, clC, clD, clW, clV, clN_e, clN_n, clL_e, clL_n]⟩
  have kA : ∀ b, ¬ b = 2 → ¬ b = 4 → msh MA b = msh M b ∧ (∀ k, mci MA b k = mci M b k) ∧ (∀ k, mcr MA b k = mcr M b k) ∧ ∀ k, mcl MA b k = mcl M b k := fun b b2 b4 => by
    subst hA
    exact ⟨by simp (disch := omega) only [shI, shR, shL, shC, shD, shW, sh_V, shN_e, shN_n, crI, crL, crC, crW, crV, crR_e, crR_n, crN_e, crN_n, ciR, ciL, ciD, ciN_e, ciN_n, rdI_e, rdI_n, rdC_i, rdC_o, rdW, rdU_e, rdU_n, rdLW, clI, clR, clC, clD, clW, clV, clN_e, clN_n, clL_e, clL_n], fun k => by simp (disch := omega) only [shI, shR, shL, shC, shD, shW, sh_V, shN_e, shN_n, crI, crL, crC, crW, crV, crR_e, crR_n, crN_e, crN_n, ciR, ciL, ciD, ciN_e, ciN_n, rdI_e, rdI_n, rdC_i, rdC_o, rdW, rdU_e, rdU_n, rdLW, clI, clR, clC, clD, clW, clV, clN_e, clN_n, clL_e, clL_n], fun k => by simp (disch := omega) only [shI, shR, shL, shC, shD, shW, sh_V, shN_e, shN_n, crI, crL, crC, crW, crV, crR_e, crR_n, crN_e, crN_n, ciR, ciL, ciD, ciN_e, ciN_n, rdI_e, rdI_n, rdC_i, rdC_o, rdW, rdU_e, rdU_n, rdLW, clI, clR, clC, clD, clW, clV, clN_e, clN_n, clL_e, clL_n], fun k => by simp (disch := omega) only [shI, shR, shL, shC, shD, shW, sh_V, shN_e, shN_n, crI, crL, crC, crW, crV, crR_e, crR_n, crN_e, crN_n, ciR, ciL, ciD, ciN_e, ciN_n, rdI_e, rdI_n, rdC_i, rdC_o, rdW, rdU_e, rdU_n, rdLW, clI, clR, clC, clD, clW, clV, clN_e, clN_n, clL_e, clL_n]⟩
  have s2 : msh MA 2 = some (2, 0) := by
    subst hA
    first | assumption | (simp (disch := omega) only [shI, shR, shL, shC, shD, shW, sh_V, shN_e, shN_n, crI, crL, crC, crW, crV, crR_e, crR_n, crN_e, crN_n, ciR, ciL, ciD, ciN_e, ciN_n, rdI_e, rdI_n, rdC_i, rdC_o, rdW, rdU_e, rdU_n, rdLW, clI, clR, clC, clD, clW, clV, clN_e, clN_n, clL_e, clL_n]; done) | (simp (disch := omega) only [shI, shR, shL, shC, shD, shW, sh_V, shN_e, shN_n, crI, crL, crC, crW, crV, crR_e, crR_n, crN_e, crN_n, ciR, ciL, ciD, ciN_e, ciN_n, rdI_e, rdI_n, rdC_i, rdC_o, rdW, rdU_e, rdU_n, rdLW, clI, clR, clC, clD, clW, clV, clN_e, clN_n, clL_e, clL_n] <;> first | assumption | rfl | omega)
  have i2 : ∀ k, mci MA 2 k = mci M 2 k := fun k => by
    subst hA
    simp (disch := omega) only [shI, shR, shL, shC, shD, shW, sh_V, shN_e, shN_n, crI, crL, crC, crW, crV, crR_e, crR_n, crN_e, crN_n, ciR, ciL, ciD, ciN_e, ciN_n, rdI_e, rdI_n, rdC_i, rdC_o, rdW, rdU_e, rdU_n, rdLW, clI, clR, clC, clD, clW, clV, clN_e, clN_n, clL_e, clL_n]
  have r2 : ∀ k, mcr MA 2 k = if k = 1 then some 4 else mcr M 2 k := fun k => by
    subst hA
    by_cases q : k = 1
    · rw [if_pos q]; exact crR_e ⟨rfl, q⟩
    · rw [if_neg q]; simp (disch := omega) only [shI, shR, shL, shC, shD, shW, sh_V, shN_e, shN_n, crI, crL, crC, crW, crV, crR_e, crR_n, crN_e, crN_n, ciR, ciL, ciD, ciN_e, ciN_n, rdI_e, rdI_n, rdC_i, rdC_o, rdW, rdU_e, rdU_n, rdLW, clI, clR, clC, clD, clW, clV, clN_e, clN_n, clL_e, clL_n]
  have s4 : msh MA 4 = some (140, 7) := by
    subst hA
    first | assumption | (simp (disch := omega) only [shI, shR, shL, shC, shD, shW, sh_V, shN_e, shN_n, crI, crL, crC, crW, crV, crR_e, crR_n, crN_e, crN_n, ciR, ciL, ciD, ciN_e, ciN_n, rdI_e, rdI_n, rdC_i, rdC_o, rdW, rdU_e, rdU_n, rdLW, clI, clR, clC, clD, clW, clV, clN_e, clN_n, clL_e, clL_n]; done) | (simp (disch := omega) only [shI, shR, shL, shC, shD, shW, sh_V, shN_e, shN_n, crI, crL, crC, crW, crV, crR_e, crR_n, crN_e, crN_n, ciR, ciL, ciD, ciN_e, ciN_n, rdI_e, rdI_n, rdC_i, rdC_o, rdW, rdU_e, rdU_n, rdLW, clI, clR, clC, clD, clW, clV, clN_e, clN_n, clL_e, clL_n] <;> first | assumption | rfl | omega)
  have nA : (mnx MA : Int) = 5 := by
    subst hA
    first | (simp only [nxI, nxR, nxL, nxC, nxD, nxW, nxV, nxN]; done) | (simp only [nxI, nxR, nxL, nxC, nxD, nxW, nxV, nxN]; omega) | omega
  have zA : mns MA ≤ mns M + 20 := by
    subst hA
    (try simp only [nsI, nsR, nsL, nsC, nsD, nsW, nsV, nsN]); simp
  clear hA
  refine x_fgt (by repeat (first | exact trivial | refine ⟨rfl, ?_⟩)) (hk MA kA s2 i2 r2 s4 (fun k k0 k1 => ?_) nA zA)
  rcases (show k = 0 ∨ k = 1 ∨ k = 2 ∨ k = 3 ∨ k = 4 ∨ k = 5 ∨ k = 6 by omega) with q | q | q | q | q | q | q
  · subst q; exact cA.1
  · subst q; exact cA.2.1
  · subst q; exact cA.2.2.1
  · subst q; exact cA.2.2.2.1
  · subst q; exact cA.2.2.2.2.1
  · subst q; exact cA.2.2.2.2.2.1
  · subst q; exact cA.2.2.2.2.2.2
theorem s_X2_initG (hd : 20 ≤ d) {Q : Res → Mem → Prop} (hs : msh M 2 = some (2, 0)) (hx : (mnx M : Int) = 5) (hT : TxS M) (hk : ∀ M1, (∀ b, ¬ b = 2 → ¬ b = 5 → msh M1 b = msh M b ∧ (∀ k, mci M1 b k = mci M b k) ∧ (∀ k, mcr M1 b k = mcr M b k) ∧ ∀ k, mcl M1 b k = mcl M b k) → msh M1 2 = some (2, 0) → (∀ k, mci M1 2 k = mci M 2 k) → (∀ k, mcr M1 2 k = if k = 2 then some 5 else mcr M 2 k) → msh M1 5 = some (140, 3) → (∀ k, 0 ≤ k → k < 3 → mcr M1 5 k = some (-(10 + 2 * (7 + k)))) → (mnx M1 : Int) = 6 → mns M1 ≤ mns M + 20 → WP G d mX2_init 81 [some (dR 2)] [] M1 Q) : WP G d mX2_init 58 [some (dR 2)] [] M Q := by
  refine x_aload_n dX2_init_58 rfl rfl ?_
  refine x_iconst dX2_init_59 rfl ?_
  refine x_anewX (x := 5) (by first | (simp only [nxI, nxR, nxL, nxC, nxD, nxW, nxV, nxN]; done) | (simp only [nxI, nxR, nxL, nxC, nxD, nxW, nxV, nxN]; omega) | omega) (t := 140) (by decide) rfl q201 (by omega) (by omega) dX2_init_60 ?_
  refine x_dup dX2_init_63 rfl ?_
  refine x_iconst dX2_init_64 rfl ?_
  refine x_ldcs dX2_init_65 (List.mem_of_getElem? (i := 7) rfl) ?_
  refine x_aast (t := 140) (by decide) rfl (by omega) dX2_init_67 (by first | assumption | first | assumption | (simp (disch := omega) only [shI, shR, shL, shC, shD, shW, sh_V, shN_e, shN_n, crI, crL, crC, crW, crV, crR_e, crR_n, crN_e, crN_n, ciR, ciL, ciD, ciN_e, ciN_n, rdI_e, rdI_n, rdC_i, rdC_o, rdW, rdU_e, rdU_n, rdLW, clI, clR, clC, clD, clW, clV, clN_e, clN_n, clL_e, clL_n]; done) | (simp (disch := omega) only [shI, shR, shL, shC, shD, shW, sh_V, shN_e, shN_n, crI, crL, crC, crW, crV, crR_e, crR_n, crN_e, crN_n, ciR, ciL, ciD, ciN_e, ciN_n, rdI_e, rdI_n, rdC_i, rdC_o, rdW, rdU_e, rdU_n, rdLW, clI, clR, clC, clD, clW, clV, clN_e, clN_n, clL_e, clL_n] <;> first | assumption | rfl | omega)) (by omega) (by omega) (any_st (by omega) (show msh M (-24) = some (99, 0) from (hT 7 (by omega)).2.1)) ?_
  refine x_dup dX2_init_68 rfl ?_
  refine x_iconst dX2_init_69 rfl ?_
  refine x_ldcs dX2_init_70 (List.mem_of_getElem? (i := 8) rfl) ?_
  refine x_aast (t := 140) (by decide) rfl (by omega) dX2_init_72 (by first | assumption | first | assumption | (simp (disch := omega) only [shI, shR, shL, shC, shD, shW, sh_V, shN_e, shN_n, crI, crL, crC, crW, crV, crR_e, crR_n, crN_e, crN_n, ciR, ciL, ciD, ciN_e, ciN_n, rdI_e, rdI_n, rdC_i, rdC_o, rdW, rdU_e, rdU_n, rdLW, clI, clR, clC, clD, clW, clV, clN_e, clN_n, clL_e, clL_n]; done) | (simp (disch := omega) only [shI, shR, shL, shC, shD, shW, sh_V, shN_e, shN_n, crI, crL, crC, crW, crV, crR_e, crR_n, crN_e, crN_n, ciR, ciL, ciD, ciN_e, ciN_n, rdI_e, rdI_n, rdC_i, rdC_o, rdW, rdU_e, rdU_n, rdLW, clI, clR, clC, clD, clW, clV, clN_e, clN_n, clL_e, clL_n] <;> first | assumption | rfl | omega)) (by omega) (by omega) (any_st (by omega) (show msh M (-26) = some (99, 0) from (hT 8 (by omega)).2.1)) ?_
  refine x_dup dX2_init_73 rfl ?_
  refine x_iconst dX2_init_74 rfl ?_
  refine x_ldcs dX2_init_75 (List.mem_of_getElem? (i := 9) rfl) ?_
  refine x_aast (t := 140) (by decide) rfl (by omega) dX2_init_77 (by first | assumption | first | assumption | (simp (disch := omega) only [shI, shR, shL, shC, shD, shW, sh_V, shN_e, shN_n, crI, crL, crC, crW, crV, crR_e, crR_n, crN_e, crN_n, ciR, ciL, ciD, ciN_e, ciN_n, rdI_e, rdI_n, rdC_i, rdC_o, rdW, rdU_e, rdU_n, rdLW, clI, clR, clC, clD, clW, clV, clN_e, clN_n, clL_e, clL_n]; done) | (simp (disch := omega) only [shI, shR, shL, shC, shD, shW, sh_V, shN_e, shN_n, crI, crL, crC, crW, crV, crR_e, crR_n, crN_e, crN_n, ciR, ciL, ciD, ciN_e, ciN_n, rdI_e, rdI_n, rdC_i, rdC_o, rdW, rdU_e, rdU_n, rdLW, clI, clR, clC, clD, clW, clV, clN_e, clN_n, clL_e, clL_n] <;> first | assumption | rfl | omega)) (by omega) (by omega) (any_st (by omega) (show msh M (-28) = some (99, 0) from (hT 9 (by omega)).2.1)) ?_
  refine g_putRF (kI := 2) rfl dX2_init_78 fX2_41_2 ffX2_init_41_2 (by first | assumption | first | assumption | (simp (disch := omega) only [shI, shR, shL, shC, shD, shW, sh_V, shN_e, shN_n, crI, crL, crC, crW, crV, crR_e, crR_n, crN_e, crN_n, ciR, ciL, ciD, ciN_e, ciN_n, rdI_e, rdI_n, rdC_i, rdC_o, rdW, rdU_e, rdU_n, rdLW, clI, clR, clC, clD, clW, clV, clN_e, clN_n, clL_e, clL_n]; done) | (simp (disch := omega) only [shI, shR, shL, shC, shD, shW, sh_V, shN_e, shN_n, crI, crL, crC, crW, crV, crR_e, crR_n, crN_e, crN_n, ciR, ciL, ciD, ciN_e, ciN_n, rdI_e, rdI_n, rdC_i, rdC_o, rdW, rdU_e, rdU_n, rdLW, clI, clR, clC, clD, clW, clV, clN_e, clN_n, clL_e, clL_n] <;> first | assumption | rfl | omega)) ?_
  generalize hA : mR _ 2 2 (some 5) = MA
  have cA : mcr MA 5 0 = some (-24) ∧ mcr MA 5 1 = some (-26) ∧ mcr MA 5 2 = some (-28) := by
    subst hA
    exact ⟨by simp (disch := omega) only [shI, shR, shL, shC, shD, shW, sh_V, shN_e, shN_n, crI, crL, crC, crW, crV, crR_e, crR_n, crN_e, crN_n, ciR, ciL, ciD, ciN_e, ciN_n, rdI_e, rdI_n, rdC_i, rdC_o, rdW, rdU_e, rdU_n, rdLW, clI, clR, clC, clD, clW, clV, clN_e, clN_n, clL_e, clL_n], by simp (disch := omega) only [shI, shR, shL, shC, shD, shW, sh_V, shN_e, shN_n, crI, crL, crC, crW, crV, crR_e, crR_n, crN_e, crN_n, ciR, ciL, ciD, ciN_e, ciN_n, rdI_e, rdI_n, rdC_i, rdC_o, rdW, rdU_e, rdU_n, rdLW, clI, clR, clC, clD, clW, clV, clN_e, clN_n, clL_e, clL_n], by simp (disch := omega) only [shI, shR, shL, shC, shD, shW, sh_V, shN_e, shN_n, crI, crL, crC, crW, crV, crR_e, crR_n, crN_e, crN_n, ciR, ciL, ciD, ciN_e, ciN_n, rdI_e, rdI_n, rdC_i, rdC_o, rdW, rdU_e, rdU_n, rdLW, clI, clR, clC, clD, clW, clV, clN_e, clN_n, clL_e, clL_n]⟩
  have kA : ∀ b, ¬ b = 2 → ¬ b = 5 → msh MA b = msh M b ∧ (∀ k, mci MA b k = mci M b k) ∧ (∀ k, mcr MA b k = mcr M b k) ∧ ∀ k, mcl MA b k = mcl M b k := fun b b2 b4 => by
    subst hA
    exact ⟨by simp (disch := omega) only [shI, shR, shL, shC, shD, shW, sh_V, shN_e, shN_n, crI, crL, crC, crW, crV, crR_e, crR_n, crN_e, crN_n, ciR, ciL, ciD, ciN_e, ciN_n, rdI_e, rdI_n, rdC_i, rdC_o, rdW, rdU_e, rdU_n, rdLW, clI, clR, clC, clD, clW, clV, clN_e, clN_n, clL_e, clL_n], fun k => by simp (disch := omega) only [shI, shR, shL, shC, shD, shW, sh_V, shN_e, shN_n, crI, crL, crC, crW, crV, crR_e, crR_n, crN_e, crN_n, ciR, ciL, ciD, ciN_e, ciN_n, rdI_e, rdI_n, rdC_i, rdC_o, rdW, rdU_e, rdU_n, rdLW, clI, clR, clC, clD, clW, clV, clN_e, clN_n, clL_e, clL_n], fun k => by simp (disch := omega) only [shI, shR, shL, shC, shD, shW, sh_V, shN_e, shN_n, crI, crL, crC, crW, crV, crR_e, crR_n, crN_e, crN_n, ciR, ciL, ciD, ciN_e, ciN_n, rdI_e, rdI_n, rdC_i, rdC_o, rdW, rdU_e, rdU_n, rdLW, clI, clR, clC, clD, clW, clV, clN_e, clN_n, clL_e, clL_n], fun k => by simp (disch := omega) only [shI, shR, shL, shC, shD, shW, sh_V, shN_e, shN_n, crI, crL, crC, crW, crV, crR_e, crR_n, crN_e, crN_n, ciR, ciL, ciD, ciN_e, ciN_n, rdI_e, rdI_n, rdC_i, rdC_o, rdW, rdU_e, rdU_n, rdLW, clI, clR, clC, clD, clW, clV, clN_e, clN_n, clL_e, clL_n]⟩
  have s2 : msh MA 2 = some (2, 0) := by
    subst hA
    first | assumption | (simp (disch := omega) only [shI, shR, shL, shC, shD, shW, sh_V, shN_e, shN_n, crI, crL, crC, crW, crV, crR_e, crR_n, crN_e, crN_n, ciR, ciL, ciD, ciN_e, ciN_n, rdI_e, rdI_n, rdC_i, rdC_o, rdW, rdU_e, rdU_n, rdLW, clI, clR, clC, clD, clW, clV, clN_e, clN_n, clL_e, clL_n]; done) | (simp (disch := omega) only [shI, shR, shL, shC, shD, shW, sh_V, shN_e, shN_n, crI, crL, crC, crW, crV, crR_e, crR_n, crN_e, crN_n, ciR, ciL, ciD, ciN_e, ciN_n, rdI_e, rdI_n, rdC_i, rdC_o, rdW, rdU_e, rdU_n, rdLW, clI, clR, clC, clD, clW, clV, clN_e, clN_n, clL_e, clL_n] <;> first | assumption | rfl | omega)
  have i2 : ∀ k, mci MA 2 k = mci M 2 k := fun k => by
    subst hA
    simp (disch := omega) only [shI, shR, shL, shC, shD, shW, sh_V, shN_e, shN_n, crI, crL, crC, crW, crV, crR_e, crR_n, crN_e, crN_n, ciR, ciL, ciD, ciN_e, ciN_n, rdI_e, rdI_n, rdC_i, rdC_o, rdW, rdU_e, rdU_n, rdLW, clI, clR, clC, clD, clW, clV, clN_e, clN_n, clL_e, clL_n]
  have r2 : ∀ k, mcr MA 2 k = if k = 2 then some 5 else mcr M 2 k := fun k => by
    subst hA
    by_cases q : k = 2
    · rw [if_pos q]; exact crR_e ⟨rfl, q⟩
    · rw [if_neg q]; simp (disch := omega) only [shI, shR, shL, shC, shD, shW, sh_V, shN_e, shN_n, crI, crL, crC, crW, crV, crR_e, crR_n, crN_e, crN_n, ciR, ciL, ciD, ciN_e, ciN_n, rdI_e, rdI_n, rdC_i, rdC_o, rdW, rdU_e, rdU_n, rdLW, clI, clR, clC, clD, clW, clV, clN_e, clN_n, clL_e, clL_n]
  have s4 : msh MA 5 = some (140, 3) := by
    subst hA
    first | assumption | (simp (disch := omega) only [shI, shR, shL, shC, shD, shW, sh_V, shN_e, shN_n, crI, crL, crC, crW, crV, crR_e, crR_n, crN_e, crN_n, ciR, ciL, ciD, ciN_e, ciN_n, rdI_e, rdI_n, rdC_i, rdC_o, rdW, rdU_e, rdU_n, rdLW, clI, clR, clC, clD, clW, clV, clN_e, clN_n, clL_e, clL_n]; done) | (simp (disch := omega) only [shI, shR, shL, shC, shD, shW, sh_V, shN_e, shN_n, crI, crL, crC, crW, crV, crR_e, crR_n, crN_e, crN_n, ciR, ciL, ciD, ciN_e, ciN_n, rdI_e, rdI_n, rdC_i, rdC_o, rdW, rdU_e, rdU_n, rdLW, clI, clR, clC, clD, clW, clV, clN_e, clN_n, clL_e, clL_n] <;> first | assumption | rfl | omega)
  have nA : (mnx MA : Int) = 6 := by
    subst hA
    first | (simp only [nxI, nxR, nxL, nxC, nxD, nxW, nxV, nxN]; done) | (simp only [nxI, nxR, nxL, nxC, nxD, nxW, nxV, nxN]; omega) | omega
  have zA : mns MA ≤ mns M + 20 := by
    subst hA
    (try simp only [nsI, nsR, nsL, nsC, nsD, nsW, nsV, nsN]); simp
  clear hA
  refine x_fgt (by repeat (first | exact trivial | refine ⟨rfl, ?_⟩)) (hk MA kA s2 i2 r2 s4 (fun k k0 k1 => ?_) nA zA)
  rcases (show k = 0 ∨ k = 1 ∨ k = 2 by omega) with q | q | q
  · subst q; exact cA.1
  · subst q; exact cA.2.1
  · subst q; exact cA.2.2
theorem s_X2_initK (hd : 20 ≤ d) {Q : Res → Mem → Prop} (hs : msh M 2 = some (2, 0)) (hx : (mnx M : Int) = 6) (hT : TxS M) (hk : ∀ M1, (∀ b, ¬ b = 2 → ¬ b = 6 → msh M1 b = msh M b ∧ (∀ k, mci M1 b k = mci M b k) ∧ (∀ k, mcr M1 b k = mcr M b k) ∧ ∀ k, mcl M1 b k = mcl M b k) → msh M1 2 = some (2, 0) → (∀ k, mci M1 2 k = mci M 2 k) → (∀ k, mcr M1 2 k = if k = 3 then some 6 else mcr M 2 k) → msh M1 6 = some (140, 11) → (∀ k, 0 ≤ k → k < 11 → mcr M1 6 k = some (-(10 + 2 * (10 + k)))) → (mnx M1 : Int) = 7 → mns M1 ≤ mns M + 20 → WP G d mX2_init 150 [some (dR 2)] [] M1 Q) : WP G d mX2_init 81 [some (dR 2)] [] M Q := by
  refine x_aload_n dX2_init_81 rfl rfl ?_
  refine x_bipush dX2_init_82 rfl ?_
  refine x_anewX (x := 6) (by first | (simp only [nxI, nxR, nxL, nxC, nxD, nxW, nxV, nxN]; done) | (simp only [nxI, nxR, nxL, nxC, nxD, nxW, nxV, nxN]; omega) | omega) (t := 140) (by decide) rfl q201 (by omega) (by omega) dX2_init_84 ?_
  refine x_dup dX2_init_87 rfl ?_
  refine x_iconst dX2_init_88 rfl ?_
  refine x_ldcs dX2_init_89 (List.mem_of_getElem? (i := 10) rfl) ?_
  refine x_aast (t := 140) (by decide) rfl (by omega) dX2_init_91 (by first | assumption | first | assumption | (simp (disch := omega) only [shI, shR, shL, shC, shD, shW, sh_V, shN_e, shN_n, crI, crL, crC, crW, crV, crR_e, crR_n, crN_e, crN_n, ciR, ciL, ciD, ciN_e, ciN_n, rdI_e, rdI_n, rdC_i, rdC_o, rdW, rdU_e, rdU_n, rdLW, clI, clR, clC, clD, clW, clV, clN_e, clN_n, clL_e, clL_n]; done) | (simp (disch := omega) only [shI, shR, shL, shC, shD, shW, sh_V, shN_e, shN_n, crI, crL, crC, crW, crV, crR_e, crR_n, crN_e, crN_n, ciR, ciL, ciD, ciN_e, ciN_n, rdI_e, rdI_n, rdC_i, rdC_o, rdW, rdU_e, rdU_n, rdLW, clI, clR, clC, clD, clW, clV, clN_e, clN_n, clL_e, clL_n] <;> first | assumption | rfl | omega)) (by omega) (by omega) (any_st (by omega) (show msh M (-30) = some (99, 0) from (hT 10 (by omega)).2.1)) ?_
  refine x_dup dX2_init_92 rfl ?_
  refine x_iconst dX2_init_93 rfl ?_
  refine x_ldcs dX2_init_94 (List.mem_of_getElem? (i := 11) rfl) ?_
  refine x_aast (t := 140) (by decide) rfl (by omega) dX2_init_96 (by first | assumption | first | assumption | (simp (disch := omega) only [shI, shR, shL, shC, shD, shW, sh_V, shN_e, shN_n, crI, crL, crC, crW, crV, crR_e, crR_n, crN_e, crN_n, ciR, ciL, ciD, ciN_e, ciN_n, rdI_e, rdI_n, rdC_i, rdC_o, rdW, rdU_e, rdU_n, rdLW, clI, clR, clC, clD, clW, clV, clN_e, clN_n, clL_e, clL_n]; done) | (simp (disch := omega) only [shI, shR, shL, shC, shD, shW, sh_V, shN_e, shN_n, crI, crL, crC, crW, crV, crR_e, crR_n, crN_e, crN_n, ciR, ciL, ciD, ciN_e, ciN_n, rdI_e, rdI_n, rdC_i, rdC_o, rdW, rdU_e, rdU_n, rdLW, clI, clR, clC, clD, clW, clV, clN_e, clN_n, clL_e, clL_n] <;> first | assumption | rfl | omega)) (by omega) (by omega) (any_st (by omega) (show msh M (-32) = some (99, 0) from (hT 11 (by omega)).2.1)) ?_
  refine x_dup dX2_init_97 rfl ?_
  refine x_iconst dX2_init_98 rfl ?_
  refine x_ldcs dX2_init_99 (List.mem_of_getElem? (i := 12) rfl) ?_
  refine x_aast (t := 140) (by decide) rfl (by omega) dX2_init_101 (by first | assumption | first | assumption | (simp (disch := omega) only [shI, shR, shL, shC, shD, shW, sh_V, shN_e, shN_n, crI, crL, crC, crW, crV, crR_e, crR_n, crN_e, crN_n, ciR, ciL, ciD, ciN_e, ciN_n, rdI_e, rdI_n, rdC_i, rdC_o, rdW, rdU_e, rdU_n, rdLW, clI, clR, clC, clD, clW, clV, clN_e, clN_n, clL_e, clL_n]; done) | (simp (disch := omega) only [shI, shR, shL, shC, shD, shW, sh_V, shN_e, shN_n, crI, crL, crC, crW, crV, crR_e, crR_n, crN_e, crN_n, ciR, ciL, ciD, ciN_e, ciN_n, rdI_e, rdI_n, rdC_i, rdC_o, rdW, rdU_e, rdU_n, rdLW, clI, clR, clC, clD, clW, clV, clN_e, clN_n, clL_e, clL_n] <;> first | assumption | rfl | omega)) (by omega) (by omega) (any_st (by omega) (show msh M (-34) = some (99, 0) from (hT 12 (by omega)).2.1)) ?_
  refine x_dup dX2_init_102 rfl ?_
  refine x_iconst dX2_init_103 rfl ?_
  refine x_ldcs dX2_init_104 (List.mem_of_getElem? (i := 13) rfl) ?_
  refine x_aast (t := 140) (by decide) rfl (by omega) dX2_init_106 (by first | assumption | first | assumption | (simp (disch := omega) only [shI, shR, shL, shC, shD, shW, sh_V, shN_e, shN_n, crI, crL, crC, crW, crV, crR_e, crR_n, crN_e, crN_n, ciR, ciL, ciD, ciN_e, ciN_n, rdI_e, rdI_n, rdC_i, rdC_o, rdW, rdU_e, rdU_n, rdLW, clI, clR, clC, clD, clW, clV, clN_e, clN_n, clL_e, clL_n]; done) | (simp (disch := omega) only [shI, shR, shL, shC, shD, shW, sh_V, shN_e, shN_n, crI, crL, crC, crW, crV, crR_e, crR_n, crN_e, crN_n, ciR, ciL, ciD, ciN_e, ciN_n, rdI_e, rdI_n, rdC_i, rdC_o, rdW, rdU_e, rdU_n, rdLW, clI, clR, clC, clD, clW, clV, clN_e, clN_n, clL_e, clL_n] <;> first | assumption | rfl | omega)) (by omega) (by omega) (any_st (by omega) (show msh M (-36) = some (99, 0) from (hT 13 (by omega)).2.1)) ?_
  refine x_dup dX2_init_107 rfl ?_
  refine x_iconst dX2_init_108 rfl ?_
  refine x_ldcs dX2_init_109 (List.mem_of_getElem? (i := 14) rfl) ?_
  refine x_aast (t := 140) (by decide) rfl (by omega) dX2_init_111 (by first | assumption | first | assumption | (simp (disch := omega) only [shI, shR, shL, shC, shD, shW, sh_V, shN_e, shN_n, crI, crL, crC, crW, crV, crR_e, crR_n, crN_e, crN_n, ciR, ciL, ciD, ciN_e, ciN_n, rdI_e, rdI_n, rdC_i, rdC_o, rdW, rdU_e, rdU_n, rdLW, clI, clR, clC, clD, clW, clV, clN_e, clN_n, clL_e, clL_n]; done) | (simp (disch := omega) only [shI, shR, shL, shC, shD, shW, sh_V, shN_e, shN_n, crI, crL, crC, crW, crV, crR_e, crR_n, crN_e, crN_n, ciR, ciL, ciD, ciN_e, ciN_n, rdI_e, rdI_n, rdC_i, rdC_o, rdW, rdU_e, rdU_n, rdLW, clI, clR, clC, clD, clW, clV, clN_e, clN_n, clL_e, clL_n] <;> first | assumption | rfl | omega)) (by omega) (by omega) (any_st (by omega) (show msh M (-38) = some (99, 0) from (hT 14 (by omega)).2.1)) ?_
  refine x_dup dX2_init_112 rfl ?_
  refine x_iconst dX2_init_113 rfl ?_
  refine x_ldcs dX2_init_114 (List.mem_of_getElem? (i := 15) rfl) ?_
  refine x_aast (t := 140) (by decide) rfl (by omega) dX2_init_116 (by first | assumption | first | assumption | (simp (disch := omega) only [shI, shR, shL, shC, shD, shW, sh_V, shN_e, shN_n, crI, crL, crC, crW, crV, crR_e, crR_n, crN_e, crN_n, ciR, ciL, ciD, ciN_e, ciN_n, rdI_e, rdI_n, rdC_i, rdC_o, rdW, rdU_e, rdU_n, rdLW, clI, clR, clC, clD, clW, clV, clN_e, clN_n, clL_e, clL_n]; done) | (simp (disch := omega) only [shI, shR, shL, shC, shD, shW, sh_V, shN_e, shN_n, crI, crL, crC, crW, crV, crR_e, crR_n, crN_e, crN_n, ciR, ciL, ciD, ciN_e, ciN_n, rdI_e, rdI_n, rdC_i, rdC_o, rdW, rdU_e, rdU_n, rdLW, clI, clR, clC, clD, clW, clV, clN_e, clN_n, clL_e, clL_n] <;> first | assumption | rfl | omega)) (by omega) (by omega) (any_st (by omega) (show msh M (-40) = some (99, 0) from (hT 15 (by omega)).2.1)) ?_
  refine x_dup dX2_init_117 rfl ?_
  refine x_bipush dX2_init_118 rfl ?_
  refine x_ldcs dX2_init_120 (List.mem_of_getElem? (i := 16) rfl) ?_
  refine x_aast (t := 140) (by decide) rfl (by omega) dX2_init_122 (by first | assumption | first | assumption | (simp (disch := omega) only [shI, shR, shL, shC, shD, shW, sh_V, shN_e, shN_n, crI, crL, crC, crW, crV, crR_e, crR_n, crN_e, crN_n, ciR, ciL, ciD, ciN_e, ciN_n, rdI_e, rdI_n, rdC_i, rdC_o, rdW, rdU_e, rdU_n, rdLW, clI, clR, clC, clD, clW, clV, clN_e, clN_n, clL_e, clL_n]; done) | (simp (disch := omega) only [shI, shR, shL, shC, shD, shW, sh_V, shN_e, shN_n, crI, crL, crC, crW, crV, crR_e, crR_n, crN_e, crN_n, ciR, ciL, ciD, ciN_e, ciN_n, rdI_e, rdI_n, rdC_i, rdC_o, rdW, rdU_e, rdU_n, rdLW, clI, clR, clC, clD, clW, clV, clN_e, clN_n, clL_e, clL_n] <;> first | assumption | rfl | omega)) (by omega) (by omega) (any_st (by omega) (show msh M (-42) = some (99, 0) from (hT 16 (by omega)).2.1)) ?_
  refine x_dup dX2_init_123 rfl ?_
  refine x_bipush dX2_init_124 rfl ?_
  refine x_ldcs dX2_init_126 (List.mem_of_getElem? (i := 17) rfl) ?_
  refine x_aast (t := 140) (by decide) rfl (by omega) dX2_init_128 (by first | assumption | first | assumption | (simp (disch := omega) only [shI, shR, shL, shC, shD, shW, sh_V, shN_e, shN_n, crI, crL, crC, crW, crV, crR_e, crR_n, crN_e, crN_n, ciR, ciL, ciD, ciN_e, ciN_n, rdI_e, rdI_n, rdC_i, rdC_o, rdW, rdU_e, rdU_n, rdLW, clI, clR, clC, clD, clW, clV, clN_e, clN_n, clL_e, clL_n]; done) | (simp (disch := omega) only [shI, shR, shL, shC, shD, shW, sh_V, shN_e, shN_n, crI, crL, crC, crW, crV, crR_e, crR_n, crN_e, crN_n, ciR, ciL, ciD, ciN_e, ciN_n, rdI_e, rdI_n, rdC_i, rdC_o, rdW, rdU_e, rdU_n, rdLW, clI, clR, clC, clD, clW, clV, clN_e, clN_n, clL_e, clL_n] <;> first | assumption | rfl | omega)) (by omega) (by omega) (any_st (by omega) (show msh M (-44) = some (99, 0) from (hT 17 (by omega)).2.1)) ?_
  refine x_dup dX2_init_129 rfl ?_
  refine x_bipush dX2_init_130 rfl ?_
  refine x_ldcs dX2_init_132 (List.mem_of_getElem? (i := 18) rfl) ?_
  refine x_aast (t := 140) (by decide) rfl (by omega) dX2_init_134 (by first | assumption | first | assumption | (simp (disch := omega) only [shI, shR, shL, shC, shD, shW, sh_V, shN_e, shN_n, crI, crL, crC, crW, crV, crR_e, crR_n, crN_e, crN_n, ciR, ciL, ciD, ciN_e, ciN_n, rdI_e, rdI_n, rdC_i, rdC_o, rdW, rdU_e, rdU_n, rdLW, clI, clR, clC, clD, clW, clV, clN_e, clN_n, clL_e, clL_n]; done) | (simp (disch := omega) only [shI, shR, shL, shC, shD, shW, sh_V, shN_e, shN_n, crI, crL, crC, crW, crV, crR_e, crR_n, crN_e, crN_n, ciR, ciL, ciD, ciN_e, ciN_n, rdI_e, rdI_n, rdC_i, rdC_o, rdW, rdU_e, rdU_n, rdLW, clI, clR, clC, clD, clW, clV, clN_e, clN_n, clL_e, clL_n] <;> first | assumption | rfl | omega)) (by omega) (by omega) (any_st (by omega) (show msh M (-46) = some (99, 0) from (hT 18 (by omega)).2.1)) ?_
  refine x_dup dX2_init_135 rfl ?_
  refine x_bipush dX2_init_136 rfl ?_
  refine x_ldcs dX2_init_138 (List.mem_of_getElem? (i := 19) rfl) ?_
  refine x_aast (t := 140) (by decide) rfl (by omega) dX2_init_140 (by first | assumption | first | assumption | (simp (disch := omega) only [shI, shR, shL, shC, shD, shW, sh_V, shN_e, shN_n, crI, crL, crC, crW, crV, crR_e, crR_n, crN_e, crN_n, ciR, ciL, ciD, ciN_e, ciN_n, rdI_e, rdI_n, rdC_i, rdC_o, rdW, rdU_e, rdU_n, rdLW, clI, clR, clC, clD, clW, clV, clN_e, clN_n, clL_e, clL_n]; done) | (simp (disch := omega) only [shI, shR, shL, shC, shD, shW, sh_V, shN_e, shN_n, crI, crL, crC, crW, crV, crR_e, crR_n, crN_e, crN_n, ciR, ciL, ciD, ciN_e, ciN_n, rdI_e, rdI_n, rdC_i, rdC_o, rdW, rdU_e, rdU_n, rdLW, clI, clR, clC, clD, clW, clV, clN_e, clN_n, clL_e, clL_n] <;> first | assumption | rfl | omega)) (by omega) (by omega) (any_st (by omega) (show msh M (-48) = some (99, 0) from (hT 19 (by omega)).2.1)) ?_
  refine x_dup dX2_init_141 rfl ?_
  refine x_bipush dX2_init_142 rfl ?_
  refine x_ldcs dX2_init_144 (List.mem_of_getElem? (i := 20) rfl) ?_
  refine x_aast (t := 140) (by decide) rfl (by omega) dX2_init_146 (by first | assumption | first | assumption | (simp (disch := omega) only [shI, shR, shL, shC, shD, shW, sh_V, shN_e, shN_n, crI, crL, crC, crW, crV, crR_e, crR_n, crN_e, crN_n, ciR, ciL, ciD, ciN_e, ciN_n, rdI_e, rdI_n, rdC_i, rdC_o, rdW, rdU_e, rdU_n, rdLW, clI, clR, clC, clD, clW, clV, clN_e, clN_n, clL_e, clL_n]; done) | (simp (disch := omega) only [shI, shR, shL, shC, shD, shW, sh_V, shN_e, shN_n, crI, crL, crC, crW, crV, crR_e, crR_n, crN_e, crN_n, ciR, ciL, ciD, ciN_e, ciN_n, rdI_e, rdI_n, rdC_i, rdC_o, rdW, rdU_e, rdU_n, rdLW, clI, clR, clC, clD, clW, clV, clN_e, clN_n, clL_e, clL_n] <;> first | assumption | rfl | omega)) (by omega) (by omega) (any_st (by omega) (show msh M (-50) = some (99, 0) from (hT 20 (by omega)).2.1)) ?_
  refine g_putRF (kI := 3) rfl dX2_init_147 fX2_66_2 ffX2_init_66_2 (by first | assumption | first | assumption | (simp (disch := omega) only [shI, shR, shL, shC, shD, shW, sh_V, shN_e, shN_n, crI, crL, crC, crW, crV, crR_e, crR_n, crN_e, crN_n, ciR, ciL, ciD, ciN_e, ciN_n, rdI_e, rdI_n, rdC_i, rdC_o, rdW, rdU_e, rdU_n, rdLW, clI, clR, clC, clD, clW, clV, clN_e, clN_n, clL_e, clL_n]; done) | (simp (disch := omega) only [shI, shR, shL, shC, shD, shW, sh_V, shN_e, shN_n, crI, crL, crC, crW, crV, crR_e, crR_n, crN_e, crN_n, ciR, ciL, ciD, ciN_e, ciN_n, rdI_e, rdI_n, rdC_i, rdC_o, rdW, rdU_e, rdU_n, rdLW, clI, clR, clC, clD, clW, clV, clN_e, clN_n, clL_e, clL_n] <;> first | assumption | rfl | omega)) ?_
  generalize hA : mR _ 2 3 (some 6) = MA
  have cA : mcr MA 6 0 = some (-30) ∧ mcr MA 6 1 = some (-32) ∧ mcr MA 6 2 = some (-34) ∧ mcr MA 6 3 = some (-36) ∧ mcr MA 6 4 = some (-38) ∧ mcr MA 6 5 = some (-40) ∧ mcr MA 6 6 = some (-42) ∧ mcr MA 6 7 = some (-44) ∧ mcr MA 6 8 = some (-46) ∧ mcr MA 6 9 = some (-48) ∧ mcr MA 6 10 = some (-50) := by
    subst hA
    exact ⟨by simp (disch := omega) only [shI, shR, shL, shC, shD, shW, sh_V, shN_e, shN_n, crI, crL, crC, crW, crV, crR_e, crR_n, crN_e, crN_n, ciR, ciL, ciD, ciN_e, ciN_n, rdI_e, rdI_n, rdC_i, rdC_o, rdW, rdU_e, rdU_n, rdLW, clI, clR, clC, clD, clW, clV, clN_e, clN_n, clL_e, clL_n], by simp (disch := omega) only [shI, shR, shL, shC, shD, shW, sh_V, shN_e, shN_n, crI, crL, crC, crW, crV, crR_e, crR_n, crN_e, crN_n, ciR, ciL, ciD, ciN_e, ciN_n, rdI_e, rdI_n, rdC_i, rdC_o, rdW, rdU_e, rdU_n, rdLW, clI, clR, clC, clD, clW, clV, clN_e, clN_n, clL_e, clL_n], by simp (disch := omega) only [shI, shR, shL, shC, shD, shW, sh_V, shN_e, shN_n, crI, crL, crC, crW, crV, crR_e, crR_n, crN_e, crN_n, ciR, ciL, ciD, ciN_e, ciN_n, rdI_e, rdI_n, rdC_i, rdC_o, rdW, rdU_e, rdU_n, rdLW, clI, clR, clC, clD, clW, clV, clN_e, clN_n, clL_e, clL_n], by simp (disch := omega) only [shI, shR, shL, shC, shD, shW, sh_V, shN_e, shN_n, crI, crL, crC, crW, crV, crR_e, crR_n, crN_e, crN_n, ciR, ciL, ciD, ciN_e, ciN_n, rdI_e, rdI_n, rdC_i, rdC_o, rdW, rdU_e, rdU_n, rdLW, clI, clR, clC, clD, clW, clV, clN_e, clN_n, clL_e, clL_n], by simp (disch := omega) only [shI, shR, shL, shC, shD, shW, sh_V, shN_e, shN_n, crI, crL, crC, crW, crV, crR_e, crR_n, crN_e, crN_n, ciR, ciL, ciD, ciN_e, ciN_n, rdI_e, rdI_n, rdC_i, rdC_o, rdW, rdU_e, rdU_n, rdLW, clI, clR, clC, clD, clW, clV, clN_e, clN_n, clL_e, clL_n], by simp (disch := omega) only [shI, shR, shL, shC, shD, shW, sh_V, shN_e, shN_n, crI, crL, crC, crW, crV, crR_e, crR_n, crN_e, crN_n, ciR, ciL, ciD, ciN_e, ciN_n, rdI_e, rdI_n, rdC_i, rdC_o, rdW, rdU_e, rdU_n, rdLW, clI, clR, clC, clD, clW, clV, clN_e, clN_n, clL_e, clL_n], by simp (disch := omega) only [shI, shR, shL, shC, shD, shW, sh_V, shN_e, shN_n, crI, crL, crC, crW, crV, crR_e, crR_n, crN_e, crN_n, ciR, ciL, ciD, ciN_e, ciN_n, rdI_e, rdI_n, rdC_i, rdC_o, rdW, rdU_e, rdU_n, rdLW, clI, clR, clC, clD, clW, clV, clN_e, clN_n, clL_e, clL_n], by simp (disch := omega) only [shI, shR, shL, shC, shD, shW, sh_V, shN_e, shN_n, crI, crL, crC, crW, crV, crR_e, crR_n, crN_e, crN_n, ciR, ciL, ciD, ciN_e, ciN_n, rdI_e, rdI_n, rdC_i, rdC_o, rdW, rdU_e, rdU_n, rdLW, clI, clR, clC, clD, clW, clV, clN_e, clN_n, clL_e, clL_n], by simp (disch := omega) only [shI, shR, shL, shC, shD, shW, sh_V, shN_e, shN_n, crI, crL, crC, crW, crV, crR_e, crR_n, crN_e, crN_n, ciR, ciL, ciD, ciN_e, ciN_n, rdI_e, rdI_n, rdC_i, rdC_o, rdW, rdU_e, rdU_n, rdLW, clI, clR, clC, clD, clW, clV, clN_e, clN_n, clL_e, clL_n], by simp (disch := omega) only [shI, shR, shL, shC, shD, shW, sh_V, shN_e, shN_n, crI, crL, crC, crW, crV, crR_e, crR_n, crN_e, crN_n, ciR, ciL, ciD, ciN_e, ciN_n, rdI_e, rdI_n, rdC_i, rdC_o, rdW, rdU_e, rdU_n, rdLW, clI, clR, clC, clD, clW, clV, clN_e, clN_n, clL_e, clL_n], by simp (disch := omega) only [shI, shR, shL, shC, shD, shW, sh_V, shN_e, shN_n, crI, crL, crC, crW, crV, crR_e, crR_n, crN_e, crN_n, ciR, ciL, ciD, ciN_e, ciN_n, rdI_e, rdI_n, rdC_i, rdC_o, rdW, rdU_e, rdU_n, rdLW, clI, clR, clC, clD, clW, clV, clN_e, clN_n, clL_e, clL_n]⟩
  have kA : ∀ b, ¬ b = 2 → ¬ b = 6 → msh MA b = msh M b ∧ (∀ k, mci MA b k = mci M b k) ∧ (∀ k, mcr MA b k = mcr M b k) ∧ ∀ k, mcl MA b k = mcl M b k := fun b b2 b4 => by
    subst hA
    exact ⟨by simp (disch := omega) only [shI, shR, shL, shC, shD, shW, sh_V, shN_e, shN_n, crI, crL, crC, crW, crV, crR_e, crR_n, crN_e, crN_n, ciR, ciL, ciD, ciN_e, ciN_n, rdI_e, rdI_n, rdC_i, rdC_o, rdW, rdU_e, rdU_n, rdLW, clI, clR, clC, clD, clW, clV, clN_e, clN_n, clL_e, clL_n], fun k => by simp (disch := omega) only [shI, shR, shL, shC, shD, shW, sh_V, shN_e, shN_n, crI, crL, crC, crW, crV, crR_e, crR_n, crN_e, crN_n, ciR, ciL, ciD, ciN_e, ciN_n, rdI_e, rdI_n, rdC_i, rdC_o, rdW, rdU_e, rdU_n, rdLW, clI, clR, clC, clD, clW, clV, clN_e, clN_n, clL_e, clL_n], fun k => by simp (disch := omega) only [shI, shR, shL, shC, shD, shW, sh_V, shN_e, shN_n, crI, crL, crC, crW, crV, crR_e, crR_n, crN_e, crN_n, ciR, ciL, ciD, ciN_e, ciN_n, rdI_e, rdI_n, rdC_i, rdC_o, rdW, rdU_e, rdU_n, rdLW, clI, clR, clC, clD, clW, clV, clN_e, clN_n, clL_e, clL_n], fun k => by simp (disch := omega) only [shI, shR, shL, shC, shD, shW, sh_V, shN_e, shN_n, crI, crL, crC, crW, crV, crR_e, crR_n, crN_e, crN_n, ciR, ciL, ciD, ciN_e, ciN_n, rdI_e, rdI_n, rdC_i, rdC_o, rdW, rdU_e, rdU_n, rdLW, clI, clR, clC, clD, clW, clV, clN_e, clN_n, clL_e, clL_n]⟩
  have s2 : msh MA 2 = some (2, 0) := by
    subst hA
    first | assumption | (simp (disch := omega) only [shI, shR, shL, shC, shD, shW, sh_V, shN_e, shN_n, crI, crL, crC, crW, crV, crR_e, crR_n, crN_e, crN_n, ciR, ciL, ciD, ciN_e, ciN_n, rdI_e, rdI_n, rdC_i, rdC_o, rdW, rdU_e, rdU_n, rdLW, clI, clR, clC, clD, clW, clV, clN_e, clN_n, clL_e, clL_n]; done) | (simp (disch := omega) only [shI, shR, shL, shC, shD, shW, sh_V, shN_e, shN_n, crI, crL, crC, crW, crV, crR_e, crR_n, crN_e, crN_n, ciR, ciL, ciD, ciN_e, ciN_n, rdI_e, rdI_n, rdC_i, rdC_o, rdW, rdU_e, rdU_n, rdLW, clI, clR, clC, clD, clW, clV, clN_e, clN_n, clL_e, clL_n] <;> first | assumption | rfl | omega)
  have i2 : ∀ k, mci MA 2 k = mci M 2 k := fun k => by
    subst hA
    simp (disch := omega) only [shI, shR, shL, shC, shD, shW, sh_V, shN_e, shN_n, crI, crL, crC, crW, crV, crR_e, crR_n, crN_e, crN_n, ciR, ciL, ciD, ciN_e, ciN_n, rdI_e, rdI_n, rdC_i, rdC_o, rdW, rdU_e, rdU_n, rdLW, clI, clR, clC, clD, clW, clV, clN_e, clN_n, clL_e, clL_n]
  have r2 : ∀ k, mcr MA 2 k = if k = 3 then some 6 else mcr M 2 k := fun k => by
    subst hA
    by_cases q : k = 3
    · rw [if_pos q]; exact crR_e ⟨rfl, q⟩
    · rw [if_neg q]; simp (disch := omega) only [shI, shR, shL, shC, shD, shW, sh_V, shN_e, shN_n, crI, crL, crC, crW, crV, crR_e, crR_n, crN_e, crN_n, ciR, ciL, ciD, ciN_e, ciN_n, rdI_e, rdI_n, rdC_i, rdC_o, rdW, rdU_e, rdU_n, rdLW, clI, clR, clC, clD, clW, clV, clN_e, clN_n, clL_e, clL_n]
  have s4 : msh MA 6 = some (140, 11) := by
    subst hA
    first | assumption | (simp (disch := omega) only [shI, shR, shL, shC, shD, shW, sh_V, shN_e, shN_n, crI, crL, crC, crW, crV, crR_e, crR_n, crN_e, crN_n, ciR, ciL, ciD, ciN_e, ciN_n, rdI_e, rdI_n, rdC_i, rdC_o, rdW, rdU_e, rdU_n, rdLW, clI, clR, clC, clD, clW, clV, clN_e, clN_n, clL_e, clL_n]; done) | (simp (disch := omega) only [shI, shR, shL, shC, shD, shW, sh_V, shN_e, shN_n, crI, crL, crC, crW, crV, crR_e, crR_n, crN_e, crN_n, ciR, ciL, ciD, ciN_e, ciN_n, rdI_e, rdI_n, rdC_i, rdC_o, rdW, rdU_e, rdU_n, rdLW, clI, clR, clC, clD, clW, clV, clN_e, clN_n, clL_e, clL_n] <;> first | assumption | rfl | omega)
  have nA : (mnx MA : Int) = 7 := by
    subst hA
    first | (simp only [nxI, nxR, nxL, nxC, nxD, nxW, nxV, nxN]; done) | (simp only [nxI, nxR, nxL, nxC, nxD, nxW, nxV, nxN]; omega) | omega
  have zA : mns MA ≤ mns M + 20 := by
    subst hA
    (try simp only [nsI, nsR, nsL, nsC, nsD, nsW, nsV, nsN]); simp
  clear hA
  refine x_fgt (by repeat (first | exact trivial | refine ⟨rfl, ?_⟩)) (hk MA kA s2 i2 r2 s4 (fun k k0 k1 => ?_) nA zA)
  rcases (show k = 0 ∨ k = 1 ∨ k = 2 ∨ k = 3 ∨ k = 4 ∨ k = 5 ∨ k = 6 ∨ k = 7 ∨ k = 8 ∨ k = 9 ∨ k = 10 by omega) with q | q | q | q | q | q | q | q | q | q | q
  · subst q; exact cA.1
  · subst q; exact cA.2.1
  · subst q; exact cA.2.2.1
  · subst q; exact cA.2.2.2.1
  · subst q; exact cA.2.2.2.2.1
  · subst q; exact cA.2.2.2.2.2.1
  · subst q; exact cA.2.2.2.2.2.2.1
  · subst q; exact cA.2.2.2.2.2.2.2.1
  · subst q; exact cA.2.2.2.2.2.2.2.2.1
  · subst q; exact cA.2.2.2.2.2.2.2.2.2.1
  · subst q; exact cA.2.2.2.2.2.2.2.2.2.2
theorem s_X2_init (hd : 24 ≤ d) (hs : msh M 2 = some (2, 0)) (hx : (mnx M : Int) = 3) (hz : Frsh M 2) (hT : TxS M) : CS G d mX2_init [dR 2] M (postN fun M1 => RdC (msh M1) (mcr M1) ∧ StS (msh M1) (mcr M1) 8 ∧ IniS M1 8 ∧ (∀ k, mci M1 2 k = 0) ∧ (∀ k, mci M1 3 k = 0) ∧ (∀ k, mcr M1 7 k = none) ∧ (mnx M1 : Int) = 54 ∧ mns M1 ≤ mns M + 2000 ∧ Kp (fun b => b < 2) M M1) := by
  refine CS.mkQ (by decide) (Nat.le_of_ble_eq_true rfl) fun Q hQ => ?_
  have tx : ∀ M' : Mem, (∀ b, b < 2 → msh M' b = msh M b ∧ (∀ k, mci M' b k = mci M b k) ∧ (∀ k, mcr M' b k = mcr M b k) ∧ ∀ k, mcl M' b k = mcl M b k) → TxS M' := fun M' h => hT.of (fun a q => (h a (by omega)).1) (fun a k q => (h a (by omega)).2.1 k) (fun a k q => (h a (by omega)).2.2.1 k)
  -- behind the words
  have fin : ∀ M4 : Mem, (∀ b, b < 2 → msh M4 b = msh M b ∧ (∀ k, mci M4 b k = mci M b k) ∧ (∀ k, mcr M4 b k = mcr M b k) ∧ ∀ k, mcl M4 b k = mcl M b k) → msh M4 2 = some (2, 0) → (∀ k, mci M4 2 k = 0) → (mcr M4 2 0 = some 3 ∧ mcr M4 2 1 = some 4 ∧ mcr M4 2 2 = some 5 ∧ mcr M4 2 3 = some 6) → (msh M4 3 = some (101, 400) ∧ msh M4 4 = some (140, 7) ∧ msh M4 5 = some (140, 3) ∧ msh M4 6 = some (140, 11)) → (∀ k, mci M4 3 k = 0) → (∀ k, 0 ≤ k → k < 7 → mcr M4 4 k = some (-(10 + 2 * (0 + k)))) → (∀ k, 0 ≤ k → k < 3 → mcr M4 5 k = some (-(10 + 2 * (7 + k)))) → (∀ k, 0 ≤ k → k < 11 → mcr M4 6 k = some (-(10 + 2 * (10 + k)))) → (mnx M4 : Int) = 7 → mns M4 ≤ mns M + 460 → WP G d mX2_init 150 [some (dR 2)] [] M4 Q := by
    intro M4 hk s2 i2 ⟨c0, c1, c2, c3⟩ ⟨s3, s4, s5, s6⟩ i3 x1 x2 x3 hn hm
    refine x_aload_n dX2_init_150 rfl rfl ?_
    refine x_bipush dX2_init_151 rfl ?_
    refine x_anewX (x := 7) (by first | (simp only [nxI, nxR, nxL, nxC, nxD, nxW, nxV, nxN]; done) | (simp only [nxI, nxR, nxL, nxC, nxD, nxW, nxV, nxN]; omega) | omega) (t := 134) (by decide) rfl q224 (by omega) (by omega) dX2_init_153 ?_
    refine g_putRF (kI := 4) rfl dX2_init_156 fX2_70_2 ffX2_init_70_2 (by first | assumption | first | assumption | (simp (disch := omega) only [shI, shR, shL, shC, shD, shW, sh_V, shN_e, shN_n, crI, crL, crC, crW, crV, crR_e, crR_n, crN_e, crN_n, ciR, ciL, ciD, ciN_e, ciN_n, rdI_e, rdI_n, rdC_i, rdC_o, rdW, rdU_e, rdU_n, rdLW, clI, clR, clC, clD, clW, clV, clN_e, clN_n, clL_e, clL_n]; done) | (simp (disch := omega) only [shI, shR, shL, shC, shD, shW, sh_V, shN_e, shN_n, crI, crL, crC, crW, crV, crR_e, crR_n, crN_e, crN_n, ciR, ciL, ciD, ciN_e, ciN_n, rdI_e, rdI_n, rdC_i, rdC_o, rdW, rdU_e, rdU_n, rdLW, clI, clR, clC, clD, clW, clV, clN_e, clN_n, clL_e, clL_n] <;> first | assumption | rfl | omega)) ?_
    refine x_aload_n dX2_init_159 rfl rfl ?_
    refine x_newX (x := 8) (by first | (simp only [nxI, nxR, nxL, nxC, nxD, nxW, nxV, nxN]; done) | (simp only [nxI, nxR, nxL, nxC, nxD, nxW, nxV, nxN]; omega) | omega) (t := 3) rfl q226 q227 q154 dX2_init_160 ?_
    refine x_dup dX2_init_163 rfl ?_
    refine g_callN (vs := [_]) (d' := d - 1) rfl (s_X3_init (p := 8) (by omega) (by omega) (by first | assumption | (simp (disch := omega) only [shI, shR, shL, shC, shD, shW, sh_V, shN_e, shN_n, crI, crL, crC, crW, crV, crR_e, crR_n, crN_e, crN_n, ciR, ciL, ciD, ciN_e, ciN_n, rdI_e, rdI_n, rdC_i, rdC_o, rdW, rdU_e, rdU_n, rdLW, clI, clR, clC, clD, clW, clV, clN_e, clN_n, clL_e, clL_n]; done) | (simp (disch := omega) only [shI, shR, shL, shC, shD, shW, sh_V, shN_e, shN_n, crI, crL, crC, crW, crV, crR_e, crR_n, crN_e, crN_n, ciR, ciL, ciD, ciN_e, ciN_n, rdI_e, rdI_n, rdC_i, rdC_o, rdW, rdU_e, rdU_n, rdLW, clI, clR, clC, clD, clW, clV, clN_e, clN_n, clL_e, clL_n] <;> first | assumption | rfl | omega)) (by first | (simp only [nxI, nxR, nxL, nxC, nxD, nxW, nxV, nxN]; done) | (simp only [nxI, nxR, nxL, nxC, nxD, nxW, nxV, nxN]; omega) | omega) Frsh.n) dX2_init_164 kX2_76 (by omega) (by decide) rfl (Nat.le_of_ble_eq_true rfl) (rcv_o (by first | assumption | first | assumption | (simp (disch := omega) only [shI, shR, shL, shC, shD, shW, sh_V, shN_e, shN_n, crI, crL, crC, crW, crV, crR_e, crR_n, crN_e, crN_n, ciR, ciL, ciD, ciN_e, ciN_n, rdI_e, rdI_n, rdC_i, rdC_o, rdW, rdU_e, rdU_n, rdLW, clI, clR, clC, clD, clW, clV, clN_e, clN_n, clL_e, clL_n]; done) | (simp (disch := omega) only [shI, shR, shL, shC, shD, shW, sh_V, shN_e, shN_n, crI, crL, crC, crW, crV, crR_e, crR_n, crN_e, crN_n, ciR, ciL, ciD, ciN_e, ciN_n, rdI_e, rdI_n, rdC_i, rdC_o, rdW, rdU_e, rdU_n, rdLW, clI, clR, clC, clD, clW, clV, clN_e, clN_n, clL_e, clL_n] <;> first | assumption | rfl | omega)) rfl) (fun M164 h164 => ?_)
    obtain ⟨t164, i164, n164, z164, k164⟩ := h164
    have sh : ∀ b, b < 7 → msh M164 b = msh M4 b ∧ (∀ k, mci M164 b k = mci M4 b k) ∧ ∀ k, mcl M164 b k = mcl M4 b k := fun b hb => ⟨(k164 b (by omega)).1.trans (by simp (disch := omega) only [shI, shR, shL, shC, shD, shW, sh_V, shN_e, shN_n, crI, crL, crC, crW, crV, crR_e, crR_n, crN_e, crN_n, ciR, ciL, ciD, ciN_e, ciN_n, rdI_e, rdI_n, rdC_i, rdC_o, rdW, rdU_e, rdU_n, rdLW, clI, clR, clC, clD, clW, clV, clN_e, clN_n, clL_e, clL_n]), fun k => ((k164 b (by omega)).2.1 k).trans (by simp (disch := omega) only [shI, shR, shL, shC, shD, shW, sh_V, shN_e, shN_n, crI, crL, crC, crW, crV, crR_e, crR_n, crN_e, crN_n, ciR, ciL, ciD, ciN_e, ciN_n, rdI_e, rdI_n, rdC_i, rdC_o, rdW, rdU_e, rdU_n, rdLW, clI, clR, clC, clD, clW, clV, clN_e, clN_n, clL_e, clL_n]), fun k => ((k164 b (by omega)).2.2.2 k).trans (by simp (disch := omega) only [shI, shR, shL, shC, shD, shW, sh_V, shN_e, shN_n, crI, crL, crC, crW, crV, crR_e, crR_n, crN_e, crN_n, ciR, ciL, ciD, ciN_e, ciN_n, rdI_e, rdI_n, rdC_i, rdC_o, rdW, rdU_e, rdU_n, rdLW, clI, clR, clC, clD, clW, clV, clN_e, clN_n, clL_e, clL_n])⟩
    have cr : ∀ b k, b < 7 → ¬ (b = 2 ∧ k = 4) → mcr M164 b k = mcr M4 b k := fun b k hb q => ((k164 b (by omega)).2.2.1 k).trans (by simp (disch := omega) only [shI, shR, shL, shC, shD, shW, sh_V, shN_e, shN_n, crI, crL, crC, crW, crV, crR_e, crR_n, crN_e, crN_n, ciR, ciL, ciD, ciN_e, ciN_n, rdI_e, rdI_n, rdC_i, rdC_o, rdW, rdU_e, rdU_n, rdLW, clI, clR, clC, clD, clW, clV, clN_e, clN_n, clL_e, clL_n])
    have c4 : mcr M164 2 4 = some 7 := ((k164 2 (by omega)).2.2.1 4).trans (by simp (disch := omega) only [shI, shR, shL, shC, shD, shW, sh_V, shN_e, shN_n, crI, crL, crC, crW, crV, crR_e, crR_n, crN_e, crN_n, ciR, ciL, ciD, ciN_e, ciN_n, rdI_e, rdI_n, rdC_i, rdC_o, rdW, rdU_e, rdU_n, rdLW, clI, clR, clC, clD, clW, clV, clN_e, clN_n, clL_e, clL_n])
    have s7 : msh M164 7 = some (134, 12) := (k164 7 (by omega)).1.trans (by first | assumption | (simp (disch := omega) only [shI, shR, shL, shC, shD, shW, sh_V, shN_e, shN_n, crI, crL, crC, crW, crV, crR_e, crR_n, crN_e, crN_n, ciR, ciL, ciD, ciN_e, ciN_n, rdI_e, rdI_n, rdC_i, rdC_o, rdW, rdU_e, rdU_n, rdLW, clI, clR, clC, clD, clW, clV, clN_e, clN_n, clL_e, clL_n]; done) | (simp (disch := omega) only [shI, shR, shL, shC, shD, shW, sh_V, shN_e, shN_n, crI, crL, crC, crW, crV, crR_e, crR_n, crN_e, crN_n, ciR, ciL, ciD, ciN_e, ciN_n, rdI_e, rdI_n, rdC_i, rdC_o, rdW, rdU_e, rdU_n, rdLW, clI, clR, clC, clD, clW, clV, clN_e, clN_n, clL_e, clL_n] <;> first | assumption | rfl | omega))
    have c7 : ∀ k, mcr M164 7 k = none := fun k => ((k164 7 (by omega)).2.2.1 k).trans (by simp (disch := omega) only [shI, shR, shL, shC, shD, shW, sh_V, shN_e, shN_n, crI, crL, crC, crW, crV, crR_e, crR_n, crN_e, crN_n, ciR, ciL, ciD, ciN_e, ciN_n, rdI_e, rdI_n, rdC_i, rdC_o, rdW, rdU_e, rdU_n, rdLW, clI, clR, clC, clD, clW, clV, clN_e, clN_n, clL_e, clL_n])
    have s2' : msh M164 2 = some (2, 0) := (sh 2 (by omega)).1.trans s2
    have z4 : mns M164 ≤ mns M + 1600 := by
      simp only [nsN, nsR] at z164
      have : Int.toNat 12 = 12 := rfl
      omega
    clear k164
    refine g_putRF (kI := 5) rfl dX2_init_167 fX2_77_2 ffX2_init_77_2 (by first | assumption | first | assumption | (simp (disch := omega) only [shI, shR, shL, shC, shD, shW, sh_V, shN_e, shN_n, crI, crL, crC, crW, crV, crR_e, crR_n, crN_e, crN_n, ciR, ciL, ciD, ciN_e, ciN_n, rdI_e, rdI_n, rdC_i, rdC_o, rdW, rdU_e, rdU_n, rdLW, clI, clR, clC, clD, clW, clV, clN_e, clN_n, clL_e, clL_n]; done) | (simp (disch := omega) only [shI, shR, shL, shC, shD, shW, sh_V, shN_e, shN_n, crI, crL, crC, crW, crV, crR_e, crR_n, crN_e, crN_n, ciR, ciL, ciD, ciN_e, ciN_n, rdI_e, rdI_n, rdC_i, rdC_o, rdW, rdU_e, rdU_n, rdLW, clI, clR, clC, clD, clW, clV, clN_e, clN_n, clL_e, clL_n] <;> first | assumption | rfl | omega)) ?_
    refine x_aload_n dX2_init_170 rfl rfl ?_
    refine x_newX (x := 53) (by first | (simp only [nxI, nxR, nxL, nxC, nxD, nxW, nxV, nxN]; done) | (simp only [nxI, nxR, nxL, nxC, nxD, nxW, nxV, nxN]; omega) | omega) (t := 7) rfl q428 q429 q161 dX2_init_171 ?_
    refine x_dup dX2_init_174 rfl ?_
    refine g_callN (vs := [_]) (d' := d - 1) rfl (s_X7_init (by omega) (by omega) (by first | assumption | (simp (disch := omega) only [shI, shR, shL, shC, shD, shW, sh_V, shN_e, shN_n, crI, crL, crC, crW, crV, crR_e, crR_n, crN_e, crN_n, ciR, ciL, ciD, ciN_e, ciN_n, rdI_e, rdI_n, rdC_i, rdC_o, rdW, rdU_e, rdU_n, rdLW, clI, clR, clC, clD, clW, clV, clN_e, clN_n, clL_e, clL_n]; done) | (simp (disch := omega) only [shI, shR, shL, shC, shD, shW, sh_V, shN_e, shN_n, crI, crL, crC, crW, crV, crR_e, crR_n, crN_e, crN_n, ciR, ciL, ciD, ciN_e, ciN_n, rdI_e, rdI_n, rdC_i, rdC_o, rdW, rdU_e, rdU_n, rdLW, clI, clR, clC, clD, clW, clV, clN_e, clN_n, clL_e, clL_n] <;> first | assumption | rfl | omega))) dX2_init_175 kX2_83 (by omega) (by decide) rfl (Nat.le_of_ble_eq_true rfl) (rcv_o (by first | assumption | first | assumption | (simp (disch := omega) only [shI, shR, shL, shC, shD, shW, sh_V, shN_e, shN_n, crI, crL, crC, crW, crV, crR_e, crR_n, crN_e, crN_n, ciR, ciL, ciD, ciN_e, ciN_n, rdI_e, rdI_n, rdC_i, rdC_o, rdW, rdU_e, rdU_n, rdLW, clI, clR, clC, clD, clW, clV, clN_e, clN_n, clL_e, clL_n]; done) | (simp (disch := omega) only [shI, shR, shL, shC, shD, shW, sh_V, shN_e, shN_n, crI, crL, crC, crW, crV, crR_e, crR_n, crN_e, crN_n, ciR, ciL, ciD, ciN_e, ciN_n, rdI_e, rdI_n, rdC_i, rdC_o, rdW, rdU_e, rdU_n, rdLW, clI, clR, clC, clD, clW, clV, clN_e, clN_n, clL_e, clL_n] <;> first | assumption | rfl | omega)) rfl) (fun M175 h175 => ?_)
    obtain ⟨t175, i175, l175, n175, z175, k175⟩ := h175
    have s2'' : msh M175 2 = some (2, 0) := by rw [t175]; exact (shN_n (by omega)).trans ((shR).trans s2')
    refine g_putRF (kI := 6) rfl dX2_init_178 fX2_84_2 ffX2_init_84_2 (by first | assumption | first | assumption | (simp (disch := omega) only [shI, shR, shL, shC, shD, shW, sh_V, shN_e, shN_n, crI, crL, crC, crW, crV, crR_e, crR_n, crN_e, crN_n, ciR, ciL, ciD, ciN_e, ciN_n, rdI_e, rdI_n, rdC_i, rdC_o, rdW, rdU_e, rdU_n, rdLW, clI, clR, clC, clD, clW, clV, clN_e, clN_n, clL_e, clL_n]; done) | (simp (disch := omega) only [shI, shR, shL, shC, shD, shW, sh_V, shN_e, shN_n, crI, crL, crC, crW, crV, crR_e, crR_n, crN_e, crN_n, ciR, ciL, ciD, ciN_e, ciN_n, rdI_e, rdI_n, rdC_i, rdC_o, rdW, rdU_e, rdU_n, rdLW, clI, clR, clC, clD, clW, clV, clN_e, clN_n, clL_e, clL_n] <;> first | assumption | rfl | omega)) ?_
    refine x_vreturn rfl dX2_init_181 ?_
    have S : ∀ b, ¬ b = 53 → msh M175 b = msh M164 b := fun b q => by rw [t175]; exact shN_n q
    have I : ∀ b k, ¬ b = 53 → mci M175 b k = mci M164 b k := fun b k q => by rw [i175]; exact (ciN_n q)
    have C : ∀ b k, ¬ b = 53 → ¬ (b = 2 ∧ (k = 5 ∨ k = 6)) → mcr (mR M175 2 6 (some 53)) b k = mcr M164 b k := fun b k q q2 => (crR_n (by omega)).trans ((k175 b k q).trans ((crN_n q).trans (crR_n (by omega))))
    have C5 : mcr (mR M175 2 6 (some 53)) 2 5 = some 8 := (crR_n (by omega)).trans ((k175 2 5 (by omega)).trans ((crN_n (by omega)).trans (crR_e ⟨rfl, rfl⟩)))
    refine hQ _ _ ⟨rfl, ⟨⟨s2'', (S _ (by omega)).trans ((sh 3 (by omega)).1.trans s3), (S _ (by omega)).trans ((sh 4 (by omega)).1.trans s4), (S _ (by omega)).trans ((sh 5 (by omega)).1.trans s5), (S _ (by omega)).trans ((sh 6 (by omega)).1.trans s6), (S _ (by omega)).trans s7, by show msh M175 53 = _; rw [t175]; exact shN_e rfl⟩, ⟨(C _ _ (by omega) (by omega)).trans ((cr _ _ (by omega) (by omega)).trans c0), (C _ _ (by omega) (by omega)).trans ((cr _ _ (by omega) (by omega)).trans c1), (C _ _ (by omega) (by omega)).trans ((cr _ _ (by omega) (by omega)).trans c2), (C _ _ (by omega) (by omega)).trans ((cr _ _ (by omega) (by omega)).trans c3), (C _ _ (by omega) (by omega)).trans c4, C5, crR_e ⟨rfl, rfl⟩⟩, fun k a b => ?_, fun k a b => (C _ _ (by omega) (by omega)).trans ((cr _ _ (by omega) (by omega)).trans (x2 k a b)), fun k a b => (C _ _ (by omega) (by omega)).trans ((cr _ _ (by omega) (by omega)).trans (x3 k a b))⟩, t164.of (fun b x y => S b (by omega)) (fun b k x y w => C b k (by omega) (by omega)), ?_, fun k => (I _ _ (by omega)).trans (((sh 2 (by omega)).2.1 k).trans (i2 k)), fun k => (I _ _ (by omega)).trans (((sh 3 (by omega)).2.1 k).trans (i3 k)), fun k => (C _ _ (by omega) (by omega)).trans (c7 k), ?_, ?_, fun b (hb : b < 2) => ⟨(S b (by omega)).trans ((sh b (by omega)).1.trans (hk b hb).1), fun k => (I b k (by omega)).trans (((sh b (by omega)).2.1 k).trans ((hk b hb).2.1 k)), fun k => (C b k (by omega) (by omega)).trans ((cr b k (by omega) (by omega)).trans ((hk b hb).2.2.1 k)), fun k => ?_⟩⟩
    · rw [(C 4 k (by omega) (by omega)).trans ((cr _ _ (by omega) (by omega)).trans (x1 k a b)), Int.zero_add]
    · exact i164.kp (P := fun b => 8 ≤ b ∧ b ≤ 52) (fun b hb => ⟨S b (by omega), fun k => I b k (by omega), fun k => C b k (by omega) (by omega), fun k => by show mcl M175 b k = _; rw [l175]; exact clN_n (by omega)⟩) (fun b x y => ⟨by omega, by omega⟩)
    · show ((mnx M175 : Nat) : Int) = 54
      rw [n175]
      show ((mnx M164 + 1 : Nat) : Int) = 54
      omega
    · show mns M175 ≤ mns M + 2000
      rw [z175]
      show mns M164 + 7 ≤ mns M + 2000
      omega
    · show mcl M175 b k = mcl M b k
      rw [l175]
      exact (clN_n (by omega)).trans (((sh b (by omega)).2.2 k).trans ((hk b hb).2.2.2 k))
  have hz1 : ∀ k, mci M 2 k = 0 := fun k => (hz k).1
  refine x_aload_n dX2_init_0 rfl rfl ?_
  refine x_objInit (by omega) kX2_3 (by omega) (Nat.le_of_ble_eq_true rfl) dX2_init_1 ?_
  refine x_aload_n dX2_init_4 rfl rfl ?_
  refine x_sipush dX2_init_5 rfl ?_
  refine x_newaX (x := 3) (by first | (simp only [nxI, nxR, nxL, nxC, nxD, nxW, nxV, nxN]; done) | (simp only [nxI, nxR, nxL, nxC, nxD, nxW, nxV, nxN]; omega) | omega) (t := 101) (by decide) rfl q285 (by omega) (by omega) dX2_init_8 ?_
  refine g_putRF (kI := 0) rfl dX2_init_10 fX2_9_2 ffX2_init_9_2 (by first | assumption | first | assumption | (simp (disch := omega) only [shI, shR, shL, shC, shD, shW, sh_V, shN_e, shN_n, crI, crL, crC, crW, crV, crR_e, crR_n, crN_e, crN_n, ciR, ciL, ciD, ciN_e, ciN_n, rdI_e, rdI_n, rdC_i, rdC_o, rdW, rdU_e, rdU_n, rdLW, clI, clR, clC, clD, clW, clV, clN_e, clN_n, clL_e, clL_n]; done) | (simp (disch := omega) only [shI, shR, shL, shC, shD, shW, sh_V, shN_e, shN_n, crI, crL, crC, crW, crV, crR_e, crR_n, crN_e, crN_n, ciR, ciL, ciD, ciN_e, ciN_n, rdI_e, rdI_n, rdC_i, rdC_o, rdW, rdU_e, rdU_n, rdLW, clI, clR, clC, clD, clW, clV, clN_e, clN_n, clL_e, clL_n] <;> first | assumption | rfl | omega)) ?_
  generalize hA : mR _ 2 0 (some 3) = MA
  have kA : ∀ b, b < 2 → msh MA b = msh M b ∧ (∀ k, mci MA b k = mci M b k) ∧ (∀ k, mcr MA b k = mcr M b k) ∧ ∀ k, mcl MA b k = mcl M b k := fun b hb => by
    subst hA
    exact ⟨by simp (disch := omega) only [shI, shR, shL, shC, shD, shW, sh_V, shN_e, shN_n, crI, crL, crC, crW, crV, crR_e, crR_n, crN_e, crN_n, ciR, ciL, ciD, ciN_e, ciN_n, rdI_e, rdI_n, rdC_i, rdC_o, rdW, rdU_e, rdU_n, rdLW, clI, clR, clC, clD, clW, clV, clN_e, clN_n, clL_e, clL_n], fun k => by simp (disch := omega) only [shI, shR, shL, shC, shD, shW, sh_V, shN_e, shN_n, crI, crL, crC, crW, crV, crR_e, crR_n, crN_e, crN_n, ciR, ciL, ciD, ciN_e, ciN_n, rdI_e, rdI_n, rdC_i, rdC_o, rdW, rdU_e, rdU_n, rdLW, clI, clR, clC, clD, clW, clV, clN_e, clN_n, clL_e, clL_n], fun k => by simp (disch := omega) only [shI, shR, shL, shC, shD, shW, sh_V, shN_e, shN_n, crI, crL, crC, crW, crV, crR_e, crR_n, crN_e, crN_n, ciR, ciL, ciD, ciN_e, ciN_n, rdI_e, rdI_n, rdC_i, rdC_o, rdW, rdU_e, rdU_n, rdLW, clI, clR, clC, clD, clW, clV, clN_e, clN_n, clL_e, clL_n], fun k => by simp (disch := omega) only [shI, shR, shL, shC, shD, shW, sh_V, shN_e, shN_n, crI, crL, crC, crW, crV, crR_e, crR_n, crN_e, crN_n, ciR, ciL, ciD, ciN_e, ciN_n, rdI_e, rdI_n, rdC_i, rdC_o, rdW, rdU_e, rdU_n, rdLW, clI, clR, clC, clD, clW, clV, clN_e, clN_n, clL_e, clL_n]⟩
  have sA : msh MA 2 = some (2, 0) := by
    subst hA
    first | assumption | (simp (disch := omega) only [shI, shR, shL, shC, shD, shW, sh_V, shN_e, shN_n, crI, crL, crC, crW, crV, crR_e, crR_n, crN_e, crN_n, ciR, ciL, ciD, ciN_e, ciN_n, rdI_e, rdI_n, rdC_i, rdC_o, rdW, rdU_e, rdU_n, rdLW, clI, clR, clC, clD, clW, clV, clN_e, clN_n, clL_e, clL_n]; done) | (simp (disch := omega) only [shI, shR, shL, shC, shD, shW, sh_V, shN_e, shN_n, crI, crL, crC, crW, crV, crR_e, crR_n, crN_e, crN_n, ciR, ciL, ciD, ciN_e, ciN_n, rdI_e, rdI_n, rdC_i, rdC_o, rdW, rdU_e, rdU_n, rdLW, clI, clR, clC, clD, clW, clV, clN_e, clN_n, clL_e, clL_n] <;> first | assumption | rfl | omega)
  have iA : ∀ k, mci MA 2 k = 0 := fun k => by
    subst hA
    have := hz1 k
    first | assumption | (simp (disch := omega) only [shI, shR, shL, shC, shD, shW, sh_V, shN_e, shN_n, crI, crL, crC, crW, crV, crR_e, crR_n, crN_e, crN_n, ciR, ciL, ciD, ciN_e, ciN_n, rdI_e, rdI_n, rdC_i, rdC_o, rdW, rdU_e, rdU_n, rdLW, clI, clR, clC, clD, clW, clV, clN_e, clN_n, clL_e, clL_n]; done) | (simp (disch := omega) only [shI, shR, shL, shC, shD, shW, sh_V, shN_e, shN_n, crI, crL, crC, crW, crV, crR_e, crR_n, crN_e, crN_n, ciR, ciL, ciD, ciN_e, ciN_n, rdI_e, rdI_n, rdC_i, rdC_o, rdW, rdU_e, rdU_n, rdLW, clI, clR, clC, clD, clW, clV, clN_e, clN_n, clL_e, clL_n] <;> first | assumption | rfl | omega)
  have cA : mcr MA 2 0 = some 3 := by
    subst hA
    simp (disch := omega) only [shI, shR, shL, shC, shD, shW, sh_V, shN_e, shN_n, crI, crL, crC, crW, crV, crR_e, crR_n, crN_e, crN_n, ciR, ciL, ciD, ciN_e, ciN_n, rdI_e, rdI_n, rdC_i, rdC_o, rdW, rdU_e, rdU_n, rdLW, clI, clR, clC, clD, clW, clV, clN_e, clN_n, clL_e, clL_n]
  have tA : msh MA 3 = some (101, 400) := by
    subst hA
    first | assumption | (simp (disch := omega) only [shI, shR, shL, shC, shD, shW, sh_V, shN_e, shN_n, crI, crL, crC, crW, crV, crR_e, crR_n, crN_e, crN_n, ciR, ciL, ciD, ciN_e, ciN_n, rdI_e, rdI_n, rdC_i, rdC_o, rdW, rdU_e, rdU_n, rdLW, clI, clR, clC, clD, clW, clV, clN_e, clN_n, clL_e, clL_n]; done) | (simp (disch := omega) only [shI, shR, shL, shC, shD, shW, sh_V, shN_e, shN_n, crI, crL, crC, crW, crV, crR_e, crR_n, crN_e, crN_n, ciR, ciL, ciD, ciN_e, ciN_n, rdI_e, rdI_n, rdC_i, rdC_o, rdW, rdU_e, rdU_n, rdLW, clI, clR, clC, clD, clW, clV, clN_e, clN_n, clL_e, clL_n] <;> first | assumption | rfl | omega)
  have uA : ∀ k, mci MA 3 k = 0 := fun k => by
    subst hA
    simp (disch := omega) only [shI, shR, shL, shC, shD, shW, sh_V, shN_e, shN_n, crI, crL, crC, crW, crV, crR_e, crR_n, crN_e, crN_n, ciR, ciL, ciD, ciN_e, ciN_n, rdI_e, rdI_n, rdC_i, rdC_o, rdW, rdU_e, rdU_n, rdLW, clI, clR, clC, clD, clW, clV, clN_e, clN_n, clL_e, clL_n]
  have nA : (mnx MA : Int) = 4 := by
    subst hA
    first | (simp only [nxI, nxR, nxL, nxC, nxD, nxW, nxV, nxN]; done) | (simp only [nxI, nxR, nxL, nxC, nxD, nxW, nxV, nxN]; omega) | omega
  have zA : mns MA ≤ mns M + 400 := by
    subst hA
    (try simp only [nsI, nsR, nsL, nsC, nsD, nsW, nsV, nsN]); simp
  clear hA
  refine x_fgt (by repeat (first | exact trivial | refine ⟨rfl, ?_⟩)) (s_X2_initW (by omega) sA nA (tx MA kA) fun M1 a1 a2 a3 a4 a5 a6 a7 a8 => ?_)
  have k1 : ∀ b, b < 2 → msh M1 b = msh M b ∧ (∀ k, mci M1 b k = mci M b k) ∧ (∀ k, mcr M1 b k = mcr M b k) ∧ ∀ k, mcl M1 b k = mcl M b k := fun b hb => ⟨(a1 b (by omega) (by omega)).1.trans (kA b hb).1, fun k => ((a1 b (by omega) (by omega)).2.1 k).trans ((kA b hb).2.1 k), fun k => ((a1 b (by omega) (by omega)).2.2.1 k).trans ((kA b hb).2.2.1 k), fun k => ((a1 b (by omega) (by omega)).2.2.2 k).trans ((kA b hb).2.2.2 k)⟩
  refine s_X2_initG (by omega) a2 a7 (tx M1 k1) fun M2 b1 b2 b3 b4 b5 b6 b7 b8 => ?_
  have k2 : ∀ b, b < 2 → msh M2 b = msh M b ∧ (∀ k, mci M2 b k = mci M b k) ∧ (∀ k, mcr M2 b k = mcr M b k) ∧ ∀ k, mcl M2 b k = mcl M b k := fun b hb => ⟨(b1 b (by omega) (by omega)).1.trans (k1 b hb).1, fun k => ((b1 b (by omega) (by omega)).2.1 k).trans ((k1 b hb).2.1 k), fun k => ((b1 b (by omega) (by omega)).2.2.1 k).trans ((k1 b hb).2.2.1 k), fun k => ((b1 b (by omega) (by omega)).2.2.2 k).trans ((k1 b hb).2.2.2 k)⟩
  refine s_X2_initK (by omega) b2 b7 (tx M2 k2) fun M3 d1 d2 d3 d4 d5 d6 d7 d8 => ?_
  have k3 : ∀ b, b < 2 → msh M3 b = msh M b ∧ (∀ k, mci M3 b k = mci M b k) ∧ (∀ k, mcr M3 b k = mcr M b k) ∧ ∀ k, mcl M3 b k = mcl M b k := fun b hb => ⟨(d1 b (by omega) (by omega)).1.trans (k2 b hb).1, fun k => ((d1 b (by omega) (by omega)).2.1 k).trans ((k2 b hb).2.1 k), fun k => ((d1 b (by omega) (by omega)).2.2.1 k).trans ((k2 b hb).2.2.1 k), fun k => ((d1 b (by omega) (by omega)).2.2.2 k).trans ((k2 b hb).2.2.2 k)⟩
  refine fin M3 k3 d2 (fun k => (d3 k).trans ((b3 k).trans ((a3 k).trans (iA k)))) ⟨?_, ?_, ?_, ?_⟩ ⟨?_, ?_, ?_, d5⟩ (fun k => ?_) (fun k k0 k1 => ?_) (fun k k0 k1 => ?_) d6 d7 (by omega)
  · rw [d4, if_neg (by omega), b4, if_neg (by omega), a4, if_neg (by omega)]; exact cA
  · rw [d4, if_neg (by omega), b4, if_neg (by omega), a4, if_pos rfl]
  · rw [d4, if_neg (by omega), b4, if_pos rfl]
  · rw [d4, if_pos rfl]
  · exact (d1 3 (by omega) (by omega)).1.trans ((b1 3 (by omega) (by omega)).1.trans ((a1 3 (by omega) (by omega)).1.trans tA))
  · exact (d1 4 (by omega) (by omega)).1.trans ((b1 4 (by omega) (by omega)).1.trans a5)
  · exact (d1 5 (by omega) (by omega)).1.trans b5
  · exact ((d1 3 (by omega) (by omega)).2.1 k).trans (((b1 3 (by omega) (by omega)).2.1 k).trans (((a1 3 (by omega) (by omega)).2.1 k).trans (uA k)))
  · exact ((d1 4 (by omega) (by omega)).2.2.1 k).trans (((b1 4 (by omega) (by omega)).2.2.1 k).trans (a6 k k0 k1))
  · exact ((d1 5 (by omega) (by omega)).2.2.1 k).trans (b6 k k0 k1)
end INI


