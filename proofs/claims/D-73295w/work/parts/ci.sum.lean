/-! Reader of laws: its objects; parts and sums -/
section XI
variable {G : GW} {d : Nat} {M : Mem} {a b c k n z : Int} {r : Option Int}
theorem s_X10_init (hd : 10 ≤ d) (h0 : 0 ≤ a) (hs : msh M a = some (10, 0)) : CS G d mX10_init [dR a, dI k] M (postN fun M1 => M1 = mI M a 0 k) := by
  refine CS.mkQ (by decide) (Nat.le_of_ble_eq_true rfl) fun Q hQ => ?_
  refine x_aload_n dX10_init_0 rfl rfl ?_
  refine x_objInit (by omega) kX10_1 (by omega) (Nat.le_of_ble_eq_true rfl) dX10_init_1 ?_
  refine x_aload_n dX10_init_4 rfl rfl ?_
  refine x_iload_n dX10_init_5 rfl rfl ?_
  refine g_putIF (kI := 0) rfl dX10_init_6 fX10_7_10 ffX10_init_7_10 (by first | assumption | first | assumption | (simp (disch := omega) only [shI, shR, shL, shC, shD, shW, sh_V, shN_e, shN_n, crI, crL, crC, crW, crV, crR_e, crR_n, crN_e, crN_n, ciR, ciL, ciD, ciN_e, ciN_n, rdI_e, rdI_n, rdC_i, rdC_o, rdW, rdU_e, rdU_n, rdLW, clI, clR, clC, clD, clW, clV, clN_e, clN_n, clL_e, clL_n]; done) | (simp (disch := omega) only [shI, shR, shL, shC, shD, shW, sh_V, shN_e, shN_n, crI, crL, crC, crW, crV, crR_e, crR_n, crN_e, crN_n, ciR, ciL, ciD, ciN_e, ciN_n, rdI_e, rdI_n, rdC_i, rdC_o, rdW, rdU_e, rdU_n, rdLW, clI, clR, clC, clD, clW, clV, clN_e, clN_n, clL_e, clL_n] <;> first | assumption | rfl | omega)) ?_
  refine x_vreturn rfl dX10_init_9 ?_
  exact hQ _ _ ⟨rfl, rfl⟩
theorem s_X11_init (hd : 10 ≤ d) (h0 : 0 ≤ a) (hs : msh M a = some (11, 0)) (hx : (mnx M : Int) = a + 1) : CS G d mX11_init [dR a] M (postN fun M1 => M1 = mR (mNx M (a + 1) 100 7 7) a 0 (some (a + 1))) := by
  refine CS.mkQ (by decide) (Nat.le_of_ble_eq_true rfl) fun Q hQ => ?_
  refine x_aload_n dX11_init_0 rfl rfl ?_
  refine x_objInit (by omega) kX11_3 (by omega) (Nat.le_of_ble_eq_true rfl) dX11_init_1 ?_
  refine x_aload_n dX11_init_4 rfl rfl ?_
  refine x_bipush dX11_init_5 rfl ?_
  refine x_newaX (x := a + 1) (by first | (simp only [nxI, nxR, nxL, nxC, nxD, nxW, nxV, nxN]; done) | (simp only [nxI, nxR, nxL, nxC, nxD, nxW, nxV, nxN]; omega) | omega) (t := 100) (by decide) rfl q284 (by omega) (by omega) dX11_init_7 ?_
  refine g_putRF (kI := 0) rfl dX11_init_9 fX11_9_11 ffX11_init_9_11 (by first | assumption | first | assumption | (simp (disch := omega) only [shI, shR, shL, shC, shD, shW, sh_V, shN_e, shN_n, crI, crL, crC, crW, crV, crR_e, crR_n, crN_e, crN_n, ciR, ciL, ciD, ciN_e, ciN_n, rdI_e, rdI_n, rdC_i, rdC_o, rdW, rdU_e, rdU_n, rdLW, clI, clR, clC, clD, clW, clV, clN_e, clN_n, clL_e, clL_n]; done) | (simp (disch := omega) only [shI, shR, shL, shC, shD, shW, sh_V, shN_e, shN_n, crI, crL, crC, crW, crV, crR_e, crR_n, crN_e, crN_n, ciR, ciL, ciD, ciN_e, ciN_n, rdI_e, rdI_n, rdC_i, rdC_o, rdW, rdU_e, rdU_n, rdLW, clI, clR, clC, clD, clW, clV, clN_e, clN_n, clL_e, clL_n] <;> first | assumption | rfl | omega)) ?_
  refine x_vreturn rfl dX11_init_12 ?_
  exact hQ _ _ ⟨rfl, rfl⟩
theorem s_X12_init (hd : 10 ≤ d) (h0 : 0 ≤ a) (hs : msh M a = some (12, 0)) : CS G d mX12_init [dR a, dR b, dR c] M (postN fun M1 => M1 = mR (mR M a 0 (some b)) a 1 (some c)) := by
  refine CS.mkQ (by decide) (Nat.le_of_ble_eq_true rfl) fun Q hQ => ?_
  refine x_aload_n dX12_init_0 rfl rfl ?_
  refine x_objInit (by omega) kX12_1 (by omega) (Nat.le_of_ble_eq_true rfl) dX12_init_1 ?_
  refine x_aload_n dX12_init_4 rfl rfl ?_
  refine x_aload_n dX12_init_5 rfl rfl ?_
  refine g_putRF (kI := 0) rfl dX12_init_6 fX12_7_12 ffX12_init_7_12 (by first | assumption | first | assumption | (simp (disch := omega) only [shI, shR, shL, shC, shD, shW, sh_V, shN_e, shN_n, crI, crL, crC, crW, crV, crR_e, crR_n, crN_e, crN_n, ciR, ciL, ciD, ciN_e, ciN_n, rdI_e, rdI_n, rdC_i, rdC_o, rdW, rdU_e, rdU_n, rdLW, clI, clR, clC, clD, clW, clV, clN_e, clN_n, clL_e, clL_n]; done) | (simp (disch := omega) only [shI, shR, shL, shC, shD, shW, sh_V, shN_e, shN_n, crI, crL, crC, crW, crV, crR_e, crR_n, crN_e, crN_n, ciR, ciL, ciD, ciN_e, ciN_n, rdI_e, rdI_n, rdC_i, rdC_o, rdW, rdU_e, rdU_n, rdLW, clI, clR, clC, clD, clW, clV, clN_e, clN_n, clL_e, clL_n] <;> first | assumption | rfl | omega)) ?_
  refine x_aload_n dX12_init_9 rfl rfl ?_
  refine x_aload_n dX12_init_10 rfl rfl ?_
  refine g_putRF (kI := 1) rfl dX12_init_11 fX12_13_12 ffX12_init_13_12 (by first | assumption | first | assumption | (simp (disch := omega) only [shI, shR, shL, shC, shD, shW, sh_V, shN_e, shN_n, crI, crL, crC, crW, crV, crR_e, crR_n, crN_e, crN_n, ciR, ciL, ciD, ciN_e, ciN_n, rdI_e, rdI_n, rdC_i, rdC_o, rdW, rdU_e, rdU_n, rdLW, clI, clR, clC, clD, clW, clV, clN_e, clN_n, clL_e, clL_n]; done) | (simp (disch := omega) only [shI, shR, shL, shC, shD, shW, sh_V, shN_e, shN_n, crI, crL, crC, crW, crV, crR_e, crR_n, crN_e, crN_n, ciR, ciL, ciD, ciN_e, ciN_n, rdI_e, rdI_n, rdC_i, rdC_o, rdW, rdU_e, rdU_n, rdLW, clI, clR, clC, clD, clW, clV, clN_e, clN_n, clL_e, clL_n] <;> first | assumption | rfl | omega)) ?_
  refine x_vreturn rfl dX12_init_14 ?_
  exact hQ _ _ ⟨rfl, rfl⟩
theorem s_X13_init (hd : 10 ≤ d) (h0 : 0 ≤ a) (hs : msh M a = some (13, 0)) : CS G d mX13_init [dR a, dR b] M (postN fun M1 => M1 = mR M a 0 (some b)) := by
  refine CS.mkQ (by decide) (Nat.le_of_ble_eq_true rfl) fun Q hQ => ?_
  refine x_aload_n dX13_init_0 rfl rfl ?_
  refine x_objInit (by omega) kX13_1 (by omega) (Nat.le_of_ble_eq_true rfl) dX13_init_1 ?_
  refine x_aload_n dX13_init_4 rfl rfl ?_
  refine x_aload_n dX13_init_5 rfl rfl ?_
  refine g_putRF (kI := 0) rfl dX13_init_6 fX13_7_13 ffX13_init_7_13 (by first | assumption | first | assumption | (simp (disch := omega) only [shI, shR, shL, shC, shD, shW, sh_V, shN_e, shN_n, crI, crL, crC, crW, crV, crR_e, crR_n, crN_e, crN_n, ciR, ciL, ciD, ciN_e, ciN_n, rdI_e, rdI_n, rdC_i, rdC_o, rdW, rdU_e, rdU_n, rdLW, clI, clR, clC, clD, clW, clV, clN_e, clN_n, clL_e, clL_n]; done) | (simp (disch := omega) only [shI, shR, shL, shC, shD, shW, sh_V, shN_e, shN_n, crI, crL, crC, crW, crV, crR_e, crR_n, crN_e, crN_n, ciR, ciL, ciD, ciN_e, ciN_n, rdI_e, rdI_n, rdC_i, rdC_o, rdW, rdU_e, rdU_n, rdLW, clI, clR, clC, clD, clW, clV, clN_e, clN_n, clL_e, clL_n] <;> first | assumption | rfl | omega)) ?_
  refine x_vreturn rfl dX13_init_9 ?_
  exact hQ _ _ ⟨rfl, rfl⟩
theorem s_X9_init (hd : 10 ≤ d) (h0 : 0 ≤ a) (hs : msh M a = some (9, 0)) (hz : z = 0 ∨ z = 1) : CS G d mX9_init [dR a, dR b, dI z] M (postN fun M1 => M1 = mI (mR M a 0 (some b)) a 1 z) := by
  refine CS.mkQ (by decide) (Nat.le_of_ble_eq_true rfl) fun Q hQ => ?_
  refine x_aload_n dX9_init_0 rfl rfl ?_
  refine x_objInit (by omega) kX9_1 (by omega) (Nat.le_of_ble_eq_true rfl) dX9_init_1 ?_
  refine x_aload_n dX9_init_4 rfl rfl ?_
  refine x_aload_n dX9_init_5 rfl rfl ?_
  refine g_putRF (kI := 0) rfl dX9_init_6 fX9_7_9 ffX9_init_7_9 (by first | assumption | first | assumption | (simp (disch := omega) only [shI, shR, shL, shC, shD, shW, sh_V, shN_e, shN_n, crI, crL, crC, crW, crV, crR_e, crR_n, crN_e, crN_n, ciR, ciL, ciD, ciN_e, ciN_n, rdI_e, rdI_n, rdC_i, rdC_o, rdW, rdU_e, rdU_n, rdLW, clI, clR, clC, clD, clW, clV, clN_e, clN_n, clL_e, clL_n]; done) | (simp (disch := omega) only [shI, shR, shL, shC, shD, shW, sh_V, shN_e, shN_n, crI, crL, crC, crW, crV, crR_e, crR_n, crN_e, crN_n, ciR, ciL, ciD, ciN_e, ciN_n, rdI_e, rdI_n, rdC_i, rdC_o, rdW, rdU_e, rdU_n, rdLW, clI, clR, clC, clD, clW, clV, clN_e, clN_n, clL_e, clL_n] <;> first | assumption | rfl | omega)) ?_
  refine x_aload_n dX9_init_9 rfl rfl ?_
  refine x_iload_n dX9_init_10 rfl rfl ?_
  refine g_putZF (by exact hz) (kI := 1) rfl dX9_init_11 fX9_13_9 ffX9_init_13_9 (by first | assumption | first | assumption | (simp (disch := omega) only [shI, shR, shL, shC, shD, shW, sh_V, shN_e, shN_n, crI, crL, crC, crW, crV, crR_e, crR_n, crN_e, crN_n, ciR, ciL, ciD, ciN_e, ciN_n, rdI_e, rdI_n, rdC_i, rdC_o, rdW, rdU_e, rdU_n, rdLW, clI, clR, clC, clD, clW, clV, clN_e, clN_n, clL_e, clL_n]; done) | (simp (disch := omega) only [shI, shR, shL, shC, shD, shW, sh_V, shN_e, shN_n, crI, crL, crC, crW, crV, crR_e, crR_n, crN_e, crN_n, ciR, ciL, ciD, ciN_e, ciN_n, rdI_e, rdI_n, rdC_i, rdC_o, rdW, rdU_e, rdU_n, rdLW, clI, clR, clC, clD, clW, clV, clN_e, clN_n, clL_e, clL_n] <;> first | assumption | rfl | omega)) ?_
  refine x_vreturn rfl dX9_init_14 ?_
  exact hQ _ _ ⟨rfl, rfl⟩
theorem s_X14_init (hd : 10 ≤ d) (h0 : 0 ≤ a) (hs : msh M a = some (15, 0) ∨ msh M a = some (16, 0) ∨ msh M a = some (17, 0)) : CS G d mX14_init [dR a, dI n, dO r] M (postN fun M1 => M1 = mR (mI M a 0 n) a 1 r) := by
  rcases hs with hs | hs | hs
  · refine CS.mkQ (by decide) (Nat.le_of_ble_eq_true rfl) fun Q hQ => ?_
    refine x_aload_n dX14_init_0 rfl rfl ?_
    refine x_objInit (by omega) kX14_1 (by omega) (Nat.le_of_ble_eq_true rfl) dX14_init_1 ?_
    refine x_aload_n dX14_init_4 rfl rfl ?_
    refine x_iload_n dX14_init_5 rfl rfl ?_
    refine g_putIF (kI := 0) rfl dX14_init_6 fX14_7_15 ffX14_init_7_15 (by first | assumption | first | assumption | (simp (disch := omega) only [shI, shR, shL, shC, shD, shW, sh_V, shN_e, shN_n, crI, crL, crC, crW, crV, crR_e, crR_n, crN_e, crN_n, ciR, ciL, ciD, ciN_e, ciN_n, rdI_e, rdI_n, rdC_i, rdC_o, rdW, rdU_e, rdU_n, rdLW, clI, clR, clC, clD, clW, clV, clN_e, clN_n, clL_e, clL_n]; done) | (simp (disch := omega) only [shI, shR, shL, shC, shD, shW, sh_V, shN_e, shN_n, crI, crL, crC, crW, crV, crR_e, crR_n, crN_e, crN_n, ciR, ciL, ciD, ciN_e, ciN_n, rdI_e, rdI_n, rdC_i, rdC_o, rdW, rdU_e, rdU_n, rdLW, clI, clR, clC, clD, clW, clV, clN_e, clN_n, clL_e, clL_n] <;> first | assumption | rfl | omega)) ?_
    refine x_aload_n dX14_init_9 rfl rfl ?_
    refine x_aload_n dX14_init_10 rfl rfl ?_
    refine g_putRF (kI := 1) rfl dX14_init_11 fX14_13_15 ffX14_init_13_15 (by first | assumption | first | assumption | (simp (disch := omega) only [shI, shR, shL, shC, shD, shW, sh_V, shN_e, shN_n, crI, crL, crC, crW, crV, crR_e, crR_n, crN_e, crN_n, ciR, ciL, ciD, ciN_e, ciN_n, rdI_e, rdI_n, rdC_i, rdC_o, rdW, rdU_e, rdU_n, rdLW, clI, clR, clC, clD, clW, clV, clN_e, clN_n, clL_e, clL_n]; done) | (simp (disch := omega) only [shI, shR, shL, shC, shD, shW, sh_V, shN_e, shN_n, crI, crL, crC, crW, crV, crR_e, crR_n, crN_e, crN_n, ciR, ciL, ciD, ciN_e, ciN_n, rdI_e, rdI_n, rdC_i, rdC_o, rdW, rdU_e, rdU_n, rdLW, clI, clR, clC, clD, clW, clV, clN_e, clN_n, clL_e, clL_n] <;> first | assumption | rfl | omega)) ?_
    refine x_vreturn rfl dX14_init_14 ?_
    exact hQ _ _ ⟨rfl, rfl⟩
  · refine CS.mkQ (by decide) (Nat.le_of_ble_eq_true rfl) fun Q hQ => ?_
    refine x_aload_n dX14_init_0 rfl rfl ?_
    refine x_objInit (by omega) kX14_1 (by omega) (Nat.le_of_ble_eq_true rfl) dX14_init_1 ?_
    refine x_aload_n dX14_init_4 rfl rfl ?_
    refine x_iload_n dX14_init_5 rfl rfl ?_
    refine g_putIF (kI := 0) rfl dX14_init_6 fX14_7_16 ffX14_init_7_16 (by first | assumption | first | assumption | (simp (disch := omega) only [shI, shR, shL, shC, shD, shW, sh_V, shN_e, shN_n, crI, crL, crC, crW, crV, crR_e, crR_n, crN_e, crN_n, ciR, ciL, ciD, ciN_e, ciN_n, rdI_e, rdI_n, rdC_i, rdC_o, rdW, rdU_e, rdU_n, rdLW, clI, clR, clC, clD, clW, clV, clN_e, clN_n, clL_e, clL_n]; done) | (simp (disch := omega) only [shI, shR, shL, shC, shD, shW, sh_V, shN_e, shN_n, crI, crL, crC, crW, crV, crR_e, crR_n, crN_e, crN_n, ciR, ciL, ciD, ciN_e, ciN_n, rdI_e, rdI_n, rdC_i, rdC_o, rdW, rdU_e, rdU_n, rdLW, clI, clR, clC, clD, clW, clV, clN_e, clN_n, clL_e, clL_n] <;> first | assumption | rfl | omega)) ?_
    refine x_aload_n dX14_init_9 rfl rfl ?_
    refine x_aload_n dX14_init_10 rfl rfl ?_
    refine g_putRF (kI := 1) rfl dX14_init_11 fX14_13_16 ffX14_init_13_16 (by first | assumption | first | assumption | (simp (disch := omega) only [shI, shR, shL, shC, shD, shW, sh_V, shN_e, shN_n, crI, crL, crC, crW, crV, crR_e, crR_n, crN_e, crN_n, ciR, ciL, ciD, ciN_e, ciN_n, rdI_e, rdI_n, rdC_i, rdC_o, rdW, rdU_e, rdU_n, rdLW, clI, clR, clC, clD, clW, clV, clN_e, clN_n, clL_e, clL_n]; done) | (simp (disch := omega) only [shI, shR, shL, shC, shD, shW, sh_V, shN_e, shN_n, crI, crL, crC, crW, crV, crR_e, crR_n, crN_e, crN_n, ciR, ciL, ciD, ciN_e, ciN_n, rdI_e, rdI_n, rdC_i, rdC_o, rdW, rdU_e, rdU_n, rdLW, clI, clR, clC, clD, clW, clV, clN_e, clN_n, clL_e, clL_n] <;> first | assumption | rfl | omega)) ?_
    refine x_vreturn rfl dX14_init_14 ?_
    exact hQ _ _ ⟨rfl, rfl⟩
  · refine CS.mkQ (by decide) (Nat.le_of_ble_eq_true rfl) fun Q hQ => ?_
    refine x_aload_n dX14_init_0 rfl rfl ?_
    refine x_objInit (by omega) kX14_1 (by omega) (Nat.le_of_ble_eq_true rfl) dX14_init_1 ?_
    refine x_aload_n dX14_init_4 rfl rfl ?_
    refine x_iload_n dX14_init_5 rfl rfl ?_
    refine g_putIF (kI := 0) rfl dX14_init_6 fX14_7_17 ffX14_init_7_17 (by first | assumption | first | assumption | (simp (disch := omega) only [shI, shR, shL, shC, shD, shW, sh_V, shN_e, shN_n, crI, crL, crC, crW, crV, crR_e, crR_n, crN_e, crN_n, ciR, ciL, ciD, ciN_e, ciN_n, rdI_e, rdI_n, rdC_i, rdC_o, rdW, rdU_e, rdU_n, rdLW, clI, clR, clC, clD, clW, clV, clN_e, clN_n, clL_e, clL_n]; done) | (simp (disch := omega) only [shI, shR, shL, shC, shD, shW, sh_V, shN_e, shN_n, crI, crL, crC, crW, crV, crR_e, crR_n, crN_e, crN_n, ciR, ciL, ciD, ciN_e, ciN_n, rdI_e, rdI_n, rdC_i, rdC_o, rdW, rdU_e, rdU_n, rdLW, clI, clR, clC, clD, clW, clV, clN_e, clN_n, clL_e, clL_n] <;> first | assumption | rfl | omega)) ?_
    refine x_aload_n dX14_init_9 rfl rfl ?_
    refine x_aload_n dX14_init_10 rfl rfl ?_
    refine g_putRF (kI := 1) rfl dX14_init_11 fX14_13_17 ffX14_init_13_17 (by first | assumption | first | assumption | (simp (disch := omega) only [shI, shR, shL, shC, shD, shW, sh_V, shN_e, shN_n, crI, crL, crC, crW, crV, crR_e, crR_n, crN_e, crN_n, ciR, ciL, ciD, ciN_e, ciN_n, rdI_e, rdI_n, rdC_i, rdC_o, rdW, rdU_e, rdU_n, rdLW, clI, clR, clC, clD, clW, clV, clN_e, clN_n, clL_e, clL_n]; done) | (simp (disch := omega) only [shI, shR, shL, shC, shD, shW, sh_V, shN_e, shN_n, crI, crL, crC, crW, crV, crR_e, crR_n, crN_e, crN_n, ciR, ciL, ciD, ciN_e, ciN_n, rdI_e, rdI_n, rdC_i, rdC_o, rdW, rdU_e, rdU_n, rdLW, clI, clR, clC, clD, clW, clV, clN_e, clN_n, clL_e, clL_n] <;> first | assumption | rfl | omega)) ?_
    refine x_vreturn rfl dX14_init_14 ?_
    exact hQ _ _ ⟨rfl, rfl⟩
theorem s_X15_init (hd : 12 ≤ d) (h0 : 0 ≤ a) (hs : msh M a = some (15, 0)) : CS G d mX15_init [dR a, dI n, dO r] M (postN fun M1 => M1 = mR (mI M a 0 n) a 1 r) := by
  refine CS.mkQ (by decide) (Nat.le_of_ble_eq_true rfl) fun Q hQ => ?_
  refine x_aload_n dX15_init_0 rfl rfl ?_
  refine x_iload_n dX15_init_1 rfl rfl ?_
  refine x_aload_n dX15_init_2 rfl rfl ?_
  refine g_callN (vs := [_, _, _]) (d' := d - 1) rfl (s_X14_init (by omega) h0 (Or.inl hs)) dX15_init_3 kX15_1 (by omega) (by decide) rfl (Nat.le_of_ble_eq_true rfl) (rcv_o (by first | assumption | first | assumption | (simp (disch := omega) only [shI, shR, shL, shC, shD, shW, sh_V, shN_e, shN_n, crI, crL, crC, crW, crV, crR_e, crR_n, crN_e, crN_n, ciR, ciL, ciD, ciN_e, ciN_n, rdI_e, rdI_n, rdC_i, rdC_o, rdW, rdU_e, rdU_n, rdLW, clI, clR, clC, clD, clW, clV, clN_e, clN_n, clL_e, clL_n]; done) | (simp (disch := omega) only [shI, shR, shL, shC, shD, shW, sh_V, shN_e, shN_n, crI, crL, crC, crW, crV, crR_e, crR_n, crN_e, crN_n, ciR, ciL, ciD, ciN_e, ciN_n, rdI_e, rdI_n, rdC_i, rdC_o, rdW, rdU_e, rdU_n, rdLW, clI, clR, clC, clD, clW, clV, clN_e, clN_n, clL_e, clL_n] <;> first | assumption | rfl | omega)) rfl) (fun M3 h3 => ?_)
  refine x_vreturn rfl dX15_init_6 ?_
  exact hQ _ _ ⟨rfl, h3⟩
theorem s_X16_init (hd : 12 ≤ d) (h0 : 0 ≤ a) (hs : msh M a = some (16, 0)) : CS G d mX16_init [dR a, dI n, dO r] M (postN fun M1 => M1 = mR (mI M a 0 n) a 1 r) := by
  refine CS.mkQ (by decide) (Nat.le_of_ble_eq_true rfl) fun Q hQ => ?_
  refine x_aload_n dX16_init_0 rfl rfl ?_
  refine x_iload_n dX16_init_1 rfl rfl ?_
  refine x_aload_n dX16_init_2 rfl rfl ?_
  refine g_callN (vs := [_, _, _]) (d' := d - 1) rfl (s_X14_init (by omega) h0 (Or.inr (Or.inl hs))) dX16_init_3 kX16_1 (by omega) (by decide) rfl (Nat.le_of_ble_eq_true rfl) (rcv_o (by first | assumption | first | assumption | (simp (disch := omega) only [shI, shR, shL, shC, shD, shW, sh_V, shN_e, shN_n, crI, crL, crC, crW, crV, crR_e, crR_n, crN_e, crN_n, ciR, ciL, ciD, ciN_e, ciN_n, rdI_e, rdI_n, rdC_i, rdC_o, rdW, rdU_e, rdU_n, rdLW, clI, clR, clC, clD, clW, clV, clN_e, clN_n, clL_e, clL_n]; done) | (simp (disch := omega) only [shI, shR, shL, shC, shD, shW, sh_V, shN_e, shN_n, crI, crL, crC, crW, crV, crR_e, crR_n, crN_e, crN_n, ciR, ciL, ciD, ciN_e, ciN_n, rdI_e, rdI_n, rdC_i, rdC_o, rdW, rdU_e, rdU_n, rdLW, clI, clR, clC, clD, clW, clV, clN_e, clN_n, clL_e, clL_n] <;> first | assumption | rfl | omega)) rfl) (fun M3 h3 => ?_)
  refine x_vreturn rfl dX16_init_6 ?_
  exact hQ _ _ ⟨rfl, h3⟩
theorem s_X17_init (hd : 12 ≤ d) (h0 : 0 ≤ a) (hs : msh M a = some (17, 0)) : CS G d mX17_init [dR a, dI n, dO r] M (postN fun M1 => M1 = mR (mI M a 0 n) a 1 r) := by
  refine CS.mkQ (by decide) (Nat.le_of_ble_eq_true rfl) fun Q hQ => ?_
  refine x_aload_n dX17_init_0 rfl rfl ?_
  refine x_iload_n dX17_init_1 rfl rfl ?_
  refine x_aload_n dX17_init_2 rfl rfl ?_
  refine g_callN (vs := [_, _, _]) (d' := d - 1) rfl (s_X14_init (by omega) h0 (Or.inr (Or.inr hs))) dX17_init_3 kX17_1 (by omega) (by decide) rfl (Nat.le_of_ble_eq_true rfl) (rcv_o (by first | assumption | first | assumption | (simp (disch := omega) only [shI, shR, shL, shC, shD, shW, sh_V, shN_e, shN_n, crI, crL, crC, crW, crV, crR_e, crR_n, crN_e, crN_n, ciR, ciL, ciD, ciN_e, ciN_n, rdI_e, rdI_n, rdC_i, rdC_o, rdW, rdU_e, rdU_n, rdLW, clI, clR, clC, clD, clW, clV, clN_e, clN_n, clL_e, clL_n]; done) | (simp (disch := omega) only [shI, shR, shL, shC, shD, shW, sh_V, shN_e, shN_n, crI, crL, crC, crW, crV, crR_e, crR_n, crN_e, crN_n, ciR, ciL, ciD, ciN_e, ciN_n, rdI_e, rdI_n, rdC_i, rdC_o, rdW, rdU_e, rdU_n, rdLW, clI, clR, clC, clD, clW, clV, clN_e, clN_n, clL_e, clL_n] <;> first | assumption | rfl | omega)) rfl) (fun M3 h3 => ?_)
  refine x_vreturn rfl dX17_init_6 ?_
  exact hQ _ _ ⟨rfl, h3⟩
end XI
/-- a sum that one part more was added to -/
def SmU (M M1 : Mem) (a : Int) (F : (Int → Int) → Int) : Prop :=
  M1 = wI M (mci M1) ∧ (∀ b k, ¬ (b = a ∧ k = 1) → ¬ b = a + 1 → mci M1 b k = mci M b k) ∧ (∀ fc, sumL (mci M1) a fc = sumL (mci M) a fc + F fc) ∧ (mci M a 1 ≤ mci M1 a 1 ∧ mci M1 a 1 ≤ mci M a 1 + 999) ∧ ∀ k, 0 ≤ k → k < 7 → mci M (a + 1) k ≤ mci M1 (a + 1) k ∧ mci M1 (a + 1) k ≤ mci M (a + 1) k + 1
section X2
variable {G : GW} {d : Nat} {M M1 : Mem} {p e lo hi k n x a b c : Int} {tp : Int → Int} {u : Vw}
theorem s_X2_part (hd : 20 ≤ d) (hR : RdX M tp e) (hp : 0 ≤ p ∧ p ≤ e) (ha : 54 ≤ a) (hs : msh M a = some (11, 0)) (hs1 : msh M (a + 1) = some (100, 7)) (hc : mcr M a 0 = some (a + 1)) (hN : 0 ≤ mci M a 1 ∧ mci M a 1 ≤ 1000000) (hT : ∀ k, 0 ≤ k → k < 7 → 0 ≤ mci M (a + 1) k ∧ mci M (a + 1) k ≤ 1000000) : CS G d mX2_part [dR 2, dR a] (mP M p) (orT (postN fun M1 => ∃ (y : LgS) (F : (Int → Int) → Int) (M' : Mem), rPart tp e (p, c, u) = .inr y ∧ Ev (p, c, u) y F ∧ M1 = mP M' y.1 ∧ SmU M M' a F) (fun a E M1 => ∃ f, rPart tp e (p, c, u) = .inl f ∧ FlX M f a E M1)) := by
  obtain ⟨⟨⟨r0, r3, r4, r5, r6, r7, r53⟩, ⟨c0, c1, c2, c3, c4, c5, c6⟩, x1, x2, x3⟩, he, htp, he2, hX, hB⟩ := id hR
  have hsk := skB_r (tp := tp) hp.2
  have hss : skB tp e (skB tp e p) = skB tp e p := skB_i _ rfl
  refine CS.mkQ (by decide) (Nat.le_of_ble_eq_true rfl) fun Q hQ => ?_
  by_cases hf : chP tp e 48 57 (skB tp e p)
  · have hw : wdB tp e (skB tp e p) = skB tp e p := spB_e fun q => by
      have h1 := q.2
      have h2 := hf.2
      omega
    have er0 : rPart tp e (p, c, u) = (match numP tp e p 0 999 with
          | none => .inl (skB tp e p)
          | some y => .inr (em (y.1, c, u) 10 y.2)) := if_pos hw
    rcases hn : numP tp e p 0 999 with _ | ⟨y, z⟩
    · rw [hn] at er0
      dsimp only at er0
      refine x_aload_n dX2_part_0 rfl rfl ?_
      refine g_callI (vs := [_]) (d' := d - 1) rfl (s_X2_isFigure (by omega) hR (by omega)) dX2_part_1 kX2_205 (by omega) (by decide) rfl (Nat.le_of_ble_eq_true rfl) (rcv_o (by first | assumption | first | assumption | (simp (disch := omega) only [shI, shR, shL, shC, shD, shW, sh_V, shN_e, shN_n, crI, crL, crC, crW, crV, crR_e, crR_n, crN_e, crN_n, ciR, ciL, ciD, ciN_e, ciN_n, rdI_e, rdI_n, rdC_i, rdC_o, rdW, rdU_e, rdU_n, rdLW, clI, clR, clC, clD, clW, clV, clN_e, clN_n, clL_e, clL_n]; done) | (simp (disch := omega) only [shI, shR, shL, shC, shD, shW, sh_V, shN_e, shN_n, crI, crL, crC, crW, crV, crR_e, crR_n, crN_e, crN_n, ciR, ciL, ciD, ciN_e, ciN_n, rdI_e, rdI_n, rdC_i, rdC_o, rdW, rdU_e, rdU_n, rdLW, clI, clR, clC, clD, clW, clV, clN_e, clN_n, clL_e, clL_n] <;> first | assumption | rfl | omega)) rfl) (fun x1 M1 h1 => ?_)
      obtain ⟨e1, f1⟩ := h1
      have f1' := f1.symm
      subst f1'
      subst e1
      refine x_if_eq (tgt := 25) dX2_part_4 (by decide) (fun h4 => ?_) (fun h4 => ?_)
      · try simp only [vP_0, vP_1, vP_n0, vP_n1, Classical.not_not] at h4
        exact absurd hf h4
      · try simp only [vP_0, vP_1, vP_n0, vP_n1, Classical.not_not] at h4
        refine x_aload_n dX2_part_7 rfl rfl ?_
        refine x_dup dX2_part_8 rfl ?_
        refine g_getI (kI := 1) rfl dX2_part_9 fX2_282_11 (by first | assumption | first | assumption | (simp (disch := omega) only [shI, shR, shL, shC, shD, shW, sh_V, shN_e, shN_n, crI, crL, crC, crW, crV, crR_e, crR_n, crN_e, crN_n, ciR, ciL, ciD, ciN_e, ciN_n, rdI_e, rdI_n, rdC_i, rdC_o, rdW, rdU_e, rdU_n, rdLW, clI, clR, clC, clD, clW, clV, clN_e, clN_n, clL_e, clL_n]; done) | (simp (disch := omega) only [shI, shR, shL, shC, shD, shW, sh_V, shN_e, shN_n, crI, crL, crC, crW, crV, crR_e, crR_n, crN_e, crN_n, ciR, ciL, ciD, ciN_e, ciN_n, rdI_e, rdI_n, rdC_i, rdC_o, rdW, rdU_e, rdU_n, rdLW, clI, clR, clC, clD, clW, clV, clN_e, clN_n, clL_e, clL_n] <;> first | assumption | rfl | omega)) ?_
        try simp (disch := omega) only [rdI_e, rdI_n, rdC_i, rdC_o, rdW, rdR, rdU_e, rdU_n, rdLW, Int.add_zero, mP_p, mP_o]
        refine x_aload_n dX2_part_12 rfl rfl ?_
        refine x_iconst dX2_part_13 rfl ?_
        refine x_sipush dX2_part_14 rfl ?_
        refine g_callIX (vs := [_, _, _]) (d' := d - 1) rfl (s_X2_number (by omega) hR (by omega)) dX2_part_17 kX2_124 (by omega) (by decide) rfl (Nat.le_of_ble_eq_true rfl) (rcv_o (by first | assumption | first | assumption | (simp (disch := omega) only [shI, shR, shL, shC, shD, shW, sh_V, shN_e, shN_n, crI, crL, crC, crW, crV, crR_e, crR_n, crN_e, crN_n, ciR, ciL, ciD, ciN_e, ciN_n, rdI_e, rdI_n, rdC_i, rdC_o, rdW, rdU_e, rdU_n, rdLW, clI, clR, clC, clD, clW, clV, clN_e, clN_n, clL_e, clL_n]; done) | (simp (disch := omega) only [shI, shR, shL, shC, shD, shW, sh_V, shN_e, shN_n, crI, crL, crC, crW, crV, crR_e, crR_n, crN_e, crN_n, ciR, ciL, ciD, ciN_e, ciN_n, rdI_e, rdI_n, rdC_i, rdC_o, rdW, rdU_e, rdU_n, rdLW, clI, clR, clC, clD, clW, clV, clN_e, clN_n, clL_e, clL_n] <;> first | assumption | rfl | omega)) rfl) (fun x17 M17 h17 => ?_) (fun a17 E17 M17 h17 => ?_)
        · obtain ⟨z, hz, -⟩ := h17
          rw [numP_sk, hn] at hz
          cases hz
          skip
        · rw [hss] at h17
          exact th_nil rfl (hQ _ _ (Or.inr ⟨_, _, rfl, _, er0, h17.2⟩))
    · rw [hn] at er0
      dsimp only at er0
      have hnr := numP_r hp.2 hn
      have e1 : mci (mI M a 1 (mci M a 1 + z)) a 1 = mci M a 1 + z := rdI_e ⟨rfl, rfl⟩
      have e2 : ∀ k, mci (mI M a 1 (mci M a 1 + z)) (a + 1) k = mci M (a + 1) k := fun k => rdI_n (by omega)
      have hU : SmU M (mI M a 1 (mci M a 1 + z)) a (fun _ => z) := ⟨rfl, fun b k q1 q2 => rdI_n q1, fun fc => sumP_n e1 e2 7, by rw [e1]; omega, fun k _ _ => by rw [e2]; omega⟩
      refine x_aload_n dX2_part_0 rfl rfl ?_
      refine g_callI (vs := [_]) (d' := d - 1) rfl (s_X2_isFigure (by omega) hR (by omega)) dX2_part_1 kX2_205 (by omega) (by decide) rfl (Nat.le_of_ble_eq_true rfl) (rcv_o (by first | assumption | first | assumption | (simp (disch := omega) only [shI, shR, shL, shC, shD, shW, sh_V, shN_e, shN_n, crI, crL, crC, crW, crV, crR_e, crR_n, crN_e, crN_n, ciR, ciL, ciD, ciN_e, ciN_n, rdI_e, rdI_n, rdC_i, rdC_o, rdW, rdU_e, rdU_n, rdLW, clI, clR, clC, clD, clW, clV, clN_e, clN_n, clL_e, clL_n]; done) | (simp (disch := omega) only [shI, shR, shL, shC, shD, shW, sh_V, shN_e, shN_n, crI, crL, crC, crW, crV, crR_e, crR_n, crN_e, crN_n, ciR, ciL, ciD, ciN_e, ciN_n, rdI_e, rdI_n, rdC_i, rdC_o, rdW, rdU_e, rdU_n, rdLW, clI, clR, clC, clD, clW, clV, clN_e, clN_n, clL_e, clL_n] <;> first | assumption | rfl | omega)) rfl) (fun x1 M1 h1 => ?_)
      obtain ⟨e1, f1⟩ := h1
      have f1' := f1.symm
      subst f1'
      subst e1
      refine x_if_eq (tgt := 25) dX2_part_4 (by decide) (fun h4 => ?_) (fun h4 => ?_)
      · try simp only [vP_0, vP_1, vP_n0, vP_n1, Classical.not_not] at h4
        exact absurd hf h4
      · try simp only [vP_0, vP_1, vP_n0, vP_n1, Classical.not_not] at h4
        refine x_aload_n dX2_part_7 rfl rfl ?_
        refine x_dup dX2_part_8 rfl ?_
        refine g_getI (kI := 1) rfl dX2_part_9 fX2_282_11 (by first | assumption | first | assumption | (simp (disch := omega) only [shI, shR, shL, shC, shD, shW, sh_V, shN_e, shN_n, crI, crL, crC, crW, crV, crR_e, crR_n, crN_e, crN_n, ciR, ciL, ciD, ciN_e, ciN_n, rdI_e, rdI_n, rdC_i, rdC_o, rdW, rdU_e, rdU_n, rdLW, clI, clR, clC, clD, clW, clV, clN_e, clN_n, clL_e, clL_n]; done) | (simp (disch := omega) only [shI, shR, shL, shC, shD, shW, sh_V, shN_e, shN_n, crI, crL, crC, crW, crV, crR_e, crR_n, crN_e, crN_n, ciR, ciL, ciD, ciN_e, ciN_n, rdI_e, rdI_n, rdC_i, rdC_o, rdW, rdU_e, rdU_n, rdLW, clI, clR, clC, clD, clW, clV, clN_e, clN_n, clL_e, clL_n] <;> first | assumption | rfl | omega)) ?_
        try simp (disch := omega) only [rdI_e, rdI_n, rdC_i, rdC_o, rdW, rdR, rdU_e, rdU_n, rdLW, Int.add_zero, mP_p, mP_o]
        refine x_aload_n dX2_part_12 rfl rfl ?_
        refine x_iconst dX2_part_13 rfl ?_
        refine x_sipush dX2_part_14 rfl ?_
        refine g_callIX (vs := [_, _, _]) (d' := d - 1) rfl (s_X2_number (by omega) hR (by omega)) dX2_part_17 kX2_124 (by omega) (by decide) rfl (Nat.le_of_ble_eq_true rfl) (rcv_o (by first | assumption | first | assumption | (simp (disch := omega) only [shI, shR, shL, shC, shD, shW, sh_V, shN_e, shN_n, crI, crL, crC, crW, crV, crR_e, crR_n, crN_e, crN_n, ciR, ciL, ciD, ciN_e, ciN_n, rdI_e, rdI_n, rdC_i, rdC_o, rdW, rdU_e, rdU_n, rdLW, clI, clR, clC, clD, clW, clV, clN_e, clN_n, clL_e, clL_n]; done) | (simp (disch := omega) only [shI, shR, shL, shC, shD, shW, sh_V, shN_e, shN_n, crI, crL, crC, crW, crV, crR_e, crR_n, crN_e, crN_n, ciR, ciL, ciD, ciN_e, ciN_n, rdI_e, rdI_n, rdC_i, rdC_o, rdW, rdU_e, rdU_n, rdLW, clI, clR, clC, clD, clW, clV, clN_e, clN_n, clL_e, clL_n] <;> first | assumption | rfl | omega)) rfl) (fun x17 M17 h17 => ?_) (fun a17 E17 M17 h17 => ?_)
        · obtain ⟨z', hz, hM⟩ := h17
          rw [numP_sk, hn] at hz
          cases hz
          subst hM
          first | refine x_iaddN dX2_part_20 (by unfold i32; omega) ?_ | refine x_iadd dX2_part_20 ?_
          refine g_putI (kI := 1) rfl dX2_part_21 fX2_282_11 (by first | assumption | first | assumption | (simp (disch := omega) only [shI, shR, shL, shC, shD, shW, sh_V, shN_e, shN_n, crI, crL, crC, crW, crV, crR_e, crR_n, crN_e, crN_n, ciR, ciL, ciD, ciN_e, ciN_n, rdI_e, rdI_n, rdC_i, rdC_o, rdW, rdU_e, rdU_n, rdLW, clI, clR, clC, clD, clW, clV, clN_e, clN_n, clL_e, clL_n]; done) | (simp (disch := omega) only [shI, shR, shL, shC, shD, shW, sh_V, shN_e, shN_n, crI, crL, crC, crW, crV, crR_e, crR_n, crN_e, crN_n, ciR, ciL, ciD, ciN_e, ciN_n, rdI_e, rdI_n, rdC_i, rdC_o, rdW, rdU_e, rdU_n, rdLW, clI, clR, clC, clD, clW, clV, clN_e, clN_n, clL_e, clL_n] <;> first | assumption | rfl | omega)) ?_
          try simp only [mP_w]
          refine WP.mem (mP_c (by omega)) ?_
          refine x_vreturn rfl dX2_part_24 ?_
          exact hQ _ _ (Or.inl ⟨rfl, em (y, c, u) 10 z, fun _ => z, _, er0, (Ev.push (by omega)).cg (fun fc _ => if_neg (by omega)), rfl, hU⟩)
        · exact absurd h17.1 (by rw [numP_sk, hn]; exact fun h => nomatch h)
  · generalize hb : skB tp e p = b at hsk hss hf
    generalize hw : wdB tp e b = w
    generalize hW : prtW tp b w = W
    -- words, one behind another
    have fall : (W = -1 → ∃ f, rPart tp e (p, c, u) = .inl f ∧ f = b) ∧ (0 ≤ W → W ≤ 6 → rPart tp e (p, c, u) = .inr (em (w, c, u) W 0)) := by
      by_cases hwb : w = b
      · have hW1 : W = -1 := by rw [← hW, hwb]; exact prtW_0
        refine ⟨fun _ => ⟨b, ?_, rfl⟩, fun q => by omega⟩
        have hn : numP tp e p 0 999 = none := by
          unfold numP
          rw [hb, show fgB tp e b = b from spB_e hf]
          exact if_pos (Or.inl rfl)
        have er : rPart tp e (p, c, u) = (match numP tp e p 0 999 with
          | none => .inl (skB tp e p)
          | some y => .inr (em (y.1, c, u) 10 y.2)) := if_pos (by show wdB tp e (skB tp e p) = skB tp e p; rw [hb, hw, hwb])
        rw [hn, hb] at er
        exact er
      · have hne : ¬ wdB tp e (skB tp e (p, c, u).1) = skB tp e (p, c, u).1 := by
          show ¬ wdB tp e (skB tp e p) = skB tp e p
          rw [hb, hw]
          exact hwb
        constructor
        · intro q
          refine ⟨b, (if_neg hne).trans ((if_pos ?_).trans ?_), rfl⟩
          · show prtW tp (skB tp e p) (wdB tp e (skB tp e p)) < 0
            rw [hb, hw, hW]
            omega
          · show (.inl (skB tp e p) : LgR) = .inl b
            rw [hb]
        · intro q q2
          refine (if_neg hne).trans ((if_neg ?_).trans ?_)
          · show ¬ prtW tp (skB tp e p) (wdB tp e (skB tp e p)) < 0
            rw [hb, hw, hW]
            omega
          · show (.inr (em (wdB tp e (skB tp e p), c, u) (prtW tp (skB tp e p) (wdB tp e (skB tp e p))) 0) : LgR) = .inr (em (w, c, u) W 0)
            rw [hb, hw, hW]
    have lp : ∀ (t : Nat) (k : Int), (7 - k).toNat = t → (0 ≤ k ∧ k ≤ 7) → (wrF tp b w 0 (7 - k).toNat k.toNat = W) → WP G d mX2_part 27 [some (dR 2), some (dR a), some (dI k)] [] (mP M b) Q := by
      intro t
      induction t using Nat.strongRecOn with
      | _ t ih =>
        intro k ht k0 hk
        by_cases hk1 : k < 7
        · have hx := x1 k k0.1 hk1
          have ea : -(10 + 2 * k) = -(10 + 2 * (((0 + k.toNat : Nat)) : Int)) := by omega
          rw [show (7 - k).toNat = (7 - (k + 1)).toNat + 1 by omega, wrF_s] at hk
          by_cases hI : isW tp b w (txB (0 + k.toNat))
          · rw [if_pos hI] at hk
            have eW : W = k := by omega
            have er := fall.2 (by omega) (by omega)
            have hTk := hT k k0.1 hk1
            have e1 : mci (mI M (a + 1) k (mci M (a + 1) k + 1)) a 1 = mci M a 1 := rdI_n (by omega)
            have e2 : mci (mI M (a + 1) k (mci M (a + 1) k + 1)) (a + 1) ((k.toNat : Nat) : Int) = mci M (a + 1) ((k.toNat : Nat) : Int) + 1 := by
              rw [show ((k.toNat : Nat) : Int) = k by omega]
              exact rdI_e ⟨rfl, rfl⟩
            have e3 : ∀ j, ¬ j = ((k.toNat : Nat) : Int) → mci (mI M (a + 1) k (mci M (a + 1) k + 1)) (a + 1) j = mci M (a + 1) j := fun j q => rdI_n (by omega)
            have hU : SmU M (mI M (a + 1) k (mci M (a + 1) k + 1)) a (fun fc => fc k) := ⟨rfl, fun b k q1 q2 => rdI_n (by omega), fun fc => by
              have h := sumP_t (fc := fc) e1 e2 e3 7
              rw [if_pos (by omega), show ((k.toNat : Nat) : Int) = k by omega] at h
              exact h, by rw [e1]; omega, fun j j0 j1 => by
              by_cases q : j = k
              · subst q
                rw [show mci (mI M (a + 1) j (mci M (a + 1) j + 1)) (a + 1) j = mci M (a + 1) j + 1 from rdI_e ⟨rfl, rfl⟩]
                omega
              · rw [e3 j (by omega)]
                omega⟩
            refine x_iload_n dX2_part_27 rfl rfl ?_
            refine x_bipush dX2_part_28 rfl ?_
            refine x_icmp_ge (tgt := 66) dX2_part_30 (by decide) (fun h30 => ?_) (fun h30 => ?_)
            · omega
            · refine x_aload_n dX2_part_33 rfl rfl ?_
              refine x_aload_n dX2_part_34 rfl rfl ?_
              refine g_getR (kI := 1) rfl dX2_part_35 fX2_31_2 (by first | assumption | first | assumption | (simp (disch := omega) only [shI, shR, shL, shC, shD, shW, sh_V, shN_e, shN_n, crI, crL, crC, crW, crV, crR_e, crR_n, crN_e, crN_n, ciR, ciL, ciD, ciN_e, ciN_n, rdI_e, rdI_n, rdC_i, rdC_o, rdW, rdU_e, rdU_n, rdLW, clI, clR, clC, clD, clW, clV, clN_e, clN_n, clL_e, clL_n]; done) | (simp (disch := omega) only [shI, shR, shL, shC, shD, shW, sh_V, shN_e, shN_n, crI, crL, crC, crW, crV, crR_e, crR_n, crN_e, crN_n, ciR, ciL, ciD, ciN_e, ciN_n, rdI_e, rdI_n, rdC_i, rdC_o, rdW, rdU_e, rdU_n, rdLW, clI, clR, clC, clD, clW, clV, clN_e, clN_n, clL_e, clL_n] <;> first | assumption | rfl | omega)) (by first | assumption | first | assumption | (simp (disch := omega) only [shI, shR, shL, shC, shD, shW, sh_V, shN_e, shN_n, crI, crL, crC, crW, crV, crR_e, crR_n, crN_e, crN_n, ciR, ciL, ciD, ciN_e, ciN_n, rdI_e, rdI_n, rdC_i, rdC_o, rdW, rdU_e, rdU_n, rdLW, clI, clR, clC, clD, clW, clV, clN_e, clN_n, clL_e, clL_n]; done) | (simp (disch := omega) only [shI, shR, shL, shC, shD, shW, sh_V, shN_e, shN_n, crI, crL, crC, crW, crV, crR_e, crR_n, crN_e, crN_n, ciR, ciL, ciD, ciN_e, ciN_n, rdI_e, rdI_n, rdC_i, rdC_o, rdW, rdU_e, rdU_n, rdLW, clI, clR, clC, clD, clW, clV, clN_e, clN_n, clL_e, clL_n] <;> first | assumption | rfl | omega)) ?_
              refine x_iload_n dX2_part_38 rfl rfl ?_
              refine x_aald (t := 140) rfl (by decide) dX2_part_39 (by first | assumption | first | assumption | (simp (disch := omega) only [shI, shR, shL, shC, shD, shW, sh_V, shN_e, shN_n, crI, crL, crC, crW, crV, crR_e, crR_n, crN_e, crN_n, ciR, ciL, ciD, ciN_e, ciN_n, rdI_e, rdI_n, rdC_i, rdC_o, rdW, rdU_e, rdU_n, rdLW, clI, clR, clC, clD, clW, clV, clN_e, clN_n, clL_e, clL_n]; done) | (simp (disch := omega) only [shI, shR, shL, shC, shD, shW, sh_V, shN_e, shN_n, crI, crL, crC, crW, crV, crR_e, crR_n, crN_e, crN_n, ciR, ciL, ciD, ciN_e, ciN_n, rdI_e, rdI_n, rdC_i, rdC_o, rdW, rdU_e, rdU_n, rdLW, clI, clR, clC, clD, clW, clV, clN_e, clN_n, clL_e, clL_n] <;> first | assumption | rfl | omega)) (by omega) (by omega) (by exact hx) ?_
              refine g_callI (vs := [_, _]) (d' := d - 1) rfl (s_X2_takes (i := 0 + k.toNat) (by omega) hR (by omega) (by omega) ea) dX2_part_40 kX2_109 (by omega) (by decide) rfl (Nat.le_of_ble_eq_true rfl) (rcv_o (by first | assumption | first | assumption | (simp (disch := omega) only [shI, shR, shL, shC, shD, shW, sh_V, shN_e, shN_n, crI, crL, crC, crW, crV, crR_e, crR_n, crN_e, crN_n, ciR, ciL, ciD, ciN_e, ciN_n, rdI_e, rdI_n, rdC_i, rdC_o, rdW, rdU_e, rdU_n, rdLW, clI, clR, clC, clD, clW, clV, clN_e, clN_n, clL_e, clL_n]; done) | (simp (disch := omega) only [shI, shR, shL, shC, shD, shW, sh_V, shN_e, shN_n, crI, crL, crC, crW, crV, crR_e, crR_n, crN_e, crN_n, ciR, ciL, ciD, ciN_e, ciN_n, rdI_e, rdI_n, rdC_i, rdC_o, rdW, rdU_e, rdU_n, rdLW, clI, clR, clC, clD, clW, clV, clN_e, clN_n, clL_e, clL_n] <;> first | assumption | rfl | omega)) rfl) (fun x40 M40 h40 => ?_)
              obtain ⟨e40, f40⟩ := h40
              rw [hss, hw, if_pos hI] at f40
              rw [hss, hw, vP_t hI] at e40
              subst e40
              have f40' := f40.symm
              subst f40'
              refine x_if_ne (tgt := 49) dX2_part_43 (by decide) (fun h43 => ?_) (fun h43 => ?_)
              · try simp only [vP_0, vP_1, vP_n0, vP_n1, Classical.not_not] at h43
                refine x_aload_n dX2_part_49 rfl rfl ?_
                refine g_getR (kI := 0) rfl dX2_part_50 fX2_284_11 (by first | assumption | first | assumption | (simp (disch := omega) only [shI, shR, shL, shC, shD, shW, sh_V, shN_e, shN_n, crI, crL, crC, crW, crV, crR_e, crR_n, crN_e, crN_n, ciR, ciL, ciD, ciN_e, ciN_n, rdI_e, rdI_n, rdC_i, rdC_o, rdW, rdU_e, rdU_n, rdLW, clI, clR, clC, clD, clW, clV, clN_e, clN_n, clL_e, clL_n]; done) | (simp (disch := omega) only [shI, shR, shL, shC, shD, shW, sh_V, shN_e, shN_n, crI, crL, crC, crW, crV, crR_e, crR_n, crN_e, crN_n, ciR, ciL, ciD, ciN_e, ciN_n, rdI_e, rdI_n, rdC_i, rdC_o, rdW, rdU_e, rdU_n, rdLW, clI, clR, clC, clD, clW, clV, clN_e, clN_n, clL_e, clL_n] <;> first | assumption | rfl | omega)) (by first | assumption | first | assumption | (simp (disch := omega) only [shI, shR, shL, shC, shD, shW, sh_V, shN_e, shN_n, crI, crL, crC, crW, crV, crR_e, crR_n, crN_e, crN_n, ciR, ciL, ciD, ciN_e, ciN_n, rdI_e, rdI_n, rdC_i, rdC_o, rdW, rdU_e, rdU_n, rdLW, clI, clR, clC, clD, clW, clV, clN_e, clN_n, clL_e, clL_n]; done) | (simp (disch := omega) only [shI, shR, shL, shC, shD, shW, sh_V, shN_e, shN_n, crI, crL, crC, crW, crV, crR_e, crR_n, crN_e, crN_n, ciR, ciL, ciD, ciN_e, ciN_n, rdI_e, rdI_n, rdC_i, rdC_o, rdW, rdU_e, rdU_n, rdLW, clI, clR, clC, clD, clW, clV, clN_e, clN_n, clL_e, clL_n] <;> first | assumption | rfl | omega)) ?_
                refine x_iload_n dX2_part_53 rfl rfl ?_
                refine x_dup2 dX2_part_54 rfl rfl ?_
                refine x_iald dX2_part_55 (by first | assumption | first | assumption | (simp (disch := omega) only [shI, shR, shL, shC, shD, shW, sh_V, shN_e, shN_n, crI, crL, crC, crW, crV, crR_e, crR_n, crN_e, crN_n, ciR, ciL, ciD, ciN_e, ciN_n, rdI_e, rdI_n, rdC_i, rdC_o, rdW, rdU_e, rdU_n, rdLW, clI, clR, clC, clD, clW, clV, clN_e, clN_n, clL_e, clL_n]; done) | (simp (disch := omega) only [shI, shR, shL, shC, shD, shW, sh_V, shN_e, shN_n, crI, crL, crC, crW, crV, crR_e, crR_n, crN_e, crN_n, ciR, ciL, ciD, ciN_e, ciN_n, rdI_e, rdI_n, rdC_i, rdC_o, rdW, rdU_e, rdU_n, rdLW, clI, clR, clC, clD, clW, clV, clN_e, clN_n, clL_e, clL_n] <;> first | assumption | rfl | omega)) (by omega) (by omega) ?_
                try simp (disch := omega) only [rdI_e, rdI_n, rdC_i, rdC_o, rdW, rdR, rdU_e, rdU_n, rdLW, Int.add_zero, mP_p, mP_o]
                refine x_iconst dX2_part_56 rfl ?_
                first | refine x_iaddN dX2_part_57 (by unfold i32; omega) ?_ | refine x_iadd dX2_part_57 ?_
                refine x_iast (by omega) dX2_part_58 (by first | assumption | first | assumption | (simp (disch := omega) only [shI, shR, shL, shC, shD, shW, sh_V, shN_e, shN_n, crI, crL, crC, crW, crV, crR_e, crR_n, crN_e, crN_n, ciR, ciL, ciD, ciN_e, ciN_n, rdI_e, rdI_n, rdC_i, rdC_o, rdW, rdU_e, rdU_n, rdLW, clI, clR, clC, clD, clW, clV, clN_e, clN_n, clL_e, clL_n]; done) | (simp (disch := omega) only [shI, shR, shL, shC, shD, shW, sh_V, shN_e, shN_n, crI, crL, crC, crW, crV, crR_e, crR_n, crN_e, crN_n, ciR, ciL, ciD, ciN_e, ciN_n, rdI_e, rdI_n, rdC_i, rdC_o, rdW, rdU_e, rdU_n, rdLW, clI, clR, clC, clD, clW, clV, clN_e, clN_n, clL_e, clL_n] <;> first | assumption | rfl | omega)) (by omega) (by omega) ?_
                try simp only [mP_w]
                refine WP.mem (mP_c (by omega)) ?_
                refine x_vreturn rfl dX2_part_59 ?_
                refine hQ _ _ (Or.inl ⟨rfl, em (w, c, u) W 0, fun fc => fc k, _, er, (Ev.push (by omega)).cg (fun fc _ => ?_), rfl, hU⟩)
                show (if W ≤ 9 then fc W else 0) = fc k
                rw [if_pos (by omega), eW]
              · try simp only [vP_0, vP_1, vP_n0, vP_n1, Classical.not_not] at h43
                simp at h43
          · rw [if_neg hI] at hk
            refine x_iload_n dX2_part_27 rfl rfl ?_
            refine x_bipush dX2_part_28 rfl ?_
            refine x_icmp_ge (tgt := 66) dX2_part_30 (by decide) (fun h30 => ?_) (fun h30 => ?_)
            · omega
            · refine x_aload_n dX2_part_33 rfl rfl ?_
              refine x_aload_n dX2_part_34 rfl rfl ?_
              refine g_getR (kI := 1) rfl dX2_part_35 fX2_31_2 (by first | assumption | first | assumption | (simp (disch := omega) only [shI, shR, shL, shC, shD, shW, sh_V, shN_e, shN_n, crI, crL, crC, crW, crV, crR_e, crR_n, crN_e, crN_n, ciR, ciL, ciD, ciN_e, ciN_n, rdI_e, rdI_n, rdC_i, rdC_o, rdW, rdU_e, rdU_n, rdLW, clI, clR, clC, clD, clW, clV, clN_e, clN_n, clL_e, clL_n]; done) | (simp (disch := omega) only [shI, shR, shL, shC, shD, shW, sh_V, shN_e, shN_n, crI, crL, crC, crW, crV, crR_e, crR_n, crN_e, crN_n, ciR, ciL, ciD, ciN_e, ciN_n, rdI_e, rdI_n, rdC_i, rdC_o, rdW, rdU_e, rdU_n, rdLW, clI, clR, clC, clD, clW, clV, clN_e, clN_n, clL_e, clL_n] <;> first | assumption | rfl | omega)) (by first | assumption | first | assumption | (simp (disch := omega) only [shI, shR, shL, shC, shD, shW, sh_V, shN_e, shN_n, crI, crL, crC, crW, crV, crR_e, crR_n, crN_e, crN_n, ciR, ciL, ciD, ciN_e, ciN_n, rdI_e, rdI_n, rdC_i, rdC_o, rdW, rdU_e, rdU_n, rdLW, clI, clR, clC, clD, clW, clV, clN_e, clN_n, clL_e, clL_n]; done) | (simp (disch := omega) only [shI, shR, shL, shC, shD, shW, sh_V, shN_e, shN_n, crI, crL, crC, crW, crV, crR_e, crR_n, crN_e, crN_n, ciR, ciL, ciD, ciN_e, ciN_n, rdI_e, rdI_n, rdC_i, rdC_o, rdW, rdU_e, rdU_n, rdLW, clI, clR, clC, clD, clW, clV, clN_e, clN_n, clL_e, clL_n] <;> first | assumption | rfl | omega)) ?_
              refine x_iload_n dX2_part_38 rfl rfl ?_
              refine x_aald (t := 140) rfl (by decide) dX2_part_39 (by first | assumption | first | assumption | (simp (disch := omega) only [shI, shR, shL, shC, shD, shW, sh_V, shN_e, shN_n, crI, crL, crC, crW, crV, crR_e, crR_n, crN_e, crN_n, ciR, ciL, ciD, ciN_e, ciN_n, rdI_e, rdI_n, rdC_i, rdC_o, rdW, rdU_e, rdU_n, rdLW, clI, clR, clC, clD, clW, clV, clN_e, clN_n, clL_e, clL_n]; done) | (simp (disch := omega) only [shI, shR, shL, shC, shD, shW, sh_V, shN_e, shN_n, crI, crL, crC, crW, crV, crR_e, crR_n, crN_e, crN_n, ciR, ciL, ciD, ciN_e, ciN_n, rdI_e, rdI_n, rdC_i, rdC_o, rdW, rdU_e, rdU_n, rdLW, clI, clR, clC, clD, clW, clV, clN_e, clN_n, clL_e, clL_n] <;> first | assumption | rfl | omega)) (by omega) (by omega) (by exact hx) ?_
              refine g_callI (vs := [_, _]) (d' := d - 1) rfl (s_X2_takes (i := 0 + k.toNat) (by omega) hR (by omega) (by omega) ea) dX2_part_40 kX2_109 (by omega) (by decide) rfl (Nat.le_of_ble_eq_true rfl) (rcv_o (by first | assumption | first | assumption | (simp (disch := omega) only [shI, shR, shL, shC, shD, shW, sh_V, shN_e, shN_n, crI, crL, crC, crW, crV, crR_e, crR_n, crN_e, crN_n, ciR, ciL, ciD, ciN_e, ciN_n, rdI_e, rdI_n, rdC_i, rdC_o, rdW, rdU_e, rdU_n, rdLW, clI, clR, clC, clD, clW, clV, clN_e, clN_n, clL_e, clL_n]; done) | (simp (disch := omega) only [shI, shR, shL, shC, shD, shW, sh_V, shN_e, shN_n, crI, crL, crC, crW, crV, crR_e, crR_n, crN_e, crN_n, ciR, ciL, ciD, ciN_e, ciN_n, rdI_e, rdI_n, rdC_i, rdC_o, rdW, rdU_e, rdU_n, rdLW, clI, clR, clC, clD, clW, clV, clN_e, clN_n, clL_e, clL_n] <;> first | assumption | rfl | omega)) rfl) (fun x40 M40 h40 => ?_)
              obtain ⟨e40, f40⟩ := h40
              rw [hss, hw, if_neg hI] at f40
              rw [hss, hw, vP_f hI] at e40
              subst e40
              have f40' := f40.symm
              subst f40'
              refine x_if_ne (tgt := 49) dX2_part_43 (by decide) (fun h43 => ?_) (fun h43 => ?_)
              · try simp only [vP_0, vP_1, vP_n0, vP_n1, Classical.not_not] at h43
                simp at h43
              · try simp only [vP_0, vP_1, vP_n0, vP_n1, Classical.not_not] at h43
                refine x_goto (tgt := 60) dX2_part_46 (by decide) ?_
                first | refine x_iincN (L' := [some _, some _, some _]) dX2_part_60 rfl (by decide) (by unfold i32; omega) rfl ?_ | refine x_iinc (L' := [some _, some _, some _]) dX2_part_60 rfl (by decide) rfl ?_
                refine x_goto (tgt := 27) dX2_part_63 (by decide) ?_
                exact ih _ (by omega) (k + 1) rfl (by omega) (by rw [show (k + 1).toNat = k.toNat + 1 by omega]; exact hk)
        · rw [show (7 - k).toNat = 0 by omega] at hk
          obtain ⟨f, er, ef⟩ := fall.1 hk.symm
          refine x_iload_n dX2_part_27 rfl rfl ?_
          refine x_bipush dX2_part_28 rfl ?_
          refine x_icmp_ge (tgt := 66) dX2_part_30 (by decide) (fun h30 => ?_) (fun h30 => ?_)
          · refine x_aload_n dX2_part_66 rfl rfl ?_
            refine x_aload_n dX2_part_67 rfl rfl ?_
            refine g_getI (kI := 9) rfl dX2_part_68 fX2_92_2 (by first | assumption | first | assumption | (simp (disch := omega) only [shI, shR, shL, shC, shD, shW, sh_V, shN_e, shN_n, crI, crL, crC, crW, crV, crR_e, crR_n, crN_e, crN_n, ciR, ciL, ciD, ciN_e, ciN_n, rdI_e, rdI_n, rdC_i, rdC_o, rdW, rdU_e, rdU_n, rdLW, clI, clR, clC, clD, clW, clV, clN_e, clN_n, clL_e, clL_n]; done) | (simp (disch := omega) only [shI, shR, shL, shC, shD, shW, sh_V, shN_e, shN_n, crI, crL, crC, crW, crV, crR_e, crR_n, crN_e, crN_n, ciR, ciL, ciD, ciN_e, ciN_n, rdI_e, rdI_n, rdC_i, rdC_o, rdW, rdU_e, rdU_n, rdLW, clI, clR, clC, clD, clW, clV, clN_e, clN_n, clL_e, clL_n] <;> first | assumption | rfl | omega)) ?_
            try simp (disch := omega) only [rdI_e, rdI_n, rdC_i, rdC_o, rdW, rdR, rdU_e, rdU_n, rdLW, Int.add_zero, mP_p, mP_o]
            refine g_callNX (vs := [_, _]) (d' := d - 1) rfl (s_X2_fail (by omega) hR) dX2_part_71 kX2_113 (by omega) (by decide) rfl (Nat.le_of_ble_eq_true rfl) (rcv_o (by first | assumption | first | assumption | (simp (disch := omega) only [shI, shR, shL, shC, shD, shW, sh_V, shN_e, shN_n, crI, crL, crC, crW, crV, crR_e, crR_n, crN_e, crN_n, ciR, ciL, ciD, ciN_e, ciN_n, rdI_e, rdI_n, rdC_i, rdC_o, rdW, rdU_e, rdU_n, rdLW, clI, clR, clC, clD, clW, clV, clN_e, clN_n, clL_e, clL_n]; done) | (simp (disch := omega) only [shI, shR, shL, shC, shD, shW, sh_V, shN_e, shN_n, crI, crL, crC, crW, crV, crR_e, crR_n, crN_e, crN_n, ciR, ciL, ciD, ciN_e, ciN_n, rdI_e, rdI_n, rdC_i, rdC_o, rdW, rdU_e, rdU_n, rdLW, clI, clR, clC, clD, clW, clV, clN_e, clN_n, clL_e, clL_n] <;> first | assumption | rfl | omega)) rfl) (fun M71 h71 => ?_) (fun a71 E71 M71 h71 => ?_)
            · exact False.elim (by assumption)
            · subst ef
              exact th_nil rfl (hQ _ _ (Or.inr ⟨_, _, rfl, _, er, h71⟩))
          · omega
    refine x_aload_n dX2_part_0 rfl rfl ?_
    refine g_callI (vs := [_]) (d' := d - 1) rfl (s_X2_isFigure (by omega) hR (by omega)) dX2_part_1 kX2_205 (by omega) (by decide) rfl (Nat.le_of_ble_eq_true rfl) (rcv_o (by first | assumption | first | assumption | (simp (disch := omega) only [shI, shR, shL, shC, shD, shW, sh_V, shN_e, shN_n, crI, crL, crC, crW, crV, crR_e, crR_n, crN_e, crN_n, ciR, ciL, ciD, ciN_e, ciN_n, rdI_e, rdI_n, rdC_i, rdC_o, rdW, rdU_e, rdU_n, rdLW, clI, clR, clC, clD, clW, clV, clN_e, clN_n, clL_e, clL_n]; done) | (simp (disch := omega) only [shI, shR, shL, shC, shD, shW, sh_V, shN_e, shN_n, crI, crL, crC, crW, crV, crR_e, crR_n, crN_e, crN_n, ciR, ciL, ciD, ciN_e, ciN_n, rdI_e, rdI_n, rdC_i, rdC_o, rdW, rdU_e, rdU_n, rdLW, clI, clR, clC, clD, clW, clV, clN_e, clN_n, clL_e, clL_n] <;> first | assumption | rfl | omega)) rfl) (fun x1 M1 h1 => ?_)
    obtain ⟨e1, f1⟩ := h1
    rw [hb] at e1 f1
    rw [vP_f hf] at e1
    have f1' := f1.symm
    subst f1'
    subst e1
    refine x_if_eq (tgt := 25) dX2_part_4 (by decide) (fun h4 => ?_) (fun h4 => ?_)
    · try simp only [vP_0, vP_1, vP_n0, vP_n1, Classical.not_not] at h4
      refine x_iconst dX2_part_25 rfl ?_
      refine x_istore_n (L' := [some _, some _, some _]) dX2_part_26 rfl (by decide) rfl ?_
      exact lp _ 0 rfl (by omega) hW
    · try simp only [vP_0, vP_1, vP_n0, vP_n1, Classical.not_not] at h4
      simp at h4
/-- what a sum of the reader is: behind all that was it lies -/
def SumO (M M1 : Mem) (a : Int) (F : (Int → Int) → Int) : Prop := SumD (msh M1) (mci M1) (mcr M1) (mnx M) (mnx M1) a ∧ ∀ fc, sumL (mci M1) a fc = F fc
theorem Dr.mR2 {M M1 : Mem} {c s : Nat} {a i : Int} {r : Option Int} (h : Dr M M1 c s) (ha : (mnx M : Int) ≤ a) : Dr M (mR M1 a i r) c s := by
  refine ⟨fun b hb => ⟨(h.1 b hb).1, (h.1 b hb).2.1, fun k => (crR_n (by omega)).trans ((h.1 b hb).2.2.1 k), (h.1 b hb).2.2.2⟩, h.2⟩
/-- a sum at X of so many parts -/
def SmK (M M1 : Mem) (X j : Int) (F : (Int → Int) → Int) : Prop := Dr M M1 2 9 ∧ (msh M1 X = some (11, 0) ∧ msh M1 (X + 1) = some (100, 7)) ∧ mcr M1 X 0 = some (X + 1) ∧ (mnx M1 : Int) = X + 2 ∧ (0 ≤ mci M1 X 1 ∧ mci M1 X 1 ≤ 999 * j) ∧ (∀ k, 0 ≤ k → k < 7 → 0 ≤ mci M1 (X + 1) k ∧ mci M1 (X + 1) k ≤ j) ∧ mci M1 2 10 = mci M 2 10 ∧ ∀ fc, sumL (mci M1) X fc = F fc
abbrev SF : Type := (Int → Int) → Int
theorem SmK.up {M M1 M2 : Mem} {X j : Int} {F H : (Int → Int) → Int} (h : SmK M M1 X j F) (hX : (mnx M : Int) = X) (hX7 : 761 ≤ X) (hU : SmU M1 M2 X H) : SmK M M2 X (j + 1) (fun fc => F fc + H fc) := by
  obtain ⟨a1, a2, a3, a4, a5, a6, a7, a8⟩ := h
  obtain ⟨u1, u2, u3, u4, u5⟩ := hU
  have es : msh M2 = msh M1 := (congrArg msh u1).trans rfl
  have ec : mcr M2 = mcr M1 := (congrArg mcr u1).trans rfl
  have en : mnx M2 = mnx M1 := (congrArg mnx u1).trans rfl
  have em' : mns M2 = mns M1 := (congrArg mns u1).trans rfl
  have el : mcl M2 = mcl M1 := (congrArg mcl u1).trans rfl
  refine ⟨⟨fun b hb => ⟨by rw [es]; exact (a1.1 b hb).1, fun k q1 q2 q3 => (u2 b k (by omega) (by omega)).trans ((a1.1 b hb).2.1 k q1 q2 q3), fun k => by rw [ec]; exact (a1.1 b hb).2.2.1 k, fun k => by rw [el]; exact (a1.1 b hb).2.2.2 k⟩, by rw [en]; exact a1.2.1, by rw [en]; exact a1.2.2.1, by rw [em']; exact a1.2.2.2⟩, by rw [es]; exact a2, by rw [ec]; exact a3, by rw [en]; exact a4, by omega, fun k k0 k1 => ?_, (u2 _ _ (by omega) (by omega)).trans a7, fun fc => by rw [u3, a8]⟩
  have := a6 k k0 k1
  have := u5 k k0 k1
  omega
theorem SmK.fin {M M1 : Mem} {X j : Int} {F : (Int → Int) → Int} (h : SmK M M1 X j F) (hX : (mnx M : Int) = X) (hj : j ≤ 400) : SumO M M1 X F := by
  obtain ⟨a1, a2, a3, a4, a5, a6, a7, a8⟩ := h
  exact ⟨⟨⟨by omega, by omega⟩, a2.1, a2.2, a3, by omega, fun k k0 k1 => by have := a6 k k0 k1; omega⟩, a8⟩
theorem rPart_p {tp : Int → Int} {e : Int} {s y : LgS} (hs : s.1 ≤ e) (h : rPart tp e s = .inr y) : s.1 < y.1 ∧ y.1 ≤ e ∧ y.2.1 = s.2.1 + 1 := by
  have b1 := skB_r (tp := tp) hs
  have b2 := wdB_r (tp := tp) b1.2
  unfold rPart at h
  split at h
  · rcases hn : numP tp e s.1 0 999 with _ | ⟨q, x⟩
    · rw [hn] at h; cases h
    · rw [hn] at h
      cases h
      have r := numP_r hs hn
      exact ⟨r.1, r.2.1, rfl⟩
  · rename_i hw
    split at h
    · cases h
    · cases h
      exact ⟨by show s.1 < wdB tp e (skB tp e s.1); omega, b2.2, rfl⟩
theorem rSumL_s {tp : Int → Int} {e : Int} {t : Nat} {s : LgS} : rSumL tp e (t + 1) s = (if chP tp e 43 43 (skB tp e s.1) then (match rPart tp e (skB tp e s.1 + 1, s.2) with
      | .inl x => .inl x
      | .inr y => rSumL tp e t (em y 11 0)) else .inr (skB tp e s.1, s.2)) := rfl
/-- a new sum's parts are read -/
theorem s_X2_sum (hd : 22 ≤ d) (hR : RdX M tp e) (hM : 761 ≤ mnx M) (hp : 0 ≤ p ∧ p ≤ e) : CS G d mX2_sum [dR 2] (mP M p) (orT (postR fun o M1 => ∃ (y : LgS) (F : (Int → Int) → Int) (M' : Mem) (q a : Int), rSum tp e (p, c, u) = .inr y ∧ Ev (p, c, u) y F ∧ o = some a ∧ M1 = mP M' q ∧ (0 ≤ q ∧ q ≤ e) ∧ skB tp e q = skB tp e y.1 ∧ Dr M M' 2 9 ∧ mci M' 2 10 = mci M 2 10 ∧ SumO M M' a F) (fun a E M1 => ∃ f, rSum tp e (p, c, u) = .inl f ∧ FlD M f 2 9 a E M1)) := by
  obtain ⟨⟨⟨r0, r3, r4, r5, r6, r7, r53⟩, -⟩, -, -, he2, -, hB⟩ := id hR
  generalize hXX : ((mnx M : Nat) : Int) = X
  have hX7 : 761 ≤ X := by omega
  have hX0 : (mnx M : Int) ≤ X := by omega
  obtain ⟨M0, hM0, hK0, hR0⟩ : ∃ M0, (∀ z, mR (mNx (mNx (mP M z) X 11 0 2) (X + 1) 100 7 7) X 0 (some (X + 1)) = mP M0 z) ∧ SmK M M0 X 0 (fun _ => 0) ∧ RdX M0 tp e := by
    have hD0 : Dr M (mR (mNx (mNx M X 11 0 2) (X + 1) 100 7 7) X 0 (some (X + 1))) 2 9 := ((Dr.rfl.nx hXX).nx (by show ((mnx M + 1 : Nat) : Int) = X + 1; omega)).mR2 hX0
    have e0 : ∀ k, mci (mR (mNx (mNx M X 11 0 2) (X + 1) 100 7 7) X 0 (some (X + 1))) X k = 0 := fun k => (show mci (mNx (mNx M X 11 0 2) (X + 1) 100 7 7) X k = mci (mNx M X 11 0 2) X k from ciN_n (by omega)).trans (ciN_e rfl)
    have e1 : ∀ k, mci (mR (mNx (mNx M X 11 0 2) (X + 1) 100 7 7) X 0 (some (X + 1))) (X + 1) k = 0 := fun k => show mci (mNx (mNx M X 11 0 2) (X + 1) 100 7 7) (X + 1) k = 0 from ciN_e rfl
    refine ⟨_, fun z => ?_, ⟨hD0, ⟨by first | assumption | (simp (disch := omega) only [shI, shR, shL, shC, shD, shW, sh_V, shN_e, shN_n, crI, crL, crC, crW, crV, crR_e, crR_n, crN_e, crN_n, ciR, ciL, ciD, ciN_e, ciN_n, rdI_e, rdI_n, rdC_i, rdC_o, rdW, rdU_e, rdU_n, rdLW, clI, clR, clC, clD, clW, clV, clN_e, clN_n, clL_e, clL_n]; done) | (simp (disch := omega) only [shI, shR, shL, shC, shD, shW, sh_V, shN_e, shN_n, crI, crL, crC, crW, crV, crR_e, crR_n, crN_e, crN_n, ciR, ciL, ciD, ciN_e, ciN_n, rdI_e, rdI_n, rdC_i, rdC_o, rdW, rdU_e, rdU_n, rdLW, clI, clR, clC, clD, clW, clV, clN_e, clN_n, clL_e, clL_n] <;> first | assumption | rfl | omega), by first | assumption | (simp (disch := omega) only [shI, shR, shL, shC, shD, shW, sh_V, shN_e, shN_n, crI, crL, crC, crW, crV, crR_e, crR_n, crN_e, crN_n, ciR, ciL, ciD, ciN_e, ciN_n, rdI_e, rdI_n, rdC_i, rdC_o, rdW, rdU_e, rdU_n, rdLW, clI, clR, clC, clD, clW, clV, clN_e, clN_n, clL_e, clL_n]; done) | (simp (disch := omega) only [shI, shR, shL, shC, shD, shW, sh_V, shN_e, shN_n, crI, crL, crC, crW, crV, crR_e, crR_n, crN_e, crN_n, ciR, ciL, ciD, ciN_e, ciN_n, rdI_e, rdI_n, rdC_i, rdC_o, rdW, rdU_e, rdU_n, rdLW, clI, clR, clC, clD, clW, clV, clN_e, clN_n, clL_e, clL_n] <;> first | assumption | rfl | omega)⟩, by first | assumption | (simp (disch := omega) only [shI, shR, shL, shC, shD, shW, sh_V, shN_e, shN_n, crI, crL, crC, crW, crV, crR_e, crR_n, crN_e, crN_n, ciR, ciL, ciD, ciN_e, ciN_n, rdI_e, rdI_n, rdC_i, rdC_o, rdW, rdU_e, rdU_n, rdLW, clI, clR, clC, clD, clW, clV, clN_e, clN_n, clL_e, clL_n]; done) | (simp (disch := omega) only [shI, shR, shL, shC, shD, shW, sh_V, shN_e, shN_n, crI, crL, crC, crW, crV, crR_e, crR_n, crN_e, crN_n, ciR, ciL, ciD, ciN_e, ciN_n, rdI_e, rdI_n, rdC_i, rdC_o, rdW, rdU_e, rdU_n, rdLW, clI, clR, clC, clD, clW, clV, clN_e, clN_n, clL_e, clL_n] <;> first | assumption | rfl | omega), by show ((mnx M + 1 + 1 : Nat) : Int) = X + 2; omega, by rw [e0]; omega, fun k k0 k1 => by rw [e1]; omega, (show mci (mNx (mNx M X 11 0 2) (X + 1) 100 7 7) 2 10 = mci (mNx M X 11 0 2) 2 10 from ciN_n (by omega)).trans (ciN_n (by omega)), fun fc => ?_⟩, hR.dr hD0 (by omega)⟩
    · rw [mP_n (by omega), mP_n (by omega)]
      rfl
    · have hz : ∀ n, sumP (mci (mR (mNx (mNx M X 11 0 2) (X + 1) 100 7 7) X 0 (some (X + 1)))) X fc n = 0 := by
        intro n
        induction n with
        | zero => exact e0 1
        | succ n ih => unfold sumP; rw [ih, e1]; omega
      exact hz 7
  have hsp := skB_r (tp := tp) hp.2
  refine CS.mkQ (by decide) (Nat.le_of_ble_eq_true rfl) fun Q hQ => ?_
  have lp : ∀ (t : Nat) (q j : Int) (s : LgS) (F : SF) (M1 : Mem) (fu : Nat), ((fu : Int)).toNat = t → (0 ≤ q ∧ q ≤ e) → (skB tp e q = skB tp e s.1) → (rSum tp e (p, c, u) = rSumL tp e fu s) → (Ev (p, c, u) s F) → (Gp e 0 0 1 (p, c, u) s) → (1 ≤ j ∧ j ≤ s.1 - p) → (e - s.1 < fu) → (SmK M M1 X j F) → WP G d mX2_sum 13 [some (dR 2), some (dR X)] [] (mP M1 q) Q := by
    intro t
    induction t using Nat.strongRecOn with
    | _ t ih =>
      intro q j s F M1 fu ht h0 hq hr hE hG hj hfu hK
      have hse : s.1 ≤ e := hG.1.2
      have hs1 : p ≤ s.1 := hG.1.1
      obtain ⟨fu, rfl⟩ : ∃ f2, fu = f2 + 1 := ⟨fu - 1, by omega⟩
      have hR1 : RdX M1 tp e := hR.dr hK.1 (by omega)
      obtain ⟨a1, a2, a3, a4, a5, a6, a7, a8⟩ := id hK
      have r2' : msh M1 2 = some (2, 0) := hR1.1.1.1
      have hs := skB_r (tp := tp) hse
      have hsv : sgV tp e q = 43 ↔ chP tp e 43 43 (skB tp e s.1) := by rw [← hq]; exact sgV_i hB (by omega)
      rw [rSumL_s] at hr
      by_cases hc : chP tp e 43 43 (skB tp e s.1)
      · rw [if_pos hc] at hr
        have hc1 := hc.1
        have hn0 : 0 ≤ mci M1 X 1 ∧ mci M1 X 1 ≤ 1000000 := by omega
        have hT0 : ∀ k, 0 ≤ k → k < 7 → 0 ≤ mci M1 (X + 1) k ∧ mci M1 (X + 1) k ≤ 1000000 := fun k k0 k1 => by have := a6 k k0 k1; omega
        rcases hpt : rPart tp e (skB tp e s.1 + 1, s.2) with f | z
        · rw [hpt] at hr
          dsimp only at hr
          refine x_aload_n dX2_sum_13 rfl rfl ?_
          refine g_callI (vs := [_]) (d' := d - 1) rfl (s_X2_sign (by omega) hR1 (by omega)) dX2_sum_14 kX2_98 (by omega) (by decide) rfl (Nat.le_of_ble_eq_true rfl) (rcv_o (by first | assumption | first | assumption | (simp (disch := omega) only [shI, shR, shL, shC, shD, shW, sh_V, shN_e, shN_n, crI, crL, crC, crW, crV, crR_e, crR_n, crN_e, crN_n, ciR, ciL, ciD, ciN_e, ciN_n, rdI_e, rdI_n, rdC_i, rdC_o, rdW, rdU_e, rdU_n, rdLW, clI, clR, clC, clD, clW, clV, clN_e, clN_n, clL_e, clL_n]; done) | (simp (disch := omega) only [shI, shR, shL, shC, shD, shW, sh_V, shN_e, shN_n, crI, crL, crC, crW, crV, crR_e, crR_n, crN_e, crN_n, ciR, ciL, ciD, ciN_e, ciN_n, rdI_e, rdI_n, rdC_i, rdC_o, rdW, rdU_e, rdU_n, rdLW, clI, clR, clC, clD, clW, clV, clN_e, clN_n, clL_e, clL_n] <;> first | assumption | rfl | omega)) rfl) (fun x14 M14 h14 => ?_)
          obtain ⟨e14, f14⟩ := h14
          rw [hq] at f14
          have f14' := f14.symm
          subst f14'
          rw [hsv.mpr hc] at e14
          subst e14
          refine x_bipush dX2_sum_17 rfl ?_
          refine x_icmp_ne (tgt := 40) dX2_sum_19 (by decide) (fun h19 => ?_) (fun h19 => ?_)
          · exact absurd rfl h19
          · refine x_aload_n dX2_sum_22 rfl rfl ?_
            refine x_dup dX2_sum_23 rfl ?_
            refine g_getI (kI := 9) rfl dX2_sum_24 fX2_92_2 (by first | assumption | first | assumption | (simp (disch := omega) only [shI, shR, shL, shC, shD, shW, sh_V, shN_e, shN_n, crI, crL, crC, crW, crV, crR_e, crR_n, crN_e, crN_n, ciR, ciL, ciD, ciN_e, ciN_n, rdI_e, rdI_n, rdC_i, rdC_o, rdW, rdU_e, rdU_n, rdLW, clI, clR, clC, clD, clW, clV, clN_e, clN_n, clL_e, clL_n]; done) | (simp (disch := omega) only [shI, shR, shL, shC, shD, shW, sh_V, shN_e, shN_n, crI, crL, crC, crW, crV, crR_e, crR_n, crN_e, crN_n, ciR, ciL, ciD, ciN_e, ciN_n, rdI_e, rdI_n, rdC_i, rdC_o, rdW, rdU_e, rdU_n, rdLW, clI, clR, clC, clD, clW, clV, clN_e, clN_n, clL_e, clL_n] <;> first | assumption | rfl | omega)) ?_
            try simp (disch := omega) only [rdI_e, rdI_n, rdC_i, rdC_o, rdW, rdR, rdU_e, rdU_n, rdLW, Int.add_zero, mP_p]
            refine x_iconst dX2_sum_27 rfl ?_
            first | refine x_iaddN dX2_sum_28 (by unfold i32; omega) ?_ | refine x_iadd dX2_sum_28 ?_
            refine g_putI (kI := 9) rfl dX2_sum_29 fX2_92_2 (by first | assumption | first | assumption | (simp (disch := omega) only [shI, shR, shL, shC, shD, shW, sh_V, shN_e, shN_n, crI, crL, crC, crW, crV, crR_e, crR_n, crN_e, crN_n, ciR, ciL, ciD, ciN_e, ciN_n, rdI_e, rdI_n, rdC_i, rdC_o, rdW, rdU_e, rdU_n, rdLW, clI, clR, clC, clD, clW, clV, clN_e, clN_n, clL_e, clL_n]; done) | (simp (disch := omega) only [shI, shR, shL, shC, shD, shW, sh_V, shN_e, shN_n, crI, crL, crC, crW, crV, crR_e, crR_n, crN_e, crN_n, ciR, ciL, ciD, ciN_e, ciN_n, rdI_e, rdI_n, rdC_i, rdC_o, rdW, rdU_e, rdU_n, rdLW, clI, clR, clC, clD, clW, clV, clN_e, clN_n, clL_e, clL_n] <;> first | assumption | rfl | omega)) ?_
            try simp only [mP_w]
            refine x_aload_n dX2_sum_32 rfl rfl ?_
            refine x_aload_n dX2_sum_33 rfl rfl ?_
            refine g_callNX (vs := [_, _]) (d' := d - 1) rfl (s_X2_part (c := s.2.1) (u := s.2.2) (by omega) hR1 (by omega) (by omega) a2.1 a2.2 a3 hn0 hT0) dX2_sum_34 kX2_278 (by omega) (by decide) rfl (Nat.le_of_ble_eq_true rfl) (rcv_o (by first | assumption | first | assumption | (simp (disch := omega) only [shI, shR, shL, shC, shD, shW, sh_V, shN_e, shN_n, crI, crL, crC, crW, crV, crR_e, crR_n, crN_e, crN_n, ciR, ciL, ciD, ciN_e, ciN_n, rdI_e, rdI_n, rdC_i, rdC_o, rdW, rdU_e, rdU_n, rdLW, clI, clR, clC, clD, clW, clV, clN_e, clN_n, clL_e, clL_n]; done) | (simp (disch := omega) only [shI, shR, shL, shC, shD, shW, sh_V, shN_e, shN_n, crI, crL, crC, crW, crV, crR_e, crR_n, crN_e, crN_n, ciR, ciL, ciD, ciN_e, ciN_n, rdI_e, rdI_n, rdC_i, rdC_o, rdW, rdU_e, rdU_n, rdLW, clI, clR, clC, clD, clW, clV, clN_e, clN_n, clL_e, clL_n] <;> first | assumption | rfl | omega)) rfl) (fun M34 h34 => ?_) (fun a34 E34 M34 h34 => ?_)
            · obtain ⟨y, F', M', hy, -⟩ := h34
              rw [show ((skB tp e s.1 + 1, s.2.1, s.2.2) : LgS) = (skB tp e s.1 + 1, s.2) from rfl, hpt] at hy
              cases hy
              skip
            · obtain ⟨f', hf, hx⟩ := h34
              rw [show ((skB tp e s.1 + 1, s.2.1, s.2.2) : LgS) = (skB tp e s.1 + 1, s.2) from rfl, hpt] at hf
              cases hf
              exact th_nil rfl (hQ _ _ (Or.inr ⟨_, _, rfl, _, hr, hx.d a1 (Nat.le_refl _) (Nat.le_refl _) rfl⟩))
        · rw [hpt] at hr
          dsimp only at hr
          have hz := rPart_p (by show skB tp e s.1 + 1 ≤ e; omega) hpt
          have hz1 : skB tp e s.1 + 1 < z.1 := hz.1
          have g1 : Gp e 1 1 1 s (skB tp e s.1 + 1, s.2) := Gp.adv (by omega) (by omega) (by omega)
          have g2 := rPart_g _ _ (by show skB tp e s.1 + 1 ≤ e; omega) hpt 1
          have g3 : Gp e (-1) (1 + 1) 1 z (em z 11 0) := Gp.emi hz.2.1 (by omega) (fun q => by omega) (Or.inr (Or.inr ⟨by omega, by omega, by omega, by omega⟩))
          have g4 : Gp e 0 0 1 (p, c, u) (em z 11 0) := (((hG.trans g1).trans g2).trans g3).less (by omega)
          have ez : (em z 11 0).1 = z.1 := rfl
          refine x_aload_n dX2_sum_13 rfl rfl ?_
          refine g_callI (vs := [_]) (d' := d - 1) rfl (s_X2_sign (by omega) hR1 (by omega)) dX2_sum_14 kX2_98 (by omega) (by decide) rfl (Nat.le_of_ble_eq_true rfl) (rcv_o (by first | assumption | first | assumption | (simp (disch := omega) only [shI, shR, shL, shC, shD, shW, sh_V, shN_e, shN_n, crI, crL, crC, crW, crV, crR_e, crR_n, crN_e, crN_n, ciR, ciL, ciD, ciN_e, ciN_n, rdI_e, rdI_n, rdC_i, rdC_o, rdW, rdU_e, rdU_n, rdLW, clI, clR, clC, clD, clW, clV, clN_e, clN_n, clL_e, clL_n]; done) | (simp (disch := omega) only [shI, shR, shL, shC, shD, shW, sh_V, shN_e, shN_n, crI, crL, crC, crW, crV, crR_e, crR_n, crN_e, crN_n, ciR, ciL, ciD, ciN_e, ciN_n, rdI_e, rdI_n, rdC_i, rdC_o, rdW, rdU_e, rdU_n, rdLW, clI, clR, clC, clD, clW, clV, clN_e, clN_n, clL_e, clL_n] <;> first | assumption | rfl | omega)) rfl) (fun x14 M14 h14 => ?_)
          obtain ⟨e14, f14⟩ := h14
          rw [hq] at f14
          have f14' := f14.symm
          subst f14'
          rw [hsv.mpr hc] at e14
          subst e14
          refine x_bipush dX2_sum_17 rfl ?_
          refine x_icmp_ne (tgt := 40) dX2_sum_19 (by decide) (fun h19 => ?_) (fun h19 => ?_)
          · exact absurd rfl h19
          · refine x_aload_n dX2_sum_22 rfl rfl ?_
            refine x_dup dX2_sum_23 rfl ?_
            refine g_getI (kI := 9) rfl dX2_sum_24 fX2_92_2 (by first | assumption | first | assumption | (simp (disch := omega) only [shI, shR, shL, shC, shD, shW, sh_V, shN_e, shN_n, crI, crL, crC, crW, crV, crR_e, crR_n, crN_e, crN_n, ciR, ciL, ciD, ciN_e, ciN_n, rdI_e, rdI_n, rdC_i, rdC_o, rdW, rdU_e, rdU_n, rdLW, clI, clR, clC, clD, clW, clV, clN_e, clN_n, clL_e, clL_n]; done) | (simp (disch := omega) only [shI, shR, shL, shC, shD, shW, sh_V, shN_e, shN_n, crI, crL, crC, crW, crV, crR_e, crR_n, crN_e, crN_n, ciR, ciL, ciD, ciN_e, ciN_n, rdI_e, rdI_n, rdC_i, rdC_o, rdW, rdU_e, rdU_n, rdLW, clI, clR, clC, clD, clW, clV, clN_e, clN_n, clL_e, clL_n] <;> first | assumption | rfl | omega)) ?_
            try simp (disch := omega) only [rdI_e, rdI_n, rdC_i, rdC_o, rdW, rdR, rdU_e, rdU_n, rdLW, Int.add_zero, mP_p]
            refine x_iconst dX2_sum_27 rfl ?_
            first | refine x_iaddN dX2_sum_28 (by unfold i32; omega) ?_ | refine x_iadd dX2_sum_28 ?_
            refine g_putI (kI := 9) rfl dX2_sum_29 fX2_92_2 (by first | assumption | first | assumption | (simp (disch := omega) only [shI, shR, shL, shC, shD, shW, sh_V, shN_e, shN_n, crI, crL, crC, crW, crV, crR_e, crR_n, crN_e, crN_n, ciR, ciL, ciD, ciN_e, ciN_n, rdI_e, rdI_n, rdC_i, rdC_o, rdW, rdU_e, rdU_n, rdLW, clI, clR, clC, clD, clW, clV, clN_e, clN_n, clL_e, clL_n]; done) | (simp (disch := omega) only [shI, shR, shL, shC, shD, shW, sh_V, shN_e, shN_n, crI, crL, crC, crW, crV, crR_e, crR_n, crN_e, crN_n, ciR, ciL, ciD, ciN_e, ciN_n, rdI_e, rdI_n, rdC_i, rdC_o, rdW, rdU_e, rdU_n, rdLW, clI, clR, clC, clD, clW, clV, clN_e, clN_n, clL_e, clL_n] <;> first | assumption | rfl | omega)) ?_
            try simp only [mP_w]
            refine x_aload_n dX2_sum_32 rfl rfl ?_
            refine x_aload_n dX2_sum_33 rfl rfl ?_
            refine g_callNX (vs := [_, _]) (d' := d - 1) rfl (s_X2_part (c := s.2.1) (u := s.2.2) (by omega) hR1 (by omega) (by omega) a2.1 a2.2 a3 hn0 hT0) dX2_sum_34 kX2_278 (by omega) (by decide) rfl (Nat.le_of_ble_eq_true rfl) (rcv_o (by first | assumption | first | assumption | (simp (disch := omega) only [shI, shR, shL, shC, shD, shW, sh_V, shN_e, shN_n, crI, crL, crC, crW, crV, crR_e, crR_n, crN_e, crN_n, ciR, ciL, ciD, ciN_e, ciN_n, rdI_e, rdI_n, rdC_i, rdC_o, rdW, rdU_e, rdU_n, rdLW, clI, clR, clC, clD, clW, clV, clN_e, clN_n, clL_e, clL_n]; done) | (simp (disch := omega) only [shI, shR, shL, shC, shD, shW, sh_V, shN_e, shN_n, crI, crL, crC, crW, crV, crR_e, crR_n, crN_e, crN_n, ciR, ciL, ciD, ciN_e, ciN_n, rdI_e, rdI_n, rdC_i, rdC_o, rdW, rdU_e, rdU_n, rdLW, clI, clR, clC, clD, clW, clV, clN_e, clN_n, clL_e, clL_n] <;> first | assumption | rfl | omega)) rfl) (fun M34 h34 => ?_) (fun a34 E34 M34 h34 => ?_)
            · obtain ⟨y, F', M', hy, hEy, hM, hU⟩ := h34
              rw [show ((skB tp e s.1 + 1, s.2.1, s.2.2) : LgS) = (skB tp e s.1 + 1, s.2) from rfl, hpt] at hy
              cases hy
              subst hM
              refine x_goto (tgt := 13) dX2_sum_37 (by decide) ?_
              exact ih _ (by omega) z.1 (j + 1) (em z 11 0) _ M' fu rfl (by omega) rfl hr ((Ev.bin hE hEy hG g2 (by omega) (by omega)).cg fun fc _ => op2_add) g4 (by omega) (by omega) (hK.up hXX hX7 hU)
            · obtain ⟨f', hf, -⟩ := h34
              rw [show ((skB tp e s.1 + 1, s.2.1, s.2.2) : LgS) = (skB tp e s.1 + 1, s.2) from rfl, hpt] at hf
              cases hf
      · rw [if_neg hc] at hr
        refine x_aload_n dX2_sum_13 rfl rfl ?_
        refine g_callI (vs := [_]) (d' := d - 1) rfl (s_X2_sign (by omega) hR1 (by omega)) dX2_sum_14 kX2_98 (by omega) (by decide) rfl (Nat.le_of_ble_eq_true rfl) (rcv_o (by first | assumption | first | assumption | (simp (disch := omega) only [shI, shR, shL, shC, shD, shW, sh_V, shN_e, shN_n, crI, crL, crC, crW, crV, crR_e, crR_n, crN_e, crN_n, ciR, ciL, ciD, ciN_e, ciN_n, rdI_e, rdI_n, rdC_i, rdC_o, rdW, rdU_e, rdU_n, rdLW, clI, clR, clC, clD, clW, clV, clN_e, clN_n, clL_e, clL_n]; done) | (simp (disch := omega) only [shI, shR, shL, shC, shD, shW, sh_V, shN_e, shN_n, crI, crL, crC, crW, crV, crR_e, crR_n, crN_e, crN_n, ciR, ciL, ciD, ciN_e, ciN_n, rdI_e, rdI_n, rdC_i, rdC_o, rdW, rdU_e, rdU_n, rdLW, clI, clR, clC, clD, clW, clV, clN_e, clN_n, clL_e, clL_n] <;> first | assumption | rfl | omega)) rfl) (fun x14 M14 h14 => ?_)
        obtain ⟨e14, f14⟩ := h14
        rw [hq] at f14
        have f14' := f14.symm
        subst f14'
        refine x_bipush dX2_sum_17 rfl ?_
        refine x_icmp_ne (tgt := 40) dX2_sum_19 (by decide) (fun h19 => ?_) (fun h19 => ?_)
        · refine x_aload_n dX2_sum_40 rfl rfl ?_
          refine x_areturn rfl (by first | exact Or.inl ⟨_, rfl⟩ | exact Or.inr ⟨_, rfl⟩) dX2_sum_41 ?_
          exact hQ _ _ (Or.inl ⟨_, rfl, (skB tp e s.1, s.2), F, M1, _, X, hr, hE, rfl, rfl, by omega, rfl, a1, a7, hK.fin hXX (by omega)⟩)
        · exact absurd (hsv.mp (e14.symm.trans h19)) hc
  have hM0n : 0 ≤ mci M0 X 1 ∧ mci M0 X 1 ≤ 1000000 := by
    have := hK0.2.2.2.2.1
    omega
  have hM0t : ∀ k, 0 ≤ k → k < 7 → 0 ≤ mci M0 (X + 1) k ∧ mci M0 (X + 1) k ≤ 1000000 := fun k k0 k1 => by have := hK0.2.2.2.2.2.1 k k0 k1; omega
  have r2' : msh M0 2 = some (2, 0) := hR0.1.1.1
  have er : rSum tp e (p, c, u) = (match rPart tp e (p, c, u) with
    | .inl x => .inl x
    | .inr y => rSumL tp e (e.toNat + 1) y) := rfl
  rcases hpt : rPart tp e (p, c, u) with f | z
  · rw [hpt] at er
    dsimp only at er
    have hnxP : ((mnx (mP M p) : Nat) : Int) = X := hXX
    refine x_newX (x := X) (by first | (simp only [nxI, nxR, nxL, nxC, nxD, nxW, nxV, nxN]; done) | (simp only [nxI, nxR, nxL, nxC, nxD, nxW, nxV, nxN]; omega) | omega) (t := 11) rfl q1173 q1174 q172 dX2_sum_0 ?_
    refine x_dup dX2_sum_3 rfl ?_
    refine g_callN (vs := [_]) (d' := d - 1) rfl (s_X11_init (by omega) (by omega) (by first | assumption | (simp (disch := omega) only [shI, shR, shL, shC, shD, shW, sh_V, shN_e, shN_n, crI, crL, crC, crW, crV, crR_e, crR_n, crN_e, crN_n, ciR, ciL, ciD, ciN_e, ciN_n, rdI_e, rdI_n, rdC_i, rdC_o, rdW, rdU_e, rdU_n, rdLW, clI, clR, clC, clD, clW, clV, clN_e, clN_n, clL_e, clL_n]; done) | (simp (disch := omega) only [shI, shR, shL, shC, shD, shW, sh_V, shN_e, shN_n, crI, crL, crC, crW, crV, crR_e, crR_n, crN_e, crN_n, ciR, ciL, ciD, ciN_e, ciN_n, rdI_e, rdI_n, rdC_i, rdC_o, rdW, rdU_e, rdU_n, rdLW, clI, clR, clC, clD, clW, clV, clN_e, clN_n, clL_e, clL_n] <;> first | assumption | rfl | omega)) (by first | (simp only [nxI, nxR, nxL, nxC, nxD, nxW, nxV, nxN]; done) | (simp only [nxI, nxR, nxL, nxC, nxD, nxW, nxV, nxN]; omega) | omega)) dX2_sum_4 kX2_277 (by omega) (by decide) rfl (Nat.le_of_ble_eq_true rfl) (rcv_o (by first | assumption | first | assumption | (simp (disch := omega) only [shI, shR, shL, shC, shD, shW, sh_V, shN_e, shN_n, crI, crL, crC, crW, crV, crR_e, crR_n, crN_e, crN_n, ciR, ciL, ciD, ciN_e, ciN_n, rdI_e, rdI_n, rdC_i, rdC_o, rdW, rdU_e, rdU_n, rdLW, clI, clR, clC, clD, clW, clV, clN_e, clN_n, clL_e, clL_n]; done) | (simp (disch := omega) only [shI, shR, shL, shC, shD, shW, sh_V, shN_e, shN_n, crI, crL, crC, crW, crV, crR_e, crR_n, crN_e, crN_n, ciR, ciL, ciD, ciN_e, ciN_n, rdI_e, rdI_n, rdC_i, rdC_o, rdW, rdU_e, rdU_n, rdLW, clI, clR, clC, clD, clW, clV, clN_e, clN_n, clL_e, clL_n] <;> first | assumption | rfl | omega)) rfl) (fun M4 h4 => ?_)
    subst h4
    refine WP.mem (hM0 _) ?_
    refine x_astore_n (L' := [some _, some _]) dX2_sum_7 rfl (by decide) rfl ?_
    refine x_aload_n dX2_sum_8 rfl rfl ?_
    refine x_aload_n dX2_sum_9 rfl rfl ?_
    refine g_callNX (vs := [_, _]) (d' := d - 1) rfl (s_X2_part (c := c) (u := u) (by omega) hR0 (by omega) (by omega) hK0.2.1.1 hK0.2.1.2 hK0.2.2.1 hM0n hM0t) dX2_sum_10 kX2_278 (by omega) (by decide) rfl (Nat.le_of_ble_eq_true rfl) (rcv_o (by first | assumption | first | assumption | (simp (disch := omega) only [shI, shR, shL, shC, shD, shW, sh_V, shN_e, shN_n, crI, crL, crC, crW, crV, crR_e, crR_n, crN_e, crN_n, ciR, ciL, ciD, ciN_e, ciN_n, rdI_e, rdI_n, rdC_i, rdC_o, rdW, rdU_e, rdU_n, rdLW, clI, clR, clC, clD, clW, clV, clN_e, clN_n, clL_e, clL_n]; done) | (simp (disch := omega) only [shI, shR, shL, shC, shD, shW, sh_V, shN_e, shN_n, crI, crL, crC, crW, crV, crR_e, crR_n, crN_e, crN_n, ciR, ciL, ciD, ciN_e, ciN_n, rdI_e, rdI_n, rdC_i, rdC_o, rdW, rdU_e, rdU_n, rdLW, clI, clR, clC, clD, clW, clV, clN_e, clN_n, clL_e, clL_n] <;> first | assumption | rfl | omega)) rfl) (fun M10 h10 => ?_) (fun a10 E10 M10 h10 => ?_)
    · obtain ⟨y, F', M', hy, -⟩ := h10
      rw [hpt] at hy
      cases hy
      skip
    · obtain ⟨f', hf, hx⟩ := h10
      rw [hpt] at hf
      cases hf
      exact th_nil rfl (hQ _ _ (Or.inr ⟨_, _, rfl, _, er, hx.d hK0.1 (Nat.le_refl _) (Nat.le_refl _) rfl⟩))
  · rw [hpt] at er
    dsimp only at er
    have hz := rPart_p (by show p ≤ e; omega) hpt
    have hz1 : p < z.1 := hz.1
    have g2 := rPart_g _ _ (by show p ≤ e; omega) hpt 0
    have hnxP : ((mnx (mP M p) : Nat) : Int) = X := hXX
    refine x_newX (x := X) (by first | (simp only [nxI, nxR, nxL, nxC, nxD, nxW, nxV, nxN]; done) | (simp only [nxI, nxR, nxL, nxC, nxD, nxW, nxV, nxN]; omega) | omega) (t := 11) rfl q1173 q1174 q172 dX2_sum_0 ?_
    refine x_dup dX2_sum_3 rfl ?_
    refine g_callN (vs := [_]) (d' := d - 1) rfl (s_X11_init (by omega) (by omega) (by first | assumption | (simp (disch := omega) only [shI, shR, shL, shC, shD, shW, sh_V, shN_e, shN_n, crI, crL, crC, crW, crV, crR_e, crR_n, crN_e, crN_n, ciR, ciL, ciD, ciN_e, ciN_n, rdI_e, rdI_n, rdC_i, rdC_o, rdW, rdU_e, rdU_n, rdLW, clI, clR, clC, clD, clW, clV, clN_e, clN_n, clL_e, clL_n]; done) | (simp (disch := omega) only [shI, shR, shL, shC, shD, shW, sh_V, shN_e, shN_n, crI, crL, crC, crW, crV, crR_e, crR_n, crN_e, crN_n, ciR, ciL, ciD, ciN_e, ciN_n, rdI_e, rdI_n, rdC_i, rdC_o, rdW, rdU_e, rdU_n, rdLW, clI, clR, clC, clD, clW, clV, clN_e, clN_n, clL_e, clL_n] <;> first | assumption | rfl | omega)) (by first | (simp only [nxI, nxR, nxL, nxC, nxD, nxW, nxV, nxN]; done) | (simp only [nxI, nxR, nxL, nxC, nxD, nxW, nxV, nxN]; omega) | omega)) dX2_sum_4 kX2_277 (by omega) (by decide) rfl (Nat.le_of_ble_eq_true rfl) (rcv_o (by first | assumption | first | assumption | (simp (disch := omega) only [shI, shR, shL, shC, shD, shW, sh_V, shN_e, shN_n, crI, crL, crC, crW, crV, crR_e, crR_n, crN_e, crN_n, ciR, ciL, ciD, ciN_e, ciN_n, rdI_e, rdI_n, rdC_i, rdC_o, rdW, rdU_e, rdU_n, rdLW, clI, clR, clC, clD, clW, clV, clN_e, clN_n, clL_e, clL_n]; done) | (simp (disch := omega) only [shI, shR, shL, shC, shD, shW, sh_V, shN_e, shN_n, crI, crL, crC, crW, crV, crR_e, crR_n, crN_e, crN_n, ciR, ciL, ciD, ciN_e, ciN_n, rdI_e, rdI_n, rdC_i, rdC_o, rdW, rdU_e, rdU_n, rdLW, clI, clR, clC, clD, clW, clV, clN_e, clN_n, clL_e, clL_n] <;> first | assumption | rfl | omega)) rfl) (fun M4 h4 => ?_)
    subst h4
    refine WP.mem (hM0 _) ?_
    refine x_astore_n (L' := [some _, some _]) dX2_sum_7 rfl (by decide) rfl ?_
    refine x_aload_n dX2_sum_8 rfl rfl ?_
    refine x_aload_n dX2_sum_9 rfl rfl ?_
    refine g_callNX (vs := [_, _]) (d' := d - 1) rfl (s_X2_part (c := c) (u := u) (by omega) hR0 (by omega) (by omega) hK0.2.1.1 hK0.2.1.2 hK0.2.2.1 hM0n hM0t) dX2_sum_10 kX2_278 (by omega) (by decide) rfl (Nat.le_of_ble_eq_true rfl) (rcv_o (by first | assumption | first | assumption | (simp (disch := omega) only [shI, shR, shL, shC, shD, shW, sh_V, shN_e, shN_n, crI, crL, crC, crW, crV, crR_e, crR_n, crN_e, crN_n, ciR, ciL, ciD, ciN_e, ciN_n, rdI_e, rdI_n, rdC_i, rdC_o, rdW, rdU_e, rdU_n, rdLW, clI, clR, clC, clD, clW, clV, clN_e, clN_n, clL_e, clL_n]; done) | (simp (disch := omega) only [shI, shR, shL, shC, shD, shW, sh_V, shN_e, shN_n, crI, crL, crC, crW, crV, crR_e, crR_n, crN_e, crN_n, ciR, ciL, ciD, ciN_e, ciN_n, rdI_e, rdI_n, rdC_i, rdC_o, rdW, rdU_e, rdU_n, rdLW, clI, clR, clC, clD, clW, clV, clN_e, clN_n, clL_e, clL_n] <;> first | assumption | rfl | omega)) rfl) (fun M10 h10 => ?_) (fun a10 E10 M10 h10 => ?_)
    · obtain ⟨y, F', M', hy, hEy, hM, hU⟩ := h10
      rw [hpt] at hy
      cases hy
      subst hM
      exact lp _ z.1 (0 + 1) z F' M' (e.toNat + 1) rfl (by omega) rfl er hEy g2 (by omega) (by omega) (by
        have h := hK0.up hXX hX7 hU
        have eF : (fun fc => 0 + F' fc) = F' := funext fun fc => Int.zero_add _
        rw [eF] at h
        exact h)
    · obtain ⟨f', hf, -⟩ := h10
      rw [hpt] at hf
      cases hf
end X2

