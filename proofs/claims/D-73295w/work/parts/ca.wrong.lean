/-! GuestView: what is wrong -/
section X1
variable {G : GW} {d : Nat} {M M1 : Mem} {x : Int}
theorem s_X1_isWrong (hd : 12 ≤ d) (s0 : msh M 0 = some (1, 0)) (s53 : msh M 53 = some (7, 0)) (hx : mci M 53 6 = x) : CS G d mX1_isWrong [dR 0, dR 53] M (postR fun r M1 => r = some (mnx M : Int) ∧ M1 = mN (mI M 0 13 x) 18 0 6) := by
  refine CS.mkQ (by decide) (Nat.le_of_ble_eq_true rfl) fun Q hQ => ?_
  refine x_aload_n dX1_isWrong_0 rfl rfl ?_
  refine x_aload_n dX1_isWrong_1 rfl rfl ?_
  refine g_getI (kI := 6) rfl dX1_isWrong_2 fX1_130_7 (by first | assumption | first | assumption | (simp (disch := omega) only [shI, shR, shL, shC, shD, shW, sh_V, shN_e, shN_n, crI, crL, crC, crW, crV, crR_e, crR_n, crN_e, crN_n, ciR, ciL, ciD, ciN_e, ciN_n, rdI_e, rdI_n, rdC_i, rdC_o, rdW, rdU_e, rdU_n, rdLW, clI, clR, clC, clD, clW, clV, clN_e, clN_n, clL_e, clL_n]; done) | (simp (disch := omega) only [shI, shR, shL, shC, shD, shW, sh_V, shN_e, shN_n, crI, crL, crC, crW, crV, crR_e, crR_n, crN_e, crN_n, ciR, ciL, ciD, ciN_e, ciN_n, rdI_e, rdI_n, rdC_i, rdC_o, rdW, rdU_e, rdU_n, rdLW, clI, clR, clC, clD, clW, clV, clN_e, clN_n, clL_e, clL_n] <;> first | assumption | rfl | omega)) ?_
  try simp (disch := omega) only [rdI_e, rdI_n, rdC_i, rdC_o, rdW, rdR, rdU_e, rdU_n, rdLW, Int.add_zero, hx]
  refine g_putI (kI := 13) rfl dX1_isWrong_5 fX1_65_1 (by first | assumption | first | assumption | (simp (disch := omega) only [shI, shR, shL, shC, shD, shW, sh_V, shN_e, shN_n, crI, crL, crC, crW, crV, crR_e, crR_n, crN_e, crN_n, ciR, ciL, ciD, ciN_e, ciN_n, rdI_e, rdI_n, rdC_i, rdC_o, rdW, rdU_e, rdU_n, rdLW, clI, clR, clC, clD, clW, clV, clN_e, clN_n, clL_e, clL_n]; done) | (simp (disch := omega) only [shI, shR, shL, shC, shD, shW, sh_V, shN_e, shN_n, crI, crL, crC, crW, crV, crR_e, crR_n, crN_e, crN_n, ciR, ciL, ciD, ciN_e, ciN_n, rdI_e, rdI_n, rdC_i, rdC_o, rdW, rdU_e, rdU_n, rdLW, clI, clR, clC, clD, clW, clV, clN_e, clN_n, clL_e, clL_n] <;> first | assumption | rfl | omega)) ?_
  refine x_make0 thr_IAE (by omega) (Nat.le_of_ble_eq_true rfl) dX1_isWrong_8 dX1_isWrong_11 dX1_isWrong_12 ?_
  refine x_areturn rfl (by first | exact Or.inl ⟨_, rfl⟩ | exact Or.inr ⟨_, rfl⟩) dX1_isWrong_15 ?_
  exact hQ _ _ ⟨_, rfl, rfl, rfl⟩
end X1

