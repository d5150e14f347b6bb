/-! Reader: its small steps -/
/-- the memory of the component's reader at a place -/
def mP (M : Mem) (p : Int) : Mem := mI M 2 9 p
section MP
variable {M : Mem} {p x a k : Int}
theorem mP_p : mci (mP M p) 2 9 = p := rdI_e ⟨rfl, rfl⟩
theorem mP_o (h : ¬ (a = 2 ∧ k = 9)) : mci (mP M p) a k = mci M a k := rdI_n h
theorem mP_e : mci (mP M p) 2 8 = mci M 2 8 := mP_o (by omega)
theorem mP_t : mci (mP M p) 3 k = mci M 3 k := mP_o (by omega)
theorem mP_w : mI (mP M p) 2 9 x = mP M x := by
  refine mem_ext (M := M) fun a k => ?_
  show (if a = 2 ∧ k = 9 then x else (if a = 2 ∧ k = 9 then p else mci M a k)) = (if a = 2 ∧ k = 9 then x else mci M a k)
  by_cases h : a = 2 ∧ k = 9
  · rw [if_pos h, if_pos h]
  · rw [if_neg h, if_neg h, if_neg h]
theorem mP_z : mP M (mci M 2 9) = M := by
  refine (mem_ext (M := M) (g := mci M) fun a k => ?_).trans rfl
  show (if a = 2 ∧ k = 9 then mci M 2 9 else mci M a k) = _
  split
  · rename_i h
    obtain ⟨rfl, rfl⟩ := h
    rfl
  · rfl
end MP
/-- bytes -/
def TpOk (tp : Int → Int) : Prop := ∀ k, -128 ≤ tp k ∧ tp k ≤ 127
/-- what the component's reader finds -/
def RdX (M : Mem) (tp : Int → Int) (e : Int) : Prop := RdC (msh M) (mcr M) ∧ mci M 2 8 = e ∧ mci M 3 = tp ∧ (0 ≤ e ∧ e ≤ 400) ∧ TxS M ∧ TpOk tp
theorem TxS.mP {M : Mem} {p : Int} (h : TxS M) : TxS (mP M p) := h.of (fun _ _ => rfl) (fun a k q => mP_o (by omega)) fun _ _ _ => rfl
/-- the sign that stands there -/
def sgV (tp : Int → Int) (e p : Int) : Int := if skB tp e p < e then tp (skB tp e p) % 256 else -1
theorem sgV_i {tp : Int → Int} {e p c : Int} (h : TpOk tp) (hc : 0 ≤ c ∧ c ≤ 127) : sgV tp e p = c ↔ chP tp e c c (skB tp e p) := by
  have := h (skB tp e p)
  unfold sgV chP
  split <;> omega
theorem sgV_f {tp : Int → Int} {e p : Int} (h : TpOk tp) : (48 ≤ sgV tp e p ∧ sgV tp e p ≤ 57) ↔ chP tp e 48 57 (skB tp e p) := by
  have := h (skB tp e p)
  unfold sgV chP
  split <;> omega
theorem sgV_n {tp : Int → Int} {e p : Int} : sgV tp e p = -1 ↔ ¬ skB tp e p < e := by
  unfold sgV
  split <;> omega
section X2
variable {G : GW} {d : Nat} {M M1 : Mem} {p e lo hi k n x a : Int} {tp : Int → Int}
theorem s_X2_sign (hd : 10 ≤ d) (hR : RdX M tp e) (hp : 0 ≤ p ∧ p ≤ e) : CS G d mX2_sign [dR 2] (mP M p) (postI fun y M1 => y = sgV tp e p ∧ M1 = mP M (skB tp e p)) := by
  obtain ⟨⟨⟨r0, r3, r4, r5, r6, r7, r53⟩, ⟨c0, c1, c2, c3, c4, c5, c6⟩, x1, x2, x3⟩, he, htp, he2, hX, hB⟩ := id hR
  have hte : ∀ k, mci M 3 k = tp k := fun k => congrFun htp k
  refine CS.mkQ (by decide) (Nat.le_of_ble_eq_true rfl) fun Q hQ => ?_
  have lp : ∀ (t : Nat) (q : Int), (e - q).toNat = t → (0 ≤ q ∧ q ≤ e) → (skB tp e q = skB tp e p) → WP G d mX2_sign 0 [some (dR 2)] [] (mP M q) Q := by
    intro t
    induction t using Nat.strongRecOn with
    | _ t ih =>
      intro q ht h0 hq
      by_cases h : chP tp e 32 32 q
      · have h1 := h.1
        have h2 := h.2
        refine x_aload_n dX2_sign_0 rfl rfl ?_
        refine g_getI (kI := 9) rfl dX2_sign_1 fX2_92_2 (by first | assumption | first | assumption | (simp (disch := omega) only [shI, shR, shL, shC, shD, shW, sh_V, shN_e, shN_n, crI, crL, crC, crW, crV, crR_e, crR_n, crN_e, crN_n, ciR, ciL, ciD, ciN_e, ciN_n, rdI_e, rdI_n, rdC_i, rdC_o, rdW, rdU_e, rdU_n, rdLW, clI, clR, clC, clD, clW, clV, clN_e, clN_n, clL_e, clL_n]; done) | (simp (disch := omega) only [shI, shR, shL, shC, shD, shW, sh_V, shN_e, shN_n, crI, crL, crC, crW, crV, crR_e, crR_n, crN_e, crN_n, ciR, ciL, ciD, ciN_e, ciN_n, rdI_e, rdI_n, rdC_i, rdC_o, rdW, rdU_e, rdU_n, rdLW, clI, clR, clC, clD, clW, clV, clN_e, clN_n, clL_e, clL_n] <;> first | assumption | rfl | omega)) ?_
        try simp (disch := omega) only [rdI_e, rdI_n, rdC_i, rdC_o, rdW, rdR, rdU_e, rdU_n, rdLW, Int.add_zero, mP_p, mP_e, mP_t, he, hte]
        refine x_aload_n dX2_sign_4 rfl rfl ?_
        refine g_getI (kI := 8) rfl dX2_sign_5 fX2_95_2 (by first | assumption | first | assumption | (simp (disch := omega) only [shI, shR, shL, shC, shD, shW, sh_V, shN_e, shN_n, crI, crL, crC, crW, crV, crR_e, crR_n, crN_e, crN_n, ciR, ciL, ciD, ciN_e, ciN_n, rdI_e, rdI_n, rdC_i, rdC_o, rdW, rdU_e, rdU_n, rdLW, clI, clR, clC, clD, clW, clV, clN_e, clN_n, clL_e, clL_n]; done) | (simp (disch := omega) only [shI, shR, shL, shC, shD, shW, sh_V, shN_e, shN_n, crI, crL, crC, crW, crV, crR_e, crR_n, crN_e, crN_n, ciR, ciL, ciD, ciN_e, ciN_n, rdI_e, rdI_n, rdC_i, rdC_o, rdW, rdU_e, rdU_n, rdLW, clI, clR, clC, clD, clW, clV, clN_e, clN_n, clL_e, clL_n] <;> first | assumption | rfl | omega)) ?_
        try simp (disch := omega) only [rdI_e, rdI_n, rdC_i, rdC_o, rdW, rdR, rdU_e, rdU_n, rdLW, Int.add_zero, mP_p, mP_e, mP_t, he, hte]
        refine x_icmp_ge (tgt := 38) dX2_sign_8 (by decide) (fun h8' => ?_) (fun h8' => ?_)
        · omega
        · refine x_aload_n dX2_sign_11 rfl rfl ?_
          refine g_getR (kI := 0) rfl dX2_sign_12 fX2_9_2 (by first | assumption | first | assumption | (simp (disch := omega) only [shI, shR, shL, shC, shD, shW, sh_V, shN_e, shN_n, crI, crL, crC, crW, crV, crR_e, crR_n, crN_e, crN_n, ciR, ciL, ciD, ciN_e, ciN_n, rdI_e, rdI_n, rdC_i, rdC_o, rdW, rdU_e, rdU_n, rdLW, clI, clR, clC, clD, clW, clV, clN_e, clN_n, clL_e, clL_n]; done) | (simp (disch := omega) only [shI, shR, shL, shC, shD, shW, sh_V, shN_e, shN_n, crI, crL, crC, crW, crV, crR_e, crR_n, crN_e, crN_n, ciR, ciL, ciD, ciN_e, ciN_n, rdI_e, rdI_n, rdC_i, rdC_o, rdW, rdU_e, rdU_n, rdLW, clI, clR, clC, clD, clW, clV, clN_e, clN_n, clL_e, clL_n] <;> first | assumption | rfl | omega)) (by first | assumption | first | assumption | (simp (disch := omega) only [shI, shR, shL, shC, shD, shW, sh_V, shN_e, shN_n, crI, crL, crC, crW, crV, crR_e, crR_n, crN_e, crN_n, ciR, ciL, ciD, ciN_e, ciN_n, rdI_e, rdI_n, rdC_i, rdC_o, rdW, rdU_e, rdU_n, rdLW, clI, clR, clC, clD, clW, clV, clN_e, clN_n, clL_e, clL_n]; done) | (simp (disch := omega) only [shI, shR, shL, shC, shD, shW, sh_V, shN_e, shN_n, crI, crL, crC, crW, crV, crR_e, crR_n, crN_e, crN_n, ciR, ciL, ciD, ciN_e, ciN_n, rdI_e, rdI_n, rdC_i, rdC_o, rdW, rdU_e, rdU_n, rdLW, clI, clR, clC, clD, clW, clV, clN_e, clN_n, clL_e, clL_n] <;> first | assumption | rfl | omega)) ?_
          refine x_aload_n dX2_sign_15 rfl rfl ?_
          refine g_getI (kI := 9) rfl dX2_sign_16 fX2_92_2 (by first | assumption | first | assumption | (simp (disch := omega) only [shI, shR, shL, shC, shD, shW, sh_V, shN_e, shN_n, crI, crL, crC, crW, crV, crR_e, crR_n, crN_e, crN_n, ciR, ciL, ciD, ciN_e, ciN_n, rdI_e, rdI_n, rdC_i, rdC_o, rdW, rdU_e, rdU_n, rdLW, clI, clR, clC, clD, clW, clV, clN_e, clN_n, clL_e, clL_n]; done) | (simp (disch := omega) only [shI, shR, shL, shC, shD, shW, sh_V, shN_e, shN_n, crI, crL, crC, crW, crV, crR_e, crR_n, crN_e, crN_n, ciR, ciL, ciD, ciN_e, ciN_n, rdI_e, rdI_n, rdC_i, rdC_o, rdW, rdU_e, rdU_n, rdLW, clI, clR, clC, clD, clW, clV, clN_e, clN_n, clL_e, clL_n] <;> first | assumption | rfl | omega)) ?_
          try simp (disch := omega) only [rdI_e, rdI_n, rdC_i, rdC_o, rdW, rdR, rdU_e, rdU_n, rdLW, Int.add_zero, mP_p, mP_e, mP_t, he, hte]
          refine x_bald dX2_sign_19 (by first | assumption | first | assumption | (simp (disch := omega) only [shI, shR, shL, shC, shD, shW, sh_V, shN_e, shN_n, crI, crL, crC, crW, crV, crR_e, crR_n, crN_e, crN_n, ciR, ciL, ciD, ciN_e, ciN_n, rdI_e, rdI_n, rdC_i, rdC_o, rdW, rdU_e, rdU_n, rdLW, clI, clR, clC, clD, clW, clV, clN_e, clN_n, clL_e, clL_n]; done) | (simp (disch := omega) only [shI, shR, shL, shC, shD, shW, sh_V, shN_e, shN_n, crI, crL, crC, crW, crV, crR_e, crR_n, crN_e, crN_n, ciR, ciL, ciD, ciN_e, ciN_n, rdI_e, rdI_n, rdC_i, rdC_o, rdW, rdU_e, rdU_n, rdLW, clI, clR, clC, clD, clW, clV, clN_e, clN_n, clL_e, clL_n] <;> first | assumption | rfl | omega)) (by omega) (by omega) ?_
          try simp (disch := omega) only [rdI_e, rdI_n, rdC_i, rdC_o, rdW, rdR, rdU_e, rdU_n, rdLW, Int.add_zero, mP_p, mP_e, mP_t, he, hte]
          refine x_bipush dX2_sign_20 rfl ?_
          refine x_icmp_ne (tgt := 38) dX2_sign_22 (by decide) (fun h22 => ?_) (fun h22 => ?_)
          · omega
          · refine x_aload_n dX2_sign_25 rfl rfl ?_
            refine x_dup dX2_sign_26 rfl ?_
            refine g_getI (kI := 9) rfl dX2_sign_27 fX2_92_2 (by first | assumption | first | assumption | (simp (disch := omega) only [shI, shR, shL, shC, shD, shW, sh_V, shN_e, shN_n, crI, crL, crC, crW, crV, crR_e, crR_n, crN_e, crN_n, ciR, ciL, ciD, ciN_e, ciN_n, rdI_e, rdI_n, rdC_i, rdC_o, rdW, rdU_e, rdU_n, rdLW, clI, clR, clC, clD, clW, clV, clN_e, clN_n, clL_e, clL_n]; done) | (simp (disch := omega) only [shI, shR, shL, shC, shD, shW, sh_V, shN_e, shN_n, crI, crL, crC, crW, crV, crR_e, crR_n, crN_e, crN_n, ciR, ciL, ciD, ciN_e, ciN_n, rdI_e, rdI_n, rdC_i, rdC_o, rdW, rdU_e, rdU_n, rdLW, clI, clR, clC, clD, clW, clV, clN_e, clN_n, clL_e, clL_n] <;> first | assumption | rfl | omega)) ?_
            try simp (disch := omega) only [rdI_e, rdI_n, rdC_i, rdC_o, rdW, rdR, rdU_e, rdU_n, rdLW, Int.add_zero, mP_p, mP_e, mP_t, he, hte]
            refine x_iconst dX2_sign_30 rfl ?_
            first | refine x_iaddN dX2_sign_31 (by unfold i32; omega) ?_ | refine x_iadd dX2_sign_31 ?_
            refine g_putI (kI := 9) rfl dX2_sign_32 fX2_92_2 (by first | assumption | first | assumption | (simp (disch := omega) only [shI, shR, shL, shC, shD, shW, sh_V, shN_e, shN_n, crI, crL, crC, crW, crV, crR_e, crR_n, crN_e, crN_n, ciR, ciL, ciD, ciN_e, ciN_n, rdI_e, rdI_n, rdC_i, rdC_o, rdW, rdU_e, rdU_n, rdLW, clI, clR, clC, clD, clW, clV, clN_e, clN_n, clL_e, clL_n]; done) | (simp (disch := omega) only [shI, shR, shL, shC, shD, shW, sh_V, shN_e, shN_n, crI, crL, crC, crW, crV, crR_e, crR_n, crN_e, crN_n, ciR, ciL, ciD, ciN_e, ciN_n, rdI_e, rdI_n, rdC_i, rdC_o, rdW, rdU_e, rdU_n, rdLW, clI, clR, clC, clD, clW, clV, clN_e, clN_n, clL_e, clL_n] <;> first | assumption | rfl | omega)) ?_
            try simp only [mP_w]
            refine x_goto (tgt := 0) dX2_sign_35 (by decide) ?_
            exact ih _ (by omega) (q + 1) rfl (by omega) ((spB_s h).symm.trans hq)
      · have eq : skB tp e q = q := spB_e h
        rw [eq] at hq
        have ev : sgV tp e p = if q < e then tp q % 256 else -1 := by
          unfold sgV
          rw [← hq]
        refine x_aload_n dX2_sign_0 rfl rfl ?_
        refine g_getI (kI := 9) rfl dX2_sign_1 fX2_92_2 (by first | assumption | first | assumption | (simp (disch := omega) only [shI, shR, shL, shC, shD, shW, sh_V, shN_e, shN_n, crI, crL, crC, crW, crV, crR_e, crR_n, crN_e, crN_n, ciR, ciL, ciD, ciN_e, ciN_n, rdI_e, rdI_n, rdC_i, rdC_o, rdW, rdU_e, rdU_n, rdLW, clI, clR, clC, clD, clW, clV, clN_e, clN_n, clL_e, clL_n]; done) | (simp (disch := omega) only [shI, shR, shL, shC, shD, shW, sh_V, shN_e, shN_n, crI, crL, crC, crW, crV, crR_e, crR_n, crN_e, crN_n, ciR, ciL, ciD, ciN_e, ciN_n, rdI_e, rdI_n, rdC_i, rdC_o, rdW, rdU_e, rdU_n, rdLW, clI, clR, clC, clD, clW, clV, clN_e, clN_n, clL_e, clL_n] <;> first | assumption | rfl | omega)) ?_
        try simp (disch := omega) only [rdI_e, rdI_n, rdC_i, rdC_o, rdW, rdR, rdU_e, rdU_n, rdLW, Int.add_zero, mP_p, mP_e, mP_t, he, hte]
        refine x_aload_n dX2_sign_4 rfl rfl ?_
        refine g_getI (kI := 8) rfl dX2_sign_5 fX2_95_2 (by first | assumption | first | assumption | (simp (disch := omega) only [shI, shR, shL, shC, shD, shW, sh_V, shN_e, shN_n, crI, crL, crC, crW, crV, crR_e, crR_n, crN_e, crN_n, ciR, ciL, ciD, ciN_e, ciN_n, rdI_e, rdI_n, rdC_i, rdC_o, rdW, rdU_e, rdU_n, rdLW, clI, clR, clC, clD, clW, clV, clN_e, clN_n, clL_e, clL_n]; done) | (simp (disch := omega) only [shI, shR, shL, shC, shD, shW, sh_V, shN_e, shN_n, crI, crL, crC, crW, crV, crR_e, crR_n, crN_e, crN_n, ciR, ciL, ciD, ciN_e, ciN_n, rdI_e, rdI_n, rdC_i, rdC_o, rdW, rdU_e, rdU_n, rdLW, clI, clR, clC, clD, clW, clV, clN_e, clN_n, clL_e, clL_n] <;> first | assumption | rfl | omega)) ?_
        try simp (disch := omega) only [rdI_e, rdI_n, rdC_i, rdC_o, rdW, rdR, rdU_e, rdU_n, rdLW, Int.add_zero, mP_p, mP_e, mP_t, he, hte]
        refine x_icmp_ge (tgt := 38) dX2_sign_8 (by decide) (fun h8' => ?_) (fun h8' => ?_)
        · refine x_aload_n dX2_sign_38 rfl rfl ?_
          refine g_getI (kI := 9) rfl dX2_sign_39 fX2_92_2 (by first | assumption | first | assumption | (simp (disch := omega) only [shI, shR, shL, shC, shD, shW, sh_V, shN_e, shN_n, crI, crL, crC, crW, crV, crR_e, crR_n, crN_e, crN_n, ciR, ciL, ciD, ciN_e, ciN_n, rdI_e, rdI_n, rdC_i, rdC_o, rdW, rdU_e, rdU_n, rdLW, clI, clR, clC, clD, clW, clV, clN_e, clN_n, clL_e, clL_n]; done) | (simp (disch := omega) only [shI, shR, shL, shC, shD, shW, sh_V, shN_e, shN_n, crI, crL, crC, crW, crV, crR_e, crR_n, crN_e, crN_n, ciR, ciL, ciD, ciN_e, ciN_n, rdI_e, rdI_n, rdC_i, rdC_o, rdW, rdU_e, rdU_n, rdLW, clI, clR, clC, clD, clW, clV, clN_e, clN_n, clL_e, clL_n] <;> first | assumption | rfl | omega)) ?_
          try simp (disch := omega) only [rdI_e, rdI_n, rdC_i, rdC_o, rdW, rdR, rdU_e, rdU_n, rdLW, Int.add_zero, mP_p, mP_e, mP_t, he, hte]
          refine x_aload_n dX2_sign_42 rfl rfl ?_
          refine g_getI (kI := 8) rfl dX2_sign_43 fX2_95_2 (by first | assumption | first | assumption | (simp (disch := omega) only [shI, shR, shL, shC, shD, shW, sh_V, shN_e, shN_n, crI, crL, crC, crW, crV, crR_e, crR_n, crN_e, crN_n, ciR, ciL, ciD, ciN_e, ciN_n, rdI_e, rdI_n, rdC_i, rdC_o, rdW, rdU_e, rdU_n, rdLW, clI, clR, clC, clD, clW, clV, clN_e, clN_n, clL_e, clL_n]; done) | (simp (disch := omega) only [shI, shR, shL, shC, shD, shW, sh_V, shN_e, shN_n, crI, crL, crC, crW, crV, crR_e, crR_n, crN_e, crN_n, ciR, ciL, ciD, ciN_e, ciN_n, rdI_e, rdI_n, rdC_i, rdC_o, rdW, rdU_e, rdU_n, rdLW, clI, clR, clC, clD, clW, clV, clN_e, clN_n, clL_e, clL_n] <;> first | assumption | rfl | omega)) ?_
          try simp (disch := omega) only [rdI_e, rdI_n, rdC_i, rdC_o, rdW, rdR, rdU_e, rdU_n, rdLW, Int.add_zero, mP_p, mP_e, mP_t, he, hte]
          refine x_icmp_ge (tgt := 65) dX2_sign_46 (by decide) (fun h46 => ?_) (fun h46 => ?_)
          · refine x_iconst dX2_sign_65 rfl ?_
            refine x_ireturn rfl dX2_sign_66 ?_
            refine hQ _ _ ⟨_, rfl, ?_, by rw [hq]⟩
            rw [ev]
            first
            | (rw [if_neg (show ¬ q < e by omega)]; done)
            | (rw [if_pos (show q < e by omega)]; exact jand_lo 8 (by omega) rfl)
          · refine x_aload_n dX2_sign_49 rfl rfl ?_
            refine g_getR (kI := 0) rfl dX2_sign_50 fX2_9_2 (by first | assumption | first | assumption | (simp (disch := omega) only [shI, shR, shL, shC, shD, shW, sh_V, shN_e, shN_n, crI, crL, crC, crW, crV, crR_e, crR_n, crN_e, crN_n, ciR, ciL, ciD, ciN_e, ciN_n, rdI_e, rdI_n, rdC_i, rdC_o, rdW, rdU_e, rdU_n, rdLW, clI, clR, clC, clD, clW, clV, clN_e, clN_n, clL_e, clL_n]; done) | (simp (disch := omega) only [shI, shR, shL, shC, shD, shW, sh_V, shN_e, shN_n, crI, crL, crC, crW, crV, crR_e, crR_n, crN_e, crN_n, ciR, ciL, ciD, ciN_e, ciN_n, rdI_e, rdI_n, rdC_i, rdC_o, rdW, rdU_e, rdU_n, rdLW, clI, clR, clC, clD, clW, clV, clN_e, clN_n, clL_e, clL_n] <;> first | assumption | rfl | omega)) (by first | assumption | first | assumption | (simp (disch := omega) only [shI, shR, shL, shC, shD, shW, sh_V, shN_e, shN_n, crI, crL, crC, crW, crV, crR_e, crR_n, crN_e, crN_n, ciR, ciL, ciD, ciN_e, ciN_n, rdI_e, rdI_n, rdC_i, rdC_o, rdW, rdU_e, rdU_n, rdLW, clI, clR, clC, clD, clW, clV, clN_e, clN_n, clL_e, clL_n]; done) | (simp (disch := omega) only [shI, shR, shL, shC, shD, shW, sh_V, shN_e, shN_n, crI, crL, crC, crW, crV, crR_e, crR_n, crN_e, crN_n, ciR, ciL, ciD, ciN_e, ciN_n, rdI_e, rdI_n, rdC_i, rdC_o, rdW, rdU_e, rdU_n, rdLW, clI, clR, clC, clD, clW, clV, clN_e, clN_n, clL_e, clL_n] <;> first | assumption | rfl | omega)) ?_
            refine x_aload_n dX2_sign_53 rfl rfl ?_
            refine g_getI (kI := 9) rfl dX2_sign_54 fX2_92_2 (by first | assumption | first | assumption | (simp (disch := omega) only [shI, shR, shL, shC, shD, shW, sh_V, shN_e, shN_n, crI, crL, crC, crW, crV, crR_e, crR_n, crN_e, crN_n, ciR, ciL, ciD, ciN_e, ciN_n, rdI_e, rdI_n, rdC_i, rdC_o, rdW, rdU_e, rdU_n, rdLW, clI, clR, clC, clD, clW, clV, clN_e, clN_n, clL_e, clL_n]; done) | (simp (disch := omega) only [shI, shR, shL, shC, shD, shW, sh_V, shN_e, shN_n, crI, crL, crC, crW, crV, crR_e, crR_n, crN_e, crN_n, ciR, ciL, ciD, ciN_e, ciN_n, rdI_e, rdI_n, rdC_i, rdC_o, rdW, rdU_e, rdU_n, rdLW, clI, clR, clC, clD, clW, clV, clN_e, clN_n, clL_e, clL_n] <;> first | assumption | rfl | omega)) ?_
            try simp (disch := omega) only [rdI_e, rdI_n, rdC_i, rdC_o, rdW, rdR, rdU_e, rdU_n, rdLW, Int.add_zero, mP_p, mP_e, mP_t, he, hte]
            refine x_bald dX2_sign_57 (by first | assumption | first | assumption | (simp (disch := omega) only [shI, shR, shL, shC, shD, shW, sh_V, shN_e, shN_n, crI, crL, crC, crW, crV, crR_e, crR_n, crN_e, crN_n, ciR, ciL, ciD, ciN_e, ciN_n, rdI_e, rdI_n, rdC_i, rdC_o, rdW, rdU_e, rdU_n, rdLW, clI, clR, clC, clD, clW, clV, clN_e, clN_n, clL_e, clL_n]; done) | (simp (disch := omega) only [shI, shR, shL, shC, shD, shW, sh_V, shN_e, shN_n, crI, crL, crC, crW, crV, crR_e, crR_n, crN_e, crN_n, ciR, ciL, ciD, ciN_e, ciN_n, rdI_e, rdI_n, rdC_i, rdC_o, rdW, rdU_e, rdU_n, rdLW, clI, clR, clC, clD, clW, clV, clN_e, clN_n, clL_e, clL_n] <;> first | assumption | rfl | omega)) (by omega) (by omega) ?_
            try simp (disch := omega) only [rdI_e, rdI_n, rdC_i, rdC_o, rdW, rdR, rdU_e, rdU_n, rdLW, Int.add_zero, mP_p, mP_e, mP_t, he, hte]
            refine x_sipush dX2_sign_58 rfl ?_
            refine x_iand dX2_sign_61 ?_
            refine x_goto (tgt := 66) dX2_sign_62 (by decide) ?_
            refine x_ireturn rfl dX2_sign_66 ?_
            refine hQ _ _ ⟨_, rfl, ?_, by rw [hq]⟩
            rw [ev]
            first
            | (rw [if_neg (show ¬ q < e by omega)]; done)
            | (rw [if_pos (show q < e by omega)]; exact jand_lo 8 (by omega) rfl)
        · refine x_aload_n dX2_sign_11 rfl rfl ?_
          refine g_getR (kI := 0) rfl dX2_sign_12 fX2_9_2 (by first | assumption | first | assumption | (simp (disch := omega) only [shI, shR, shL, shC, shD, shW, sh_V, shN_e, shN_n, crI, crL, crC, crW, crV, crR_e, crR_n, crN_e, crN_n, ciR, ciL, ciD, ciN_e, ciN_n, rdI_e, rdI_n, rdC_i, rdC_o, rdW, rdU_e, rdU_n, rdLW, clI, clR, clC, clD, clW, clV, clN_e, clN_n, clL_e, clL_n]; done) | (simp (disch := omega) only [shI, shR, shL, shC, shD, shW, sh_V, shN_e, shN_n, crI, crL, crC, crW, crV, crR_e, crR_n, crN_e, crN_n, ciR, ciL, ciD, ciN_e, ciN_n, rdI_e, rdI_n, rdC_i, rdC_o, rdW, rdU_e, rdU_n, rdLW, clI, clR, clC, clD, clW, clV, clN_e, clN_n, clL_e, clL_n] <;> first | assumption | rfl | omega)) (by first | assumption | first | assumption | (simp (disch := omega) only [shI, shR, shL, shC, shD, shW, sh_V, shN_e, shN_n, crI, crL, crC, crW, crV, crR_e, crR_n, crN_e, crN_n, ciR, ciL, ciD, ciN_e, ciN_n, rdI_e, rdI_n, rdC_i, rdC_o, rdW, rdU_e, rdU_n, rdLW, clI, clR, clC, clD, clW, clV, clN_e, clN_n, clL_e, clL_n]; done) | (simp (disch := omega) only [shI, shR, shL, shC, shD, shW, sh_V, shN_e, shN_n, crI, crL, crC, crW, crV, crR_e, crR_n, crN_e, crN_n, ciR, ciL, ciD, ciN_e, ciN_n, rdI_e, rdI_n, rdC_i, rdC_o, rdW, rdU_e, rdU_n, rdLW, clI, clR, clC, clD, clW, clV, clN_e, clN_n, clL_e, clL_n] <;> first | assumption | rfl | omega)) ?_
          refine x_aload_n dX2_sign_15 rfl rfl ?_
          refine g_getI (kI := 9) rfl dX2_sign_16 fX2_92_2 (by first | assumption | first | assumption | (simp (disch := omega) only [shI, shR, shL, shC, shD, shW, sh_V, shN_e, shN_n, crI, crL, crC, crW, crV, crR_e, crR_n, crN_e, crN_n, ciR, ciL, ciD, ciN_e, ciN_n, rdI_e, rdI_n, rdC_i, rdC_o, rdW, rdU_e, rdU_n, rdLW, clI, clR, clC, clD, clW, clV, clN_e, clN_n, clL_e, clL_n]; done) | (simp (disch := omega) only [shI, shR, shL, shC, shD, shW, sh_V, shN_e, shN_n, crI, crL, crC, crW, crV, crR_e, crR_n, crN_e, crN_n, ciR, ciL, ciD, ciN_e, ciN_n, rdI_e, rdI_n, rdC_i, rdC_o, rdW, rdU_e, rdU_n, rdLW, clI, clR, clC, clD, clW, clV, clN_e, clN_n, clL_e, clL_n] <;> first | assumption | rfl | omega)) ?_
          try simp (disch := omega) only [rdI_e, rdI_n, rdC_i, rdC_o, rdW, rdR, rdU_e, rdU_n, rdLW, Int.add_zero, mP_p, mP_e, mP_t, he, hte]
          refine x_bald dX2_sign_19 (by first | assumption | first | assumption | (simp (disch := omega) only [shI, shR, shL, shC, shD, shW, sh_V, shN_e, shN_n, crI, crL, crC, crW, crV, crR_e, crR_n, crN_e, crN_n, ciR, ciL, ciD, ciN_e, ciN_n, rdI_e, rdI_n, rdC_i, rdC_o, rdW, rdU_e, rdU_n, rdLW, clI, clR, clC, clD, clW, clV, clN_e, clN_n, clL_e, clL_n]; done) | (simp (disch := omega) only [shI, shR, shL, shC, shD, shW, sh_V, shN_e, shN_n, crI, crL, crC, crW, crV, crR_e, crR_n, crN_e, crN_n, ciR, ciL, ciD, ciN_e, ciN_n, rdI_e, rdI_n, rdC_i, rdC_o, rdW, rdU_e, rdU_n, rdLW, clI, clR, clC, clD, clW, clV, clN_e, clN_n, clL_e, clL_n] <;> first | assumption | rfl | omega)) (by omega) (by omega) ?_
          try simp (disch := omega) only [rdI_e, rdI_n, rdC_i, rdC_o, rdW, rdR, rdU_e, rdU_n, rdLW, Int.add_zero, mP_p, mP_e, mP_t, he, hte]
          refine x_bipush dX2_sign_20 rfl ?_
          refine x_icmp_ne (tgt := 38) dX2_sign_22 (by decide) (fun h22 => ?_) (fun h22 => ?_)
          · refine x_aload_n dX2_sign_38 rfl rfl ?_
            refine g_getI (kI := 9) rfl dX2_sign_39 fX2_92_2 (by first | assumption | first | assumption | (simp (disch := omega) only [shI, shR, shL, shC, shD, shW, sh_V, shN_e, shN_n, crI, crL, crC, crW, crV, crR_e, crR_n, crN_e, crN_n, ciR, ciL, ciD, ciN_e, ciN_n, rdI_e, rdI_n, rdC_i, rdC_o, rdW, rdU_e, rdU_n, rdLW, clI, clR, clC, clD, clW, clV, clN_e, clN_n, clL_e, clL_n]; done) | (simp (disch := omega) only [shI, shR, shL, shC, shD, shW, sh_V, shN_e, shN_n, crI, crL, crC, crW, crV, crR_e, crR_n, crN_e, crN_n, ciR, ciL, ciD, ciN_e, ciN_n, rdI_e, rdI_n, rdC_i, rdC_o, rdW, rdU_e, rdU_n, rdLW, clI, clR, clC, clD, clW, clV, clN_e, clN_n, clL_e, clL_n] <;> first | assumption | rfl | omega)) ?_
            try simp (disch := omega) only [rdI_e, rdI_n, rdC_i, rdC_o, rdW, rdR, rdU_e, rdU_n, rdLW, Int.add_zero, mP_p, mP_e, mP_t, he, hte]
            refine x_aload_n dX2_sign_42 rfl rfl ?_
            refine g_getI (kI := 8) rfl dX2_sign_43 fX2_95_2 (by first | assumption | first | assumption | (simp (disch := omega) only [shI, shR, shL, shC, shD, shW, sh_V, shN_e, shN_n, crI, crL, crC, crW, crV, crR_e, crR_n, crN_e, crN_n, ciR, ciL, ciD, ciN_e, ciN_n, rdI_e, rdI_n, rdC_i, rdC_o, rdW, rdU_e, rdU_n, rdLW, clI, clR, clC, clD, clW, clV, clN_e, clN_n, clL_e, clL_n]; done) | (simp (disch := omega) only [shI, shR, shL, shC, shD, shW, sh_V, shN_e, shN_n, crI, crL, crC, crW, crV, crR_e, crR_n, crN_e, crN_n, ciR, ciL, ciD, ciN_e, ciN_n, rdI_e, rdI_n, rdC_i, rdC_o, rdW, rdU_e, rdU_n, rdLW, clI, clR, clC, clD, clW, clV, clN_e, clN_n, clL_e, clL_n] <;> first | assumption | rfl | omega)) ?_
            try simp (disch := omega) only [rdI_e, rdI_n, rdC_i, rdC_o, rdW, rdR, rdU_e, rdU_n, rdLW, Int.add_zero, mP_p, mP_e, mP_t, he, hte]
            refine x_icmp_ge (tgt := 65) dX2_sign_46 (by decide) (fun h46 => ?_) (fun h46 => ?_)
            · refine x_iconst dX2_sign_65 rfl ?_
              refine x_ireturn rfl dX2_sign_66 ?_
              refine hQ _ _ ⟨_, rfl, ?_, by rw [hq]⟩
              rw [ev]
              first
              | (rw [if_neg (show ¬ q < e by omega)]; done)
              | (rw [if_pos (show q < e by omega)]; exact jand_lo 8 (by omega) rfl)
            · refine x_aload_n dX2_sign_49 rfl rfl ?_
              refine g_getR (kI := 0) rfl dX2_sign_50 fX2_9_2 (by first | assumption | first | assumption | (simp (disch := omega) only [shI, shR, shL, shC, shD, shW, sh_V, shN_e, shN_n, crI, crL, crC, crW, crV, crR_e, crR_n, crN_e, crN_n, ciR, ciL, ciD, ciN_e, ciN_n, rdI_e, rdI_n, rdC_i, rdC_o, rdW, rdU_e, rdU_n, rdLW, clI, clR, clC, clD, clW, clV, clN_e, clN_n, clL_e, clL_n]; done) | (simp (disch := omega) only [shI, shR, shL, shC, shD, shW, sh_V, shN_e, shN_n, crI, crL, crC, crW, crV, crR_e, crR_n, crN_e, crN_n, ciR, ciL, ciD, ciN_e, ciN_n, rdI_e, rdI_n, rdC_i, rdC_o, rdW, rdU_e, rdU_n, rdLW, clI, clR, clC, clD, clW, clV, clN_e, clN_n, clL_e, clL_n] <;> first | assumption | rfl | omega)) (by first | assumption | first | assumption | (simp (disch := omega) only [shI, shR, shL, shC, shD, shW, sh_V, shN_e, shN_n, crI, crL, crC, crW, crV, crR_e, crR_n, crN_e, crN_n, ciR, ciL, ciD, ciN_e, ciN_n, rdI_e, rdI_n, rdC_i, rdC_o, rdW, rdU_e, rdU_n, rdLW, clI, clR, clC, clD, clW, clV, clN_e, clN_n, clL_e, clL_n]; done) | (simp (disch := omega) only [shI, shR, shL, shC, shD, shW, sh_V, shN_e, shN_n, crI, crL, crC, crW, crV, crR_e, crR_n, crN_e, crN_n, ciR, ciL, ciD, ciN_e, ciN_n, rdI_e, rdI_n, rdC_i, rdC_o, rdW, rdU_e, rdU_n, rdLW, clI, clR, clC, clD, clW, clV, clN_e, clN_n, clL_e, clL_n] <;> first | assumption | rfl | omega)) ?_
              refine x_aload_n dX2_sign_53 rfl rfl ?_
              refine g_getI (kI := 9) rfl dX2_sign_54 fX2_92_2 (by first | assumption | first | assumption | (simp (disch := omega) only [shI, shR, shL, shC, shD, shW, sh_V, shN_e, shN_n, crI, crL, crC, crW, crV, crR_e, crR_n, crN_e, crN_n, ciR, ciL, ciD, ciN_e, ciN_n, rdI_e, rdI_n, rdC_i, rdC_o, rdW, rdU_e, rdU_n, rdLW, clI, clR, clC, clD, clW, clV, clN_e, clN_n, clL_e, clL_n]; done) | (simp (disch := omega) only [shI, shR, shL, shC, shD, shW, sh_V, shN_e, shN_n, crI, crL, crC, crW, crV, crR_e, crR_n, crN_e, crN_n, ciR, ciL, ciD, ciN_e, ciN_n, rdI_e, rdI_n, rdC_i, rdC_o, rdW, rdU_e, rdU_n, rdLW, clI, clR, clC, clD, clW, clV, clN_e, clN_n, clL_e, clL_n] <;> first | assumption | rfl | omega)) ?_
              try simp (disch := omega) only [rdI_e, rdI_n, rdC_i, rdC_o, rdW, rdR, rdU_e, rdU_n, rdLW, Int.add_zero, mP_p, mP_e, mP_t, he, hte]
              refine x_bald dX2_sign_57 (by first | assumption | first | assumption | (simp (disch := omega) only [shI, shR, shL, shC, shD, shW, sh_V, shN_e, shN_n, crI, crL, crC, crW, crV, crR_e, crR_n, crN_e, crN_n, ciR, ciL, ciD, ciN_e, ciN_n, rdI_e, rdI_n, rdC_i, rdC_o, rdW, rdU_e, rdU_n, rdLW, clI, clR, clC, clD, clW, clV, clN_e, clN_n, clL_e, clL_n]; done) | (simp (disch := omega) only [shI, shR, shL, shC, shD, shW, sh_V, shN_e, shN_n, crI, crL, crC, crW, crV, crR_e, crR_n, crN_e, crN_n, ciR, ciL, ciD, ciN_e, ciN_n, rdI_e, rdI_n, rdC_i, rdC_o, rdW, rdU_e, rdU_n, rdLW, clI, clR, clC, clD, clW, clV, clN_e, clN_n, clL_e, clL_n] <;> first | assumption | rfl | omega)) (by omega) (by omega) ?_
              try simp (disch := omega) only [rdI_e, rdI_n, rdC_i, rdC_o, rdW, rdR, rdU_e, rdU_n, rdLW, Int.add_zero, mP_p, mP_e, mP_t, he, hte]
              refine x_sipush dX2_sign_58 rfl ?_
              refine x_iand dX2_sign_61 ?_
              refine x_goto (tgt := 66) dX2_sign_62 (by decide) ?_
              refine x_ireturn rfl dX2_sign_66 ?_
              refine hQ _ _ ⟨_, rfl, ?_, by rw [hq]⟩
              rw [ev]
              first
              | (rw [if_neg (show ¬ q < e by omega)]; done)
              | (rw [if_pos (show q < e by omega)]; exact jand_lo 8 (by omega) rfl)
          · exact absurd (And.intro (by omega) (And.intro (by omega) (by omega))) h
  exact lp _ p rfl hp rfl
theorem s_X2_here (hd : 12 ≤ d) (hR : RdX M tp e) (hp : 0 ≤ p ∧ p ≤ e) : CS G d mX2_here [dR 2] (mP M p) (postI fun y M1 => y = skB tp e p ∧ M1 = mP M (skB tp e p)) := by
  obtain ⟨⟨⟨r0, r3, r4, r5, r6, r7, r53⟩, ⟨c0, c1, c2, c3, c4, c5, c6⟩, x1, x2, x3⟩, he, htp, he2, hX, hB⟩ := id hR
  have hte : ∀ k, mci M 3 k = tp k := fun k => congrFun htp k
  refine CS.mkQ (by decide) (Nat.le_of_ble_eq_true rfl) fun Q hQ => ?_
  refine x_aload_n dX2_here_0 rfl rfl ?_
  refine g_callI (vs := [_]) (d' := d - 1) rfl (s_X2_sign (by omega) hR (by omega)) dX2_here_1 kX2_98 (by omega) (by decide) rfl (Nat.le_of_ble_eq_true rfl) (rcv_o (by first | assumption | first | assumption | (simp (disch := omega) only [shI, shR, shL, shC, shD, shW, sh_V, shN_e, shN_n, crI, crL, crC, crW, crV, crR_e, crR_n, crN_e, crN_n, ciR, ciL, ciD, ciN_e, ciN_n, rdI_e, rdI_n, rdC_i, rdC_o, rdW, rdU_e, rdU_n, rdLW, clI, clR, clC, clD, clW, clV, clN_e, clN_n, clL_e, clL_n]; done) | (simp (disch := omega) only [shI, shR, shL, shC, shD, shW, sh_V, shN_e, shN_n, crI, crL, crC, crW, crV, crR_e, crR_n, crN_e, crN_n, ciR, ciL, ciD, ciN_e, ciN_n, rdI_e, rdI_n, rdC_i, rdC_o, rdW, rdU_e, rdU_n, rdLW, clI, clR, clC, clD, clW, clV, clN_e, clN_n, clL_e, clL_n] <;> first | assumption | rfl | omega)) rfl) (fun x1 M1 h1 => ?_)
  obtain ⟨e1, f1⟩ := h1
  have f1' := f1.symm
  subst f1'
  subst e1
  refine x_istore_n (L' := [some _, some _]) dX2_here_4 rfl (by decide) rfl ?_
  refine x_aload_n dX2_here_5 rfl rfl ?_
  refine g_getI (kI := 9) rfl dX2_here_6 fX2_92_2 (by first | assumption | first | assumption | (simp (disch := omega) only [shI, shR, shL, shC, shD, shW, sh_V, shN_e, shN_n, crI, crL, crC, crW, crV, crR_e, crR_n, crN_e, crN_n, ciR, ciL, ciD, ciN_e, ciN_n, rdI_e, rdI_n, rdC_i, rdC_o, rdW, rdU_e, rdU_n, rdLW, clI, clR, clC, clD, clW, clV, clN_e, clN_n, clL_e, clL_n]; done) | (simp (disch := omega) only [shI, shR, shL, shC, shD, shW, sh_V, shN_e, shN_n, crI, crL, crC, crW, crV, crR_e, crR_n, crN_e, crN_n, ciR, ciL, ciD, ciN_e, ciN_n, rdI_e, rdI_n, rdC_i, rdC_o, rdW, rdU_e, rdU_n, rdLW, clI, clR, clC, clD, clW, clV, clN_e, clN_n, clL_e, clL_n] <;> first | assumption | rfl | omega)) ?_
  try simp (disch := omega) only [rdI_e, rdI_n, rdC_i, rdC_o, rdW, rdR, rdU_e, rdU_n, rdLW, Int.add_zero, mP_p, mP_e, mP_t, he, hte]
  refine x_ireturn rfl dX2_here_9 ?_
  exact hQ _ _ ⟨_, rfl, rfl, rfl⟩
theorem s_X2_isFigure (hd : 12 ≤ d) (hR : RdX M tp e) (hp : 0 ≤ p ∧ p ≤ e) : CS G d mX2_isFigure [dR 2] (mP M p) (postI fun y M1 => y = vP (chP tp e 48 57 (skB tp e p)) ∧ M1 = mP M (skB tp e p)) := by
  obtain ⟨⟨⟨r0, r3, r4, r5, r6, r7, r53⟩, ⟨c0, c1, c2, c3, c4, c5, c6⟩, x1, x2, x3⟩, he, htp, he2, hX, hB⟩ := id hR
  have hte : ∀ k, mci M 3 k = tp k := fun k => congrFun htp k
  have hf := sgV_f (e := e) (p := p) hB
  refine CS.mkQ (by decide) (Nat.le_of_ble_eq_true rfl) fun Q hQ => ?_
  refine x_aload_n dX2_isFigure_0 rfl rfl ?_
  refine g_callI (vs := [_]) (d' := d - 1) rfl (s_X2_sign (by omega) hR (by omega)) dX2_isFigure_1 kX2_98 (by omega) (by decide) rfl (Nat.le_of_ble_eq_true rfl) (rcv_o (by first | assumption | first | assumption | (simp (disch := omega) only [shI, shR, shL, shC, shD, shW, sh_V, shN_e, shN_n, crI, crL, crC, crW, crV, crR_e, crR_n, crN_e, crN_n, ciR, ciL, ciD, ciN_e, ciN_n, rdI_e, rdI_n, rdC_i, rdC_o, rdW, rdU_e, rdU_n, rdLW, clI, clR, clC, clD, clW, clV, clN_e, clN_n, clL_e, clL_n]; done) | (simp (disch := omega) only [shI, shR, shL, shC, shD, shW, sh_V, shN_e, shN_n, crI, crL, crC, crW, crV, crR_e, crR_n, crN_e, crN_n, ciR, ciL, ciD, ciN_e, ciN_n, rdI_e, rdI_n, rdC_i, rdC_o, rdW, rdU_e, rdU_n, rdLW, clI, clR, clC, clD, clW, clV, clN_e, clN_n, clL_e, clL_n] <;> first | assumption | rfl | omega)) rfl) (fun x1 M1 h1 => ?_)
  obtain ⟨e1, f1⟩ := h1
  have f1' := f1.symm
  subst f1'
  subst e1
  refine x_istore_n (L' := [some _, some _]) dX2_isFigure_4 rfl (by decide) rfl ?_
  refine x_iload_n dX2_isFigure_5 rfl rfl ?_
  refine x_bipush dX2_isFigure_6 rfl ?_
  refine x_icmp_lt (tgt := 21) dX2_isFigure_8 (by decide) (fun h8 => ?_) (fun h8 => ?_)
  · refine x_iconst dX2_isFigure_21 rfl ?_
    refine x_zreturn (by first | exact Or.inl rfl | exact Or.inr rfl | exact vB_r _ | exact vP_r _ | assumption | omega) rfl dX2_isFigure_22 ?_
    refine hQ _ _ ⟨_, rfl, ?_, rfl⟩
    first
    | exact (vP_t (hf.mp ⟨by omega, by omega⟩)).symm
    | exact (vP_f fun q => absurd (hf.mpr q) (by omega)).symm
  · refine x_iload_n dX2_isFigure_11 rfl rfl ?_
    refine x_bipush dX2_isFigure_12 rfl ?_
    refine x_icmp_gt (tgt := 21) dX2_isFigure_14 (by decide) (fun h14 => ?_) (fun h14 => ?_)
    · refine x_iconst dX2_isFigure_21 rfl ?_
      refine x_zreturn (by first | exact Or.inl rfl | exact Or.inr rfl | exact vB_r _ | exact vP_r _ | assumption | omega) rfl dX2_isFigure_22 ?_
      refine hQ _ _ ⟨_, rfl, ?_, rfl⟩
      first
      | exact (vP_t (hf.mp ⟨by omega, by omega⟩)).symm
      | exact (vP_f fun q => absurd (hf.mpr q) (by omega)).symm
    · refine x_iconst dX2_isFigure_17 rfl ?_
      refine x_goto (tgt := 22) dX2_isFigure_18 (by decide) ?_
      refine x_zreturn (by first | exact Or.inl rfl | exact Or.inr rfl | exact vB_r _ | exact vP_r _ | assumption | omega) rfl dX2_isFigure_22 ?_
      refine hQ _ _ ⟨_, rfl, ?_, rfl⟩
      first
      | exact (vP_t (hf.mp ⟨by omega, by omega⟩)).symm
      | exact (vP_f fun q => absurd (hf.mpr q) (by omega)).symm
theorem s_X2_begins (hd : 10 ≤ d) (r0 : msh M 2 = some (2, 0)) : CS G d mX2_begins [dR 2, dI n] M (postN fun M1 => M1 = mI (mI (mI M 2 8 n) 2 9 0) 2 10 0) := by
  refine CS.mkQ (by decide) (Nat.le_of_ble_eq_true rfl) fun Q hQ => ?_
  refine x_aload_n dX2_begins_0 rfl rfl ?_
  refine x_iload_n dX2_begins_1 rfl rfl ?_
  refine g_putI (kI := 8) rfl dX2_begins_2 fX2_95_2 (by first | assumption | first | assumption | (simp (disch := omega) only [shI, shR, shL, shC, shD, shW, sh_V, shN_e, shN_n, crI, crL, crC, crW, crV, crR_e, crR_n, crN_e, crN_n, ciR, ciL, ciD, ciN_e, ciN_n, rdI_e, rdI_n, rdC_i, rdC_o, rdW, rdU_e, rdU_n, rdLW, clI, clR, clC, clD, clW, clV, clN_e, clN_n, clL_e, clL_n]; done) | (simp (disch := omega) only [shI, shR, shL, shC, shD, shW, sh_V, shN_e, shN_n, crI, crL, crC, crW, crV, crR_e, crR_n, crN_e, crN_n, ciR, ciL, ciD, ciN_e, ciN_n, rdI_e, rdI_n, rdC_i, rdC_o, rdW, rdU_e, rdU_n, rdLW, clI, clR, clC, clD, clW, clV, clN_e, clN_n, clL_e, clL_n] <;> first | assumption | rfl | omega)) ?_
  refine x_aload_n dX2_begins_5 rfl rfl ?_
  refine x_iconst dX2_begins_6 rfl ?_
  refine g_putI (kI := 9) rfl dX2_begins_7 fX2_92_2 (by first | assumption | first | assumption | (simp (disch := omega) only [shI, shR, shL, shC, shD, shW, sh_V, shN_e, shN_n, crI, crL, crC, crW, crV, crR_e, crR_n, crN_e, crN_n, ciR, ciL, ciD, ciN_e, ciN_n, rdI_e, rdI_n, rdC_i, rdC_o, rdW, rdU_e, rdU_n, rdLW, clI, clR, clC, clD, clW, clV, clN_e, clN_n, clL_e, clL_n]; done) | (simp (disch := omega) only [shI, shR, shL, shC, shD, shW, sh_V, shN_e, shN_n, crI, crL, crC, crW, crV, crR_e, crR_n, crN_e, crN_n, ciR, ciL, ciD, ciN_e, ciN_n, rdI_e, rdI_n, rdC_i, rdC_o, rdW, rdU_e, rdU_n, rdLW, clI, clR, clC, clD, clW, clV, clN_e, clN_n, clL_e, clL_n] <;> first | assumption | rfl | omega)) ?_
  refine x_aload_n dX2_begins_10 rfl rfl ?_
  refine x_iconst dX2_begins_11 rfl ?_
  refine g_putI (kI := 10) rfl dX2_begins_12 fX2_128_2 (by first | assumption | first | assumption | (simp (disch := omega) only [shI, shR, shL, shC, shD, shW, sh_V, shN_e, shN_n, crI, crL, crC, crW, crV, crR_e, crR_n, crN_e, crN_n, ciR, ciL, ciD, ciN_e, ciN_n, rdI_e, rdI_n, rdC_i, rdC_o, rdW, rdU_e, rdU_n, rdLW, clI, clR, clC, clD, clW, clV, clN_e, clN_n, clL_e, clL_n]; done) | (simp (disch := omega) only [shI, shR, shL, shC, shD, shW, sh_V, shN_e, shN_n, crI, crL, crC, crW, crV, crR_e, crR_n, crN_e, crN_n, ciR, ciL, ciD, ciN_e, ciN_n, rdI_e, rdI_n, rdC_i, rdC_o, rdW, rdU_e, rdU_n, rdLW, clI, clR, clC, clD, clW, clV, clN_e, clN_n, clL_e, clL_n] <;> first | assumption | rfl | omega)) ?_
  refine x_vreturn rfl dX2_begins_15 ?_
  exact hQ _ _ ⟨rfl, rfl⟩
theorem s_X2_takes {i : Nat} {a : Int} (hd : 18 ≤ d) (hR : RdX M tp e) (hp : 0 ≤ p ∧ p ≤ e) (hi : i < 34) (ha : a = -(10 + 2 * (i : Int))) : CS G d mX2_takes [dR 2, dR a] (mP M p) (postI fun y M1 => y = vP (isW tp (skB tp e p) (wdB tp e (skB tp e p)) (txB i)) ∧ M1 = mP M (if isW tp (skB tp e p) (wdB tp e (skB tp e p)) (txB i) then wdB tp e (skB tp e p) else skB tp e p)) := by
  obtain ⟨⟨⟨r0, r3, r4, r5, r6, r7, r53⟩, ⟨c0, c1, c2, c3, c4, c5, c6⟩, x1, x2, x3⟩, he, htp, he2, hX, hB⟩ := id hR
  have hte : ∀ k, mci M 3 k = tp k := fun k => congrFun htp k
  have hs := skB_r (tp := tp) hp.2
  have hs2 := wdB_r (tp := tp) hs.2
  generalize hb : skB tp e p = b at hs hs2
  generalize hw : wdB tp e b = w at hs2
  have hx := (hX.mP (p := b)) i hi
  rw [← ha] at hx
  obtain ⟨⟨hx0, hx1⟩, hx2, -⟩ := id hx
  refine CS.mkQ (by decide) (Nat.le_of_ble_eq_true rfl) fun Q hQ => ?_
  have lp : ∀ (t : Nat) (k y : Int), ((txB i).length - k).toNat = t → (0 ≤ k ∧ k ≤ ((txB i).length : Int)) → (y = vP (w - b = ((txB i).length : Int) ∧ ∀ j : Nat, (j : Int) < k → tp (b + j) = (txB i).getD j 0)) → WP G d mX2_takes 69 [some (dR 2), some (dR a), none, some (dI w), some (dI y), some (dI k)] [] (mP M b) Q := by
    intro t
    induction t using Nat.strongRecOn with
    | _ t ih =>
      intro k y ht k0 hy
      have hy01 : y = 0 ∨ y = 1 := by rw [hy]; exact vP_r _
      by_cases h : y = 1 ∧ k < ((txB i).length : Int)
      · have hy1 := (vP_1.mp (hy.symm.trans h.1))
        have hpb := hy1.1
        refine x_iload dX2_takes_69 rfl ?_
        refine x_aload_n dX2_takes_71 rfl rfl ?_
        refine g_callI (vs := [_]) (d' := d - 1) rfl (s_J3_length (by omega) hx) dX2_takes_72 kX2_102 (by omega) (by decide) rfl (Nat.le_of_ble_eq_true rfl) (rcv_s (by omega) (by first | assumption | first | assumption | (simp (disch := omega) only [shI, shR, shL, shC, shD, shW, sh_V, shN_e, shN_n, crI, crL, crC, crW, crV, crR_e, crR_n, crN_e, crN_n, ciR, ciL, ciD, ciN_e, ciN_n, rdI_e, rdI_n, rdC_i, rdC_o, rdW, rdU_e, rdU_n, rdLW, clI, clR, clC, clD, clW, clV, clN_e, clN_n, clL_e, clL_n]; done) | (simp (disch := omega) only [shI, shR, shL, shC, shD, shW, sh_V, shN_e, shN_n, crI, crL, crC, crW, crV, crR_e, crR_n, crN_e, crN_n, ciR, ciL, ciD, ciN_e, ciN_n, rdI_e, rdI_n, rdC_i, rdC_o, rdW, rdU_e, rdU_n, rdLW, clI, clR, clC, clD, clW, clV, clN_e, clN_n, clL_e, clL_n] <;> first | assumption | rfl | omega))) (fun x72 M72 h72 => ?_)
        obtain ⟨e72, f72⟩ := h72
        have f72' := f72.symm
        subst f72'
        subst e72
        try simp (disch := omega) only [rdI_e, rdI_n, rdC_i, rdC_o, rdW, rdR, rdU_e, rdU_n, rdLW, Int.add_zero, mP_p, mP_e, mP_t, he, hte]
        refine x_icmp_ge (tgt := 117) dX2_takes_75 (by decide) (fun h75 => ?_) (fun h75 => ?_)
        · omega
        · refine x_iload dX2_takes_78 rfl ?_
          refine x_if_eq (tgt := 117) dX2_takes_80 (by decide) (fun h80 => ?_) (fun h80 => ?_)
          · omega
          · refine x_aload_n dX2_takes_83 rfl rfl ?_
            refine g_getR (kI := 0) rfl dX2_takes_84 fX2_9_2 (by first | assumption | first | assumption | (simp (disch := omega) only [shI, shR, shL, shC, shD, shW, sh_V, shN_e, shN_n, crI, crL, crC, crW, crV, crR_e, crR_n, crN_e, crN_n, ciR, ciL, ciD, ciN_e, ciN_n, rdI_e, rdI_n, rdC_i, rdC_o, rdW, rdU_e, rdU_n, rdLW, clI, clR, clC, clD, clW, clV, clN_e, clN_n, clL_e, clL_n]; done) | (simp (disch := omega) only [shI, shR, shL, shC, shD, shW, sh_V, shN_e, shN_n, crI, crL, crC, crW, crV, crR_e, crR_n, crN_e, crN_n, ciR, ciL, ciD, ciN_e, ciN_n, rdI_e, rdI_n, rdC_i, rdC_o, rdW, rdU_e, rdU_n, rdLW, clI, clR, clC, clD, clW, clV, clN_e, clN_n, clL_e, clL_n] <;> first | assumption | rfl | omega)) (by first | assumption | first | assumption | (simp (disch := omega) only [shI, shR, shL, shC, shD, shW, sh_V, shN_e, shN_n, crI, crL, crC, crW, crV, crR_e, crR_n, crN_e, crN_n, ciR, ciL, ciD, ciN_e, ciN_n, rdI_e, rdI_n, rdC_i, rdC_o, rdW, rdU_e, rdU_n, rdLW, clI, clR, clC, clD, clW, clV, clN_e, clN_n, clL_e, clL_n]; done) | (simp (disch := omega) only [shI, shR, shL, shC, shD, shW, sh_V, shN_e, shN_n, crI, crL, crC, crW, crV, crR_e, crR_n, crN_e, crN_n, ciR, ciL, ciD, ciN_e, ciN_n, rdI_e, rdI_n, rdC_i, rdC_o, rdW, rdU_e, rdU_n, rdLW, clI, clR, clC, clD, clW, clV, clN_e, clN_n, clL_e, clL_n] <;> first | assumption | rfl | omega)) ?_
            refine x_aload_n dX2_takes_87 rfl rfl ?_
            refine g_getI (kI := 9) rfl dX2_takes_88 fX2_92_2 (by first | assumption | first | assumption | (simp (disch := omega) only [shI, shR, shL, shC, shD, shW, sh_V, shN_e, shN_n, crI, crL, crC, crW, crV, crR_e, crR_n, crN_e, crN_n, ciR, ciL, ciD, ciN_e, ciN_n, rdI_e, rdI_n, rdC_i, rdC_o, rdW, rdU_e, rdU_n, rdLW, clI, clR, clC, clD, clW, clV, clN_e, clN_n, clL_e, clL_n]; done) | (simp (disch := omega) only [shI, shR, shL, shC, shD, shW, sh_V, shN_e, shN_n, crI, crL, crC, crW, crV, crR_e, crR_n, crN_e, crN_n, ciR, ciL, ciD, ciN_e, ciN_n, rdI_e, rdI_n, rdC_i, rdC_o, rdW, rdU_e, rdU_n, rdLW, clI, clR, clC, clD, clW, clV, clN_e, clN_n, clL_e, clL_n] <;> first | assumption | rfl | omega)) ?_
            try simp (disch := omega) only [rdI_e, rdI_n, rdC_i, rdC_o, rdW, rdR, rdU_e, rdU_n, rdLW, Int.add_zero, mP_p, mP_e, mP_t, he, hte]
            refine x_iload dX2_takes_91 rfl ?_
            first | refine x_iaddN dX2_takes_93 (by unfold i32; omega) ?_ | refine x_iadd dX2_takes_93 ?_
            refine x_bald dX2_takes_94 (by first | assumption | first | assumption | (simp (disch := omega) only [shI, shR, shL, shC, shD, shW, sh_V, shN_e, shN_n, crI, crL, crC, crW, crV, crR_e, crR_n, crN_e, crN_n, ciR, ciL, ciD, ciN_e, ciN_n, rdI_e, rdI_n, rdC_i, rdC_o, rdW, rdU_e, rdU_n, rdLW, clI, clR, clC, clD, clW, clV, clN_e, clN_n, clL_e, clL_n]; done) | (simp (disch := omega) only [shI, shR, shL, shC, shD, shW, sh_V, shN_e, shN_n, crI, crL, crC, crW, crV, crR_e, crR_n, crN_e, crN_n, ciR, ciL, ciD, ciN_e, ciN_n, rdI_e, rdI_n, rdC_i, rdC_o, rdW, rdU_e, rdU_n, rdLW, clI, clR, clC, clD, clW, clV, clN_e, clN_n, clL_e, clL_n] <;> first | assumption | rfl | omega)) (by omega) (by omega) ?_
            try simp (disch := omega) only [rdI_e, rdI_n, rdC_i, rdC_o, rdW, rdR, rdU_e, rdU_n, rdLW, Int.add_zero, mP_p, mP_e, mP_t, he, hte]
            refine x_aload_n dX2_takes_95 rfl rfl ?_
            refine x_iload dX2_takes_96 rfl ?_
            refine g_callI (vs := [_, _]) (d' := d - 1) rfl (s_J3_charAt (by omega) hx (by omega)) dX2_takes_98 kX2_105 (by omega) (by decide) rfl (Nat.le_of_ble_eq_true rfl) (rcv_s (by omega) (by first | assumption | first | assumption | (simp (disch := omega) only [shI, shR, shL, shC, shD, shW, sh_V, shN_e, shN_n, crI, crL, crC, crW, crV, crR_e, crR_n, crN_e, crN_n, ciR, ciL, ciD, ciN_e, ciN_n, rdI_e, rdI_n, rdC_i, rdC_o, rdW, rdU_e, rdU_n, rdLW, clI, clR, clC, clD, clW, clV, clN_e, clN_n, clL_e, clL_n]; done) | (simp (disch := omega) only [shI, shR, shL, shC, shD, shW, sh_V, shN_e, shN_n, crI, crL, crC, crW, crV, crR_e, crR_n, crN_e, crN_n, ciR, ciL, ciD, ciN_e, ciN_n, rdI_e, rdI_n, rdC_i, rdC_o, rdW, rdU_e, rdU_n, rdLW, clI, clR, clC, clD, clW, clV, clN_e, clN_n, clL_e, clL_n] <;> first | assumption | rfl | omega))) (fun x98 M98 h98 => ?_)
            obtain ⟨e98, f98⟩ := h98
            have f98' := f98.symm
            subst f98'
            subst e98
            try simp (disch := omega) only [rdI_e, rdI_n, rdC_i, rdC_o, rdW, rdR, rdU_e, rdU_n, rdLW, Int.add_zero, mP_p, mP_e, mP_t, he, hte]
            refine x_icmp_ne (tgt := 108) dX2_takes_101 (by decide) (fun h101 => ?_) (fun h101 => ?_)
            · refine x_iconst dX2_takes_108 rfl ?_
              refine x_istore (L' := [some _, some _, none, some _, some _, some _]) dX2_takes_109 (by decide) rfl ?_
              first | refine x_iincN (L' := [some _, some _, none, some _, some _, some _]) dX2_takes_111 rfl (by decide) (by unfold i32; omega) rfl ?_ | refine x_iinc (L' := [some _, some _, none, some _, some _, some _]) dX2_takes_111 rfl (by decide) rfl ?_
              refine x_goto (tgt := 69) dX2_takes_114 (by decide) ?_
              refine ih _ (by omega) (k + 1) _ rfl (by omega) ?_
              first
              | (refine (vP_t ⟨hpb, fun j hj => ?_⟩).symm
                 by_cases q : (j : Int) < k
                 · exact hy1.2 j q
                 · have ej : j = k.toNat := by omega
                   subst ej
                   rw [show ((k.toNat : Nat) : Int) = k by omega]
                   exact h101)
              | (refine (vP_f fun q => h101 ?_).symm
                 have := q.2 k.toNat (by omega)
                 rw [show ((k.toNat : Nat) : Int) = k by omega] at this
                 exact this)
            · refine x_iconst dX2_takes_104 rfl ?_
              refine x_goto (tgt := 109) dX2_takes_105 (by decide) ?_
              refine x_istore (L' := [some _, some _, none, some _, some _, some _]) dX2_takes_109 (by decide) rfl ?_
              first | refine x_iincN (L' := [some _, some _, none, some _, some _, some _]) dX2_takes_111 rfl (by decide) (by unfold i32; omega) rfl ?_ | refine x_iinc (L' := [some _, some _, none, some _, some _, some _]) dX2_takes_111 rfl (by decide) rfl ?_
              refine x_goto (tgt := 69) dX2_takes_114 (by decide) ?_
              refine ih _ (by omega) (k + 1) _ rfl (by omega) ?_
              first
              | (refine (vP_t ⟨hpb, fun j hj => ?_⟩).symm
                 by_cases q : (j : Int) < k
                 · exact hy1.2 j q
                 · have ej : j = k.toNat := by omega
                   subst ej
                   rw [show ((k.toNat : Nat) : Int) = k by omega]
                   exact h101)
              | (refine (vP_f fun q => h101 ?_).symm
                 have := q.2 k.toNat (by omega)
                 rw [show ((k.toNat : Nat) : Int) = k by omega] at this
                 exact this)
      · have fin : y = vP (isW tp b w (txB i)) := by
          rcases hy01 with q | q
          · rw [q]
            refine (vP_f fun z => ?_).symm
            rw [q] at hy
            exact (vP_0.mp hy.symm) ⟨z.1, fun j hj => z.2 j (by omega)⟩
          · rw [q]
            have hy1 := (vP_1.mp (hy.symm.trans q))
            exact (vP_t ⟨hy1.1, fun j hj => hy1.2 j (by omega)⟩).symm
        refine x_iload dX2_takes_69 rfl ?_
        refine x_aload_n dX2_takes_71 rfl rfl ?_
        refine g_callI (vs := [_]) (d' := d - 1) rfl (s_J3_length (by omega) hx) dX2_takes_72 kX2_102 (by omega) (by decide) rfl (Nat.le_of_ble_eq_true rfl) (rcv_s (by omega) (by first | assumption | first | assumption | (simp (disch := omega) only [shI, shR, shL, shC, shD, shW, sh_V, shN_e, shN_n, crI, crL, crC, crW, crV, crR_e, crR_n, crN_e, crN_n, ciR, ciL, ciD, ciN_e, ciN_n, rdI_e, rdI_n, rdC_i, rdC_o, rdW, rdU_e, rdU_n, rdLW, clI, clR, clC, clD, clW, clV, clN_e, clN_n, clL_e, clL_n]; done) | (simp (disch := omega) only [shI, shR, shL, shC, shD, shW, sh_V, shN_e, shN_n, crI, crL, crC, crW, crV, crR_e, crR_n, crN_e, crN_n, ciR, ciL, ciD, ciN_e, ciN_n, rdI_e, rdI_n, rdC_i, rdC_o, rdW, rdU_e, rdU_n, rdLW, clI, clR, clC, clD, clW, clV, clN_e, clN_n, clL_e, clL_n] <;> first | assumption | rfl | omega))) (fun x72 M72 h72 => ?_)
        obtain ⟨e72, f72⟩ := h72
        have f72' := f72.symm
        subst f72'
        subst e72
        try simp (disch := omega) only [rdI_e, rdI_n, rdC_i, rdC_o, rdW, rdR, rdU_e, rdU_n, rdLW, Int.add_zero, mP_p, mP_e, mP_t, he, hte]
        refine x_icmp_ge (tgt := 117) dX2_takes_75 (by decide) (fun h75 => ?_) (fun h75 => ?_)
        · refine x_iload dX2_takes_117 rfl ?_
          refine x_if_eq (tgt := 127) dX2_takes_119 (by decide) (fun h119 => ?_) (fun h119 => ?_)
          · refine x_iload dX2_takes_127 rfl ?_
            refine x_zreturn (by exact hy01) rfl dX2_takes_129 ?_
            refine hQ _ _ ⟨_, rfl, fin, ?_⟩
            first
            | (rw [if_pos (vP_1.mp (fin.symm.trans (show y = 1 by omega)))]; done)
            | (rw [if_neg (vP_0.mp (fin.symm.trans (show y = 0 by omega)))]; done)
          · refine x_aload_n dX2_takes_122 rfl rfl ?_
            refine x_iload_n dX2_takes_123 rfl rfl ?_
            refine g_putI (kI := 9) rfl dX2_takes_124 fX2_92_2 (by first | assumption | first | assumption | (simp (disch := omega) only [shI, shR, shL, shC, shD, shW, sh_V, shN_e, shN_n, crI, crL, crC, crW, crV, crR_e, crR_n, crN_e, crN_n, ciR, ciL, ciD, ciN_e, ciN_n, rdI_e, rdI_n, rdC_i, rdC_o, rdW, rdU_e, rdU_n, rdLW, clI, clR, clC, clD, clW, clV, clN_e, clN_n, clL_e, clL_n]; done) | (simp (disch := omega) only [shI, shR, shL, shC, shD, shW, sh_V, shN_e, shN_n, crI, crL, crC, crW, crV, crR_e, crR_n, crN_e, crN_n, ciR, ciL, ciD, ciN_e, ciN_n, rdI_e, rdI_n, rdC_i, rdC_o, rdW, rdU_e, rdU_n, rdLW, clI, clR, clC, clD, clW, clV, clN_e, clN_n, clL_e, clL_n] <;> first | assumption | rfl | omega)) ?_
            try simp only [mP_w]
            refine x_iload dX2_takes_127 rfl ?_
            refine x_zreturn (by exact hy01) rfl dX2_takes_129 ?_
            refine hQ _ _ ⟨_, rfl, fin, ?_⟩
            first
            | (rw [if_pos (vP_1.mp (fin.symm.trans (show y = 1 by omega)))]; done)
            | (rw [if_neg (vP_0.mp (fin.symm.trans (show y = 0 by omega)))]; done)
        · refine x_iload dX2_takes_78 rfl ?_
          refine x_if_eq (tgt := 117) dX2_takes_80 (by decide) (fun h80 => ?_) (fun h80 => ?_)
          · refine x_iload dX2_takes_117 rfl ?_
            refine x_if_eq (tgt := 127) dX2_takes_119 (by decide) (fun h119 => ?_) (fun h119 => ?_)
            · refine x_iload dX2_takes_127 rfl ?_
              refine x_zreturn (by exact hy01) rfl dX2_takes_129 ?_
              refine hQ _ _ ⟨_, rfl, fin, ?_⟩
              first
              | (rw [if_pos (vP_1.mp (fin.symm.trans (show y = 1 by omega)))]; done)
              | (rw [if_neg (vP_0.mp (fin.symm.trans (show y = 0 by omega)))]; done)
            · refine x_aload_n dX2_takes_122 rfl rfl ?_
              refine x_iload_n dX2_takes_123 rfl rfl ?_
              refine g_putI (kI := 9) rfl dX2_takes_124 fX2_92_2 (by first | assumption | first | assumption | (simp (disch := omega) only [shI, shR, shL, shC, shD, shW, sh_V, shN_e, shN_n, crI, crL, crC, crW, crV, crR_e, crR_n, crN_e, crN_n, ciR, ciL, ciD, ciN_e, ciN_n, rdI_e, rdI_n, rdC_i, rdC_o, rdW, rdU_e, rdU_n, rdLW, clI, clR, clC, clD, clW, clV, clN_e, clN_n, clL_e, clL_n]; done) | (simp (disch := omega) only [shI, shR, shL, shC, shD, shW, sh_V, shN_e, shN_n, crI, crL, crC, crW, crV, crR_e, crR_n, crN_e, crN_n, ciR, ciL, ciD, ciN_e, ciN_n, rdI_e, rdI_n, rdC_i, rdC_o, rdW, rdU_e, rdU_n, rdLW, clI, clR, clC, clD, clW, clV, clN_e, clN_n, clL_e, clL_n] <;> first | assumption | rfl | omega)) ?_
              try simp only [mP_w]
              refine x_iload dX2_takes_127 rfl ?_
              refine x_zreturn (by exact hy01) rfl dX2_takes_129 ?_
              refine hQ _ _ ⟨_, rfl, fin, ?_⟩
              first
              | (rw [if_pos (vP_1.mp (fin.symm.trans (show y = 1 by omega)))]; done)
              | (rw [if_neg (vP_0.mp (fin.symm.trans (show y = 0 by omega)))]; done)
          · omega
  have lpw : ∀ (t2 : Nat) (q : Int), (e - q).toNat = t2 → (b ≤ q ∧ q ≤ e) → (wdB tp e q = w) → WP G d mX2_takes 10 [some (dR 2), some (dR a), none, some (dI q), none, none] [] (mP M b) Q := by
    intro t2
    induction t2 using Nat.strongRecOn with
    | _ t2 ih2 =>
      intro q ht2 h0 hq
      by_cases h : chP tp e 97 122 q
      · have h1 := h.1
        have h2 := h.2
        refine x_iload_n dX2_takes_10 rfl rfl ?_
        refine x_aload_n dX2_takes_11 rfl rfl ?_
        refine g_getI (kI := 8) rfl dX2_takes_12 fX2_95_2 (by first | assumption | first | assumption | (simp (disch := omega) only [shI, shR, shL, shC, shD, shW, sh_V, shN_e, shN_n, crI, crL, crC, crW, crV, crR_e, crR_n, crN_e, crN_n, ciR, ciL, ciD, ciN_e, ciN_n, rdI_e, rdI_n, rdC_i, rdC_o, rdW, rdU_e, rdU_n, rdLW, clI, clR, clC, clD, clW, clV, clN_e, clN_n, clL_e, clL_n]; done) | (simp (disch := omega) only [shI, shR, shL, shC, shD, shW, sh_V, shN_e, shN_n, crI, crL, crC, crW, crV, crR_e, crR_n, crN_e, crN_n, ciR, ciL, ciD, ciN_e, ciN_n, rdI_e, rdI_n, rdC_i, rdC_o, rdW, rdU_e, rdU_n, rdLW, clI, clR, clC, clD, clW, clV, clN_e, clN_n, clL_e, clL_n] <;> first | assumption | rfl | omega)) ?_
        try simp (disch := omega) only [rdI_e, rdI_n, rdC_i, rdC_o, rdW, rdR, rdU_e, rdU_n, rdLW, Int.add_zero, mP_p, mP_e, mP_t, he, hte]
        refine x_icmp_ge (tgt := 46) dX2_takes_15 (by decide) (fun h15 => ?_) (fun h15 => ?_)
        · omega
        · refine x_aload_n dX2_takes_18 rfl rfl ?_
          refine g_getR (kI := 0) rfl dX2_takes_19 fX2_9_2 (by first | assumption | first | assumption | (simp (disch := omega) only [shI, shR, shL, shC, shD, shW, sh_V, shN_e, shN_n, crI, crL, crC, crW, crV, crR_e, crR_n, crN_e, crN_n, ciR, ciL, ciD, ciN_e, ciN_n, rdI_e, rdI_n, rdC_i, rdC_o, rdW, rdU_e, rdU_n, rdLW, clI, clR, clC, clD, clW, clV, clN_e, clN_n, clL_e, clL_n]; done) | (simp (disch := omega) only [shI, shR, shL, shC, shD, shW, sh_V, shN_e, shN_n, crI, crL, crC, crW, crV, crR_e, crR_n, crN_e, crN_n, ciR, ciL, ciD, ciN_e, ciN_n, rdI_e, rdI_n, rdC_i, rdC_o, rdW, rdU_e, rdU_n, rdLW, clI, clR, clC, clD, clW, clV, clN_e, clN_n, clL_e, clL_n] <;> first | assumption | rfl | omega)) (by first | assumption | first | assumption | (simp (disch := omega) only [shI, shR, shL, shC, shD, shW, sh_V, shN_e, shN_n, crI, crL, crC, crW, crV, crR_e, crR_n, crN_e, crN_n, ciR, ciL, ciD, ciN_e, ciN_n, rdI_e, rdI_n, rdC_i, rdC_o, rdW, rdU_e, rdU_n, rdLW, clI, clR, clC, clD, clW, clV, clN_e, clN_n, clL_e, clL_n]; done) | (simp (disch := omega) only [shI, shR, shL, shC, shD, shW, sh_V, shN_e, shN_n, crI, crL, crC, crW, crV, crR_e, crR_n, crN_e, crN_n, ciR, ciL, ciD, ciN_e, ciN_n, rdI_e, rdI_n, rdC_i, rdC_o, rdW, rdU_e, rdU_n, rdLW, clI, clR, clC, clD, clW, clV, clN_e, clN_n, clL_e, clL_n] <;> first | assumption | rfl | omega)) ?_
          refine x_iload_n dX2_takes_22 rfl rfl ?_
          refine x_bald dX2_takes_23 (by first | assumption | first | assumption | (simp (disch := omega) only [shI, shR, shL, shC, shD, shW, sh_V, shN_e, shN_n, crI, crL, crC, crW, crV, crR_e, crR_n, crN_e, crN_n, ciR, ciL, ciD, ciN_e, ciN_n, rdI_e, rdI_n, rdC_i, rdC_o, rdW, rdU_e, rdU_n, rdLW, clI, clR, clC, clD, clW, clV, clN_e, clN_n, clL_e, clL_n]; done) | (simp (disch := omega) only [shI, shR, shL, shC, shD, shW, sh_V, shN_e, shN_n, crI, crL, crC, crW, crV, crR_e, crR_n, crN_e, crN_n, ciR, ciL, ciD, ciN_e, ciN_n, rdI_e, rdI_n, rdC_i, rdC_o, rdW, rdU_e, rdU_n, rdLW, clI, clR, clC, clD, clW, clV, clN_e, clN_n, clL_e, clL_n] <;> first | assumption | rfl | omega)) (by omega) (by omega) ?_
          try simp (disch := omega) only [rdI_e, rdI_n, rdC_i, rdC_o, rdW, rdR, rdU_e, rdU_n, rdLW, Int.add_zero, mP_p, mP_e, mP_t, he, hte]
          refine x_bipush dX2_takes_24 rfl ?_
          refine x_icmp_lt (tgt := 46) dX2_takes_26 (by decide) (fun h26 => ?_) (fun h26 => ?_)
          · omega
          · refine x_aload_n dX2_takes_29 rfl rfl ?_
            refine g_getR (kI := 0) rfl dX2_takes_30 fX2_9_2 (by first | assumption | first | assumption | (simp (disch := omega) only [shI, shR, shL, shC, shD, shW, sh_V, shN_e, shN_n, crI, crL, crC, crW, crV, crR_e, crR_n, crN_e, crN_n, ciR, ciL, ciD, ciN_e, ciN_n, rdI_e, rdI_n, rdC_i, rdC_o, rdW, rdU_e, rdU_n, rdLW, clI, clR, clC, clD, clW, clV, clN_e, clN_n, clL_e, clL_n]; done) | (simp (disch := omega) only [shI, shR, shL, shC, shD, shW, sh_V, shN_e, shN_n, crI, crL, crC, crW, crV, crR_e, crR_n, crN_e, crN_n, ciR, ciL, ciD, ciN_e, ciN_n, rdI_e, rdI_n, rdC_i, rdC_o, rdW, rdU_e, rdU_n, rdLW, clI, clR, clC, clD, clW, clV, clN_e, clN_n, clL_e, clL_n] <;> first | assumption | rfl | omega)) (by first | assumption | first | assumption | (simp (disch := omega) only [shI, shR, shL, shC, shD, shW, sh_V, shN_e, shN_n, crI, crL, crC, crW, crV, crR_e, crR_n, crN_e, crN_n, ciR, ciL, ciD, ciN_e, ciN_n, rdI_e, rdI_n, rdC_i, rdC_o, rdW, rdU_e, rdU_n, rdLW, clI, clR, clC, clD, clW, clV, clN_e, clN_n, clL_e, clL_n]; done) | (simp (disch := omega) only [shI, shR, shL, shC, shD, shW, sh_V, shN_e, shN_n, crI, crL, crC, crW, crV, crR_e, crR_n, crN_e, crN_n, ciR, ciL, ciD, ciN_e, ciN_n, rdI_e, rdI_n, rdC_i, rdC_o, rdW, rdU_e, rdU_n, rdLW, clI, clR, clC, clD, clW, clV, clN_e, clN_n, clL_e, clL_n] <;> first | assumption | rfl | omega)) ?_
            refine x_iload_n dX2_takes_33 rfl rfl ?_
            refine x_bald dX2_takes_34 (by first | assumption | first | assumption | (simp (disch := omega) only [shI, shR, shL, shC, shD, shW, sh_V, shN_e, shN_n, crI, crL, crC, crW, crV, crR_e, crR_n, crN_e, crN_n, ciR, ciL, ciD, ciN_e, ciN_n, rdI_e, rdI_n, rdC_i, rdC_o, rdW, rdU_e, rdU_n, rdLW, clI, clR, clC, clD, clW, clV, clN_e, clN_n, clL_e, clL_n]; done) | (simp (disch := omega) only [shI, shR, shL, shC, shD, shW, sh_V, shN_e, shN_n, crI, crL, crC, crW, crV, crR_e, crR_n, crN_e, crN_n, ciR, ciL, ciD, ciN_e, ciN_n, rdI_e, rdI_n, rdC_i, rdC_o, rdW, rdU_e, rdU_n, rdLW, clI, clR, clC, clD, clW, clV, clN_e, clN_n, clL_e, clL_n] <;> first | assumption | rfl | omega)) (by omega) (by omega) ?_
            try simp (disch := omega) only [rdI_e, rdI_n, rdC_i, rdC_o, rdW, rdR, rdU_e, rdU_n, rdLW, Int.add_zero, mP_p, mP_e, mP_t, he, hte]
            refine x_bipush dX2_takes_35 rfl ?_
            refine x_icmp_gt (tgt := 46) dX2_takes_37 (by decide) (fun h37 => ?_) (fun h37 => ?_)
            · omega
            · first | refine x_iincN (L' := [some _, some _, none, some _, none, none]) dX2_takes_40 rfl (by decide) (by unfold i32; omega) rfl ?_ | refine x_iinc (L' := [some _, some _, none, some _, none, none]) dX2_takes_40 rfl (by decide) rfl ?_
              refine x_goto (tgt := 10) dX2_takes_43 (by decide) ?_
              exact ih2 _ (by omega) (q + 1) rfl (by omega) ((spB_s h).symm.trans hq)
      · have eq : wdB tp e q = q := spB_e h
        rw [eq] at hq
        subst hq
        refine x_iload_n dX2_takes_10 rfl rfl ?_
        refine x_aload_n dX2_takes_11 rfl rfl ?_
        refine g_getI (kI := 8) rfl dX2_takes_12 fX2_95_2 (by first | assumption | first | assumption | (simp (disch := omega) only [shI, shR, shL, shC, shD, shW, sh_V, shN_e, shN_n, crI, crL, crC, crW, crV, crR_e, crR_n, crN_e, crN_n, ciR, ciL, ciD, ciN_e, ciN_n, rdI_e, rdI_n, rdC_i, rdC_o, rdW, rdU_e, rdU_n, rdLW, clI, clR, clC, clD, clW, clV, clN_e, clN_n, clL_e, clL_n]; done) | (simp (disch := omega) only [shI, shR, shL, shC, shD, shW, sh_V, shN_e, shN_n, crI, crL, crC, crW, crV, crR_e, crR_n, crN_e, crN_n, ciR, ciL, ciD, ciN_e, ciN_n, rdI_e, rdI_n, rdC_i, rdC_o, rdW, rdU_e, rdU_n, rdLW, clI, clR, clC, clD, clW, clV, clN_e, clN_n, clL_e, clL_n] <;> first | assumption | rfl | omega)) ?_
        try simp (disch := omega) only [rdI_e, rdI_n, rdC_i, rdC_o, rdW, rdR, rdU_e, rdU_n, rdLW, Int.add_zero, mP_p, mP_e, mP_t, he, hte]
        refine x_icmp_ge (tgt := 46) dX2_takes_15 (by decide) (fun h15 => ?_) (fun h15 => ?_)
        · refine x_iload_n dX2_takes_46 rfl rfl ?_
          refine x_aload_n dX2_takes_47 rfl rfl ?_
          refine g_getI (kI := 9) rfl dX2_takes_48 fX2_92_2 (by first | assumption | first | assumption | (simp (disch := omega) only [shI, shR, shL, shC, shD, shW, sh_V, shN_e, shN_n, crI, crL, crC, crW, crV, crR_e, crR_n, crN_e, crN_n, ciR, ciL, ciD, ciN_e, ciN_n, rdI_e, rdI_n, rdC_i, rdC_o, rdW, rdU_e, rdU_n, rdLW, clI, clR, clC, clD, clW, clV, clN_e, clN_n, clL_e, clL_n]; done) | (simp (disch := omega) only [shI, shR, shL, shC, shD, shW, sh_V, shN_e, shN_n, crI, crL, crC, crW, crV, crR_e, crR_n, crN_e, crN_n, ciR, ciL, ciD, ciN_e, ciN_n, rdI_e, rdI_n, rdC_i, rdC_o, rdW, rdU_e, rdU_n, rdLW, clI, clR, clC, clD, clW, clV, clN_e, clN_n, clL_e, clL_n] <;> first | assumption | rfl | omega)) ?_
          try simp (disch := omega) only [rdI_e, rdI_n, rdC_i, rdC_o, rdW, rdR, rdU_e, rdU_n, rdLW, Int.add_zero, mP_p, mP_e, mP_t, he, hte]
          first | refine x_isubN dX2_takes_51 (by unfold i32; omega) ?_ | refine x_isub dX2_takes_51 ?_
          refine x_aload_n dX2_takes_52 rfl rfl ?_
          refine g_callI (vs := [_]) (d' := d - 1) rfl (s_J3_length (by omega) hx) dX2_takes_53 kX2_102 (by omega) (by decide) rfl (Nat.le_of_ble_eq_true rfl) (rcv_s (by omega) (by first | assumption | first | assumption | (simp (disch := omega) only [shI, shR, shL, shC, shD, shW, sh_V, shN_e, shN_n, crI, crL, crC, crW, crV, crR_e, crR_n, crN_e, crN_n, ciR, ciL, ciD, ciN_e, ciN_n, rdI_e, rdI_n, rdC_i, rdC_o, rdW, rdU_e, rdU_n, rdLW, clI, clR, clC, clD, clW, clV, clN_e, clN_n, clL_e, clL_n]; done) | (simp (disch := omega) only [shI, shR, shL, shC, shD, shW, sh_V, shN_e, shN_n, crI, crL, crC, crW, crV, crR_e, crR_n, crN_e, crN_n, ciR, ciL, ciD, ciN_e, ciN_n, rdI_e, rdI_n, rdC_i, rdC_o, rdW, rdU_e, rdU_n, rdLW, clI, clR, clC, clD, clW, clV, clN_e, clN_n, clL_e, clL_n] <;> first | assumption | rfl | omega))) (fun x53 M53 h53 => ?_)
          obtain ⟨e53, f53⟩ := h53
          have f53' := f53.symm
          subst f53'
          subst e53
          try simp (disch := omega) only [rdI_e, rdI_n, rdC_i, rdC_o, rdW, rdR, rdU_e, rdU_n, rdLW, Int.add_zero, mP_p, mP_e, mP_t, he, hte]
          refine x_icmp_ne (tgt := 63) dX2_takes_56 (by decide) (fun h56 => ?_) (fun h56 => ?_)
          · refine x_iconst dX2_takes_63 rfl ?_
            refine x_istore (L' := [some _, some _, none, some _, some _, none]) dX2_takes_64 (by decide) rfl ?_
            refine x_iconst dX2_takes_66 rfl ?_
            refine x_istore (L' := [some _, some _, none, some _, some _, some _]) dX2_takes_67 (by decide) rfl ?_
            first
            | exact lp _ 0 1 rfl (by omega) (vP_t ⟨h56, fun j hj => by omega⟩).symm
            | exact lp _ 0 0 rfl (by omega) (vP_f fun q => h56 q.1).symm
          · refine x_iconst dX2_takes_59 rfl ?_
            refine x_goto (tgt := 64) dX2_takes_60 (by decide) ?_
            refine x_istore (L' := [some _, some _, none, some _, some _, none]) dX2_takes_64 (by decide) rfl ?_
            refine x_iconst dX2_takes_66 rfl ?_
            refine x_istore (L' := [some _, some _, none, some _, some _, some _]) dX2_takes_67 (by decide) rfl ?_
            first
            | exact lp _ 0 1 rfl (by omega) (vP_t ⟨h56, fun j hj => by omega⟩).symm
            | exact lp _ 0 0 rfl (by omega) (vP_f fun q => h56 q.1).symm
        · refine x_aload_n dX2_takes_18 rfl rfl ?_
          refine g_getR (kI := 0) rfl dX2_takes_19 fX2_9_2 (by first | assumption | first | assumption | (simp (disch := omega) only [shI, shR, shL, shC, shD, shW, sh_V, shN_e, shN_n, crI, crL, crC, crW, crV, crR_e, crR_n, crN_e, crN_n, ciR, ciL, ciD, ciN_e, ciN_n, rdI_e, rdI_n, rdC_i, rdC_o, rdW, rdU_e, rdU_n, rdLW, clI, clR, clC, clD, clW, clV, clN_e, clN_n, clL_e, clL_n]; done) | (simp (disch := omega) only [shI, shR, shL, shC, shD, shW, sh_V, shN_e, shN_n, crI, crL, crC, crW, crV, crR_e, crR_n, crN_e, crN_n, ciR, ciL, ciD, ciN_e, ciN_n, rdI_e, rdI_n, rdC_i, rdC_o, rdW, rdU_e, rdU_n, rdLW, clI, clR, clC, clD, clW, clV, clN_e, clN_n, clL_e, clL_n] <;> first | assumption | rfl | omega)) (by first | assumption | first | assumption | (simp (disch := omega) only [shI, shR, shL, shC, shD, shW, sh_V, shN_e, shN_n, crI, crL, crC, crW, crV, crR_e, crR_n, crN_e, crN_n, ciR, ciL, ciD, ciN_e, ciN_n, rdI_e, rdI_n, rdC_i, rdC_o, rdW, rdU_e, rdU_n, rdLW, clI, clR, clC, clD, clW, clV, clN_e, clN_n, clL_e, clL_n]; done) | (simp (disch := omega) only [shI, shR, shL, shC, shD, shW, sh_V, shN_e, shN_n, crI, crL, crC, crW, crV, crR_e, crR_n, crN_e, crN_n, ciR, ciL, ciD, ciN_e, ciN_n, rdI_e, rdI_n, rdC_i, rdC_o, rdW, rdU_e, rdU_n, rdLW, clI, clR, clC, clD, clW, clV, clN_e, clN_n, clL_e, clL_n] <;> first | assumption | rfl | omega)) ?_
          refine x_iload_n dX2_takes_22 rfl rfl ?_
          refine x_bald dX2_takes_23 (by first | assumption | first | assumption | (simp (disch := omega) only [shI, shR, shL, shC, shD, shW, sh_V, shN_e, shN_n, crI, crL, crC, crW, crV, crR_e, crR_n, crN_e, crN_n, ciR, ciL, ciD, ciN_e, ciN_n, rdI_e, rdI_n, rdC_i, rdC_o, rdW, rdU_e, rdU_n, rdLW, clI, clR, clC, clD, clW, clV, clN_e, clN_n, clL_e, clL_n]; done) | (simp (disch := omega) only [shI, shR, shL, shC, shD, shW, sh_V, shN_e, shN_n, crI, crL, crC, crW, crV, crR_e, crR_n, crN_e, crN_n, ciR, ciL, ciD, ciN_e, ciN_n, rdI_e, rdI_n, rdC_i, rdC_o, rdW, rdU_e, rdU_n, rdLW, clI, clR, clC, clD, clW, clV, clN_e, clN_n, clL_e, clL_n] <;> first | assumption | rfl | omega)) (by omega) (by omega) ?_
          try simp (disch := omega) only [rdI_e, rdI_n, rdC_i, rdC_o, rdW, rdR, rdU_e, rdU_n, rdLW, Int.add_zero, mP_p, mP_e, mP_t, he, hte]
          refine x_bipush dX2_takes_24 rfl ?_
          refine x_icmp_lt (tgt := 46) dX2_takes_26 (by decide) (fun h26 => ?_) (fun h26 => ?_)
          · refine x_iload_n dX2_takes_46 rfl rfl ?_
            refine x_aload_n dX2_takes_47 rfl rfl ?_
            refine g_getI (kI := 9) rfl dX2_takes_48 fX2_92_2 (by first | assumption | first | assumption | (simp (disch := omega) only [shI, shR, shL, shC, shD, shW, sh_V, shN_e, shN_n, crI, crL, crC, crW, crV, crR_e, crR_n, crN_e, crN_n, ciR, ciL, ciD, ciN_e, ciN_n, rdI_e, rdI_n, rdC_i, rdC_o, rdW, rdU_e, rdU_n, rdLW, clI, clR, clC, clD, clW, clV, clN_e, clN_n, clL_e, clL_n]; done) | (simp (disch := omega) only [shI, shR, shL, shC, shD, shW, sh_V, shN_e, shN_n, crI, crL, crC, crW, crV, crR_e, crR_n, crN_e, crN_n, ciR, ciL, ciD, ciN_e, ciN_n, rdI_e, rdI_n, rdC_i, rdC_o, rdW, rdU_e, rdU_n, rdLW, clI, clR, clC, clD, clW, clV, clN_e, clN_n, clL_e, clL_n] <;> first | assumption | rfl | omega)) ?_
            try simp (disch := omega) only [rdI_e, rdI_n, rdC_i, rdC_o, rdW, rdR, rdU_e, rdU_n, rdLW, Int.add_zero, mP_p, mP_e, mP_t, he, hte]
            first | refine x_isubN dX2_takes_51 (by unfold i32; omega) ?_ | refine x_isub dX2_takes_51 ?_
            refine x_aload_n dX2_takes_52 rfl rfl ?_
            refine g_callI (vs := [_]) (d' := d - 1) rfl (s_J3_length (by omega) hx) dX2_takes_53 kX2_102 (by omega) (by decide) rfl (Nat.le_of_ble_eq_true rfl) (rcv_s (by omega) (by first | assumption | first | assumption | (simp (disch := omega) only [shI, shR, shL, shC, shD, shW, sh_V, shN_e, shN_n, crI, crL, crC, crW, crV, crR_e, crR_n, crN_e, crN_n, ciR, ciL, ciD, ciN_e, ciN_n, rdI_e, rdI_n, rdC_i, rdC_o, rdW, rdU_e, rdU_n, rdLW, clI, clR, clC, clD, clW, clV, clN_e, clN_n, clL_e, clL_n]; done) | (simp (disch := omega) only [shI, shR, shL, shC, shD, shW, sh_V, shN_e, shN_n, crI, crL, crC, crW, crV, crR_e, crR_n, crN_e, crN_n, ciR, ciL, ciD, ciN_e, ciN_n, rdI_e, rdI_n, rdC_i, rdC_o, rdW, rdU_e, rdU_n, rdLW, clI, clR, clC, clD, clW, clV, clN_e, clN_n, clL_e, clL_n] <;> first | assumption | rfl | omega))) (fun x53 M53 h53 => ?_)
            obtain ⟨e53, f53⟩ := h53
            have f53' := f53.symm
            subst f53'
            subst e53
            try simp (disch := omega) only [rdI_e, rdI_n, rdC_i, rdC_o, rdW, rdR, rdU_e, rdU_n, rdLW, Int.add_zero, mP_p, mP_e, mP_t, he, hte]
            refine x_icmp_ne (tgt := 63) dX2_takes_56 (by decide) (fun h56 => ?_) (fun h56 => ?_)
            · refine x_iconst dX2_takes_63 rfl ?_
              refine x_istore (L' := [some _, some _, none, some _, some _, none]) dX2_takes_64 (by decide) rfl ?_
              refine x_iconst dX2_takes_66 rfl ?_
              refine x_istore (L' := [some _, some _, none, some _, some _, some _]) dX2_takes_67 (by decide) rfl ?_
              first
              | exact lp _ 0 1 rfl (by omega) (vP_t ⟨h56, fun j hj => by omega⟩).symm
              | exact lp _ 0 0 rfl (by omega) (vP_f fun q => h56 q.1).symm
            · refine x_iconst dX2_takes_59 rfl ?_
              refine x_goto (tgt := 64) dX2_takes_60 (by decide) ?_
              refine x_istore (L' := [some _, some _, none, some _, some _, none]) dX2_takes_64 (by decide) rfl ?_
              refine x_iconst dX2_takes_66 rfl ?_
              refine x_istore (L' := [some _, some _, none, some _, some _, some _]) dX2_takes_67 (by decide) rfl ?_
              first
              | exact lp _ 0 1 rfl (by omega) (vP_t ⟨h56, fun j hj => by omega⟩).symm
              | exact lp _ 0 0 rfl (by omega) (vP_f fun q => h56 q.1).symm
          · refine x_aload_n dX2_takes_29 rfl rfl ?_
            refine g_getR (kI := 0) rfl dX2_takes_30 fX2_9_2 (by first | assumption | first | assumption | (simp (disch := omega) only [shI, shR, shL, shC, shD, shW, sh_V, shN_e, shN_n, crI, crL, crC, crW, crV, crR_e, crR_n, crN_e, crN_n, ciR, ciL, ciD, ciN_e, ciN_n, rdI_e, rdI_n, rdC_i, rdC_o, rdW, rdU_e, rdU_n, rdLW, clI, clR, clC, clD, clW, clV, clN_e, clN_n, clL_e, clL_n]; done) | (simp (disch := omega) only [shI, shR, shL, shC, shD, shW, sh_V, shN_e, shN_n, crI, crL, crC, crW, crV, crR_e, crR_n, crN_e, crN_n, ciR, ciL, ciD, ciN_e, ciN_n, rdI_e, rdI_n, rdC_i, rdC_o, rdW, rdU_e, rdU_n, rdLW, clI, clR, clC, clD, clW, clV, clN_e, clN_n, clL_e, clL_n] <;> first | assumption | rfl | omega)) (by first | assumption | first | assumption | (simp (disch := omega) only [shI, shR, shL, shC, shD, shW, sh_V, shN_e, shN_n, crI, crL, crC, crW, crV, crR_e, crR_n, crN_e, crN_n, ciR, ciL, ciD, ciN_e, ciN_n, rdI_e, rdI_n, rdC_i, rdC_o, rdW, rdU_e, rdU_n, rdLW, clI, clR, clC, clD, clW, clV, clN_e, clN_n, clL_e, clL_n]; done) | (simp (disch := omega) only [shI, shR, shL, shC, shD, shW, sh_V, shN_e, shN_n, crI, crL, crC, crW, crV, crR_e, crR_n, crN_e, crN_n, ciR, ciL, ciD, ciN_e, ciN_n, rdI_e, rdI_n, rdC_i, rdC_o, rdW, rdU_e, rdU_n, rdLW, clI, clR, clC, clD, clW, clV, clN_e, clN_n, clL_e, clL_n] <;> first | assumption | rfl | omega)) ?_
            refine x_iload_n dX2_takes_33 rfl rfl ?_
            refine x_bald dX2_takes_34 (by first | assumption | first | assumption | (simp (disch := omega) only [shI, shR, shL, shC, shD, shW, sh_V, shN_e, shN_n, crI, crL, crC, crW, crV, crR_e, crR_n, crN_e, crN_n, ciR, ciL, ciD, ciN_e, ciN_n, rdI_e, rdI_n, rdC_i, rdC_o, rdW, rdU_e, rdU_n, rdLW, clI, clR, clC, clD, clW, clV, clN_e, clN_n, clL_e, clL_n]; done) | (simp (disch := omega) only [shI, shR, shL, shC, shD, shW, sh_V, shN_e, shN_n, crI, crL, crC, crW, crV, crR_e, crR_n, crN_e, crN_n, ciR, ciL, ciD, ciN_e, ciN_n, rdI_e, rdI_n, rdC_i, rdC_o, rdW, rdU_e, rdU_n, rdLW, clI, clR, clC, clD, clW, clV, clN_e, clN_n, clL_e, clL_n] <;> first | assumption | rfl | omega)) (by omega) (by omega) ?_
            try simp (disch := omega) only [rdI_e, rdI_n, rdC_i, rdC_o, rdW, rdR, rdU_e, rdU_n, rdLW, Int.add_zero, mP_p, mP_e, mP_t, he, hte]
            refine x_bipush dX2_takes_35 rfl ?_
            refine x_icmp_gt (tgt := 46) dX2_takes_37 (by decide) (fun h37 => ?_) (fun h37 => ?_)
            · refine x_iload_n dX2_takes_46 rfl rfl ?_
              refine x_aload_n dX2_takes_47 rfl rfl ?_
              refine g_getI (kI := 9) rfl dX2_takes_48 fX2_92_2 (by first | assumption | first | assumption | (simp (disch := omega) only [shI, shR, shL, shC, shD, shW, sh_V, shN_e, shN_n, crI, crL, crC, crW, crV, crR_e, crR_n, crN_e, crN_n, ciR, ciL, ciD, ciN_e, ciN_n, rdI_e, rdI_n, rdC_i, rdC_o, rdW, rdU_e, rdU_n, rdLW, clI, clR, clC, clD, clW, clV, clN_e, clN_n, clL_e, clL_n]; done) | (simp (disch := omega) only [shI, shR, shL, shC, shD, shW, sh_V, shN_e, shN_n, crI, crL, crC, crW, crV, crR_e, crR_n, crN_e, crN_n, ciR, ciL, ciD, ciN_e, ciN_n, rdI_e, rdI_n, rdC_i, rdC_o, rdW, rdU_e, rdU_n, rdLW, clI, clR, clC, clD, clW, clV, clN_e, clN_n, clL_e, clL_n] <;> first | assumption | rfl | omega)) ?_
              try simp (disch := omega) only [rdI_e, rdI_n, rdC_i, rdC_o, rdW, rdR, rdU_e, rdU_n, rdLW, Int.add_zero, mP_p, mP_e, mP_t, he, hte]
              first | refine x_isubN dX2_takes_51 (by unfold i32; omega) ?_ | refine x_isub dX2_takes_51 ?_
              refine x_aload_n dX2_takes_52 rfl rfl ?_
              refine g_callI (vs := [_]) (d' := d - 1) rfl (s_J3_length (by omega) hx) dX2_takes_53 kX2_102 (by omega) (by decide) rfl (Nat.le_of_ble_eq_true rfl) (rcv_s (by omega) (by first | assumption | first | assumption | (simp (disch := omega) only [shI, shR, shL, shC, shD, shW, sh_V, shN_e, shN_n, crI, crL, crC, crW, crV, crR_e, crR_n, crN_e, crN_n, ciR, ciL, ciD, ciN_e, ciN_n, rdI_e, rdI_n, rdC_i, rdC_o, rdW, rdU_e, rdU_n, rdLW, clI, clR, clC, clD, clW, clV, clN_e, clN_n, clL_e, clL_n]; done) | (simp (disch := omega) only [shI, shR, shL, shC, shD, shW, sh_V, shN_e, shN_n, crI, crL, crC, crW, crV, crR_e, crR_n, crN_e, crN_n, ciR, ciL, ciD, ciN_e, ciN_n, rdI_e, rdI_n, rdC_i, rdC_o, rdW, rdU_e, rdU_n, rdLW, clI, clR, clC, clD, clW, clV, clN_e, clN_n, clL_e, clL_n] <;> first | assumption | rfl | omega))) (fun x53 M53 h53 => ?_)
              obtain ⟨e53, f53⟩ := h53
              have f53' := f53.symm
              subst f53'
              subst e53
              try simp (disch := omega) only [rdI_e, rdI_n, rdC_i, rdC_o, rdW, rdR, rdU_e, rdU_n, rdLW, Int.add_zero, mP_p, mP_e, mP_t, he, hte]
              refine x_icmp_ne (tgt := 63) dX2_takes_56 (by decide) (fun h56 => ?_) (fun h56 => ?_)
              · refine x_iconst dX2_takes_63 rfl ?_
                refine x_istore (L' := [some _, some _, none, some _, some _, none]) dX2_takes_64 (by decide) rfl ?_
                refine x_iconst dX2_takes_66 rfl ?_
                refine x_istore (L' := [some _, some _, none, some _, some _, some _]) dX2_takes_67 (by decide) rfl ?_
                first
                | exact lp _ 0 1 rfl (by omega) (vP_t ⟨h56, fun j hj => by omega⟩).symm
                | exact lp _ 0 0 rfl (by omega) (vP_f fun q => h56 q.1).symm
              · refine x_iconst dX2_takes_59 rfl ?_
                refine x_goto (tgt := 64) dX2_takes_60 (by decide) ?_
                refine x_istore (L' := [some _, some _, none, some _, some _, none]) dX2_takes_64 (by decide) rfl ?_
                refine x_iconst dX2_takes_66 rfl ?_
                refine x_istore (L' := [some _, some _, none, some _, some _, some _]) dX2_takes_67 (by decide) rfl ?_
                first
                | exact lp _ 0 1 rfl (by omega) (vP_t ⟨h56, fun j hj => by omega⟩).symm
                | exact lp _ 0 0 rfl (by omega) (vP_f fun q => h56 q.1).symm
            · exact absurd (And.intro (by omega) (And.intro (by omega) (by omega))) h
  refine x_aload_n dX2_takes_0 rfl rfl ?_
  refine g_callI (vs := [_]) (d' := d - 1) rfl (s_X2_sign (by omega) hR (by omega)) dX2_takes_1 kX2_98 (by omega) (by decide) rfl (Nat.le_of_ble_eq_true rfl) (rcv_o (by first | assumption | first | assumption | (simp (disch := omega) only [shI, shR, shL, shC, shD, shW, sh_V, shN_e, shN_n, crI, crL, crC, crW, crV, crR_e, crR_n, crN_e, crN_n, ciR, ciL, ciD, ciN_e, ciN_n, rdI_e, rdI_n, rdC_i, rdC_o, rdW, rdU_e, rdU_n, rdLW, clI, clR, clC, clD, clW, clV, clN_e, clN_n, clL_e, clL_n]; done) | (simp (disch := omega) only [shI, shR, shL, shC, shD, shW, sh_V, shN_e, shN_n, crI, crL, crC, crW, crV, crR_e, crR_n, crN_e, crN_n, ciR, ciL, ciD, ciN_e, ciN_n, rdI_e, rdI_n, rdC_i, rdC_o, rdW, rdU_e, rdU_n, rdLW, clI, clR, clC, clD, clW, clV, clN_e, clN_n, clL_e, clL_n] <;> first | assumption | rfl | omega)) rfl) (fun x1 M1 h1 => ?_)
  obtain ⟨e1, f1⟩ := h1
  have f1' := f1.symm
  subst f1'
  subst e1
  rw [hb]
  refine x_istore_n (L' := [some _, some _, some _, none, none, none]) dX2_takes_4 rfl (by decide) rfl ?_
  refine x_aload_n dX2_takes_5 rfl rfl ?_
  refine g_getI (kI := 9) rfl dX2_takes_6 fX2_92_2 (by first | assumption | first | assumption | (simp (disch := omega) only [shI, shR, shL, shC, shD, shW, sh_V, shN_e, shN_n, crI, crL, crC, crW, crV, crR_e, crR_n, crN_e, crN_n, ciR, ciL, ciD, ciN_e, ciN_n, rdI_e, rdI_n, rdC_i, rdC_o, rdW, rdU_e, rdU_n, rdLW, clI, clR, clC, clD, clW, clV, clN_e, clN_n, clL_e, clL_n]; done) | (simp (disch := omega) only [shI, shR, shL, shC, shD, shW, sh_V, shN_e, shN_n, crI, crL, crC, crW, crV, crR_e, crR_n, crN_e, crN_n, ciR, ciL, ciD, ciN_e, ciN_n, rdI_e, rdI_n, rdC_i, rdC_o, rdW, rdU_e, rdU_n, rdLW, clI, clR, clC, clD, clW, clV, clN_e, clN_n, clL_e, clL_n] <;> first | assumption | rfl | omega)) ?_
  try simp (disch := omega) only [rdI_e, rdI_n, rdC_i, rdC_o, rdW, rdR, rdU_e, rdU_n, rdLW, Int.add_zero, mP_p, mP_e, mP_t, he, hte]
  refine x_istore_n (L' := [some _, some _, some _, some _, none, none]) dX2_takes_9 rfl (by decide) rfl ?_
  exact x_fgt (by repeat (first | exact trivial | refine ⟨rfl, ?_⟩)) (lpw _ b rfl (by omega) hw)
end X2

