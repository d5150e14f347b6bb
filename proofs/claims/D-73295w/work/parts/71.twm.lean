/-! GuestViewModel: its machine, operations tried -/
/-- the machine of the reference -/
def mvT (f : Ci) (m : Int) : Ms := (f m 19, f m 20, f m 21, f m 22, f m 23, fun k => f (m + 8) (k % 8))
/-- only the machine is another one -/
def TA (m : Int) (f g : Ci) : Prop := ∀ a k, ¬ ((a = m ∧ 19 ≤ k ∧ k ≤ 23) ∨ a = m + 8) → g a k = f a k
theorem TA.rfl {m : Int} {f : Ci} : TA m f f := fun _ _ _ => _root_.rfl
theorem TA.trans {m : Int} {f g h : Ci} (a : TA m f g) (b : TA m g h) : TA m f h := fun x k r => (b x k r).trans (a x k r)
theorem TA.te {m : Int} {f g : Ci} (h : TA m f g) : TE m f g := fun a k r => h a k (by unfold scr at r; omega)
theorem TA.w {m : Int} {f g : Ci} {v : Vw} (h : TA m f g) (hw : f (m + 1) = v) : g (m + 1) = v := by
  rw [← hw]
  exact funext fun k => h _ _ (by omega)
theorem okM_mvT {f : Ci} {m : Int} (h : okM (mvT f m)) : (0 ≤ f m 19 ∧ f m 19 < 4) ∧ (f m 20 = 0 ∨ f m 20 = 1) ∧ (0 ≤ f m 21 ∧ f m 21 < 8) ∧ (0 ≤ f m 22 ∧ f m 22 < 8) ∧ (f m 23 = 0 ∨ f m 23 = 1) ∧ ∀ k, 0 ≤ k → k < 8 → 0 ≤ f (m + 8) k ∧ f (m + 8) k < 4 :=
  ⟨h.1, h.2.1, h.2.2.1, h.2.2.2.1, h.2.2.2.2.1, fun k a b => by
    have := h.2.2.2.2.2 k
    rw [show k = k % 8 by omega]
    exact this⟩
section X8
variable {G : GW} {d : Nat} {M : Mem} {m a b c p k i what n st : Int} {v : Vw}
theorem s_X8_isDone {kind : Int} (hd : 10 ≤ d) (hT : TwS (msh M) (mcr M) m) (hok : okM (mvT (mci M) m)) (hk : 0 ≤ kind ∧ kind ≤ 10) (hn : 0 ≤ n ∧ n < 8) : CS G d mX8_isDone [dR m, dI kind, dI n] M (postN fun M1 => ∃ g, M1 = wI M g ∧ mvT g m = step1 kind n (mvT (mci M) m) ∧ TA m (mci M) g) := by
  have hT_ := hT; obtain ⟨p0, p1, ⟨c1, c2, c3, c4, c5, c6, c7, c8, c9, c10, c11, c12, c13, c14, c15⟩, ⟨t1, t2, t3, t4, t5, t6, t7, t8, t9, t10, t11, t12, t13, t14, t15⟩⟩ := hT_
  obtain ⟨o1, o2, o3, o4, o5, o6⟩ := okM_mvT hok
  have hsv : ∀ x, (fun k => mci (mI M (m + 8) ((n + mci M m 21) % 8) x) (m + 8) (k % 8)) = upP (fun k => mci M (m + 8) (k % 8)) (n + mci M m 21) x := fun x => funext fun k => by
    unfold upP
    by_cases q : k % 8 = (n + mci M m 21) % 8
    · rw [if_pos q]; exact if_pos ⟨rfl, q⟩
    · rw [if_neg q]; exact if_neg fun r => q r.2
  refine CS.mkQ (by decide) (Nat.le_of_ble_eq_true rfl) fun Q hQ => ?_
  refine x_iload_n dX8_isDone_0 rfl rfl ?_
  refine x_aload_n dX8_isDone_1 rfl rfl ?_
  refine g_getI (kI := 21) rfl dX8_isDone_2 fX8_283_8 (by first | assumption | exact hT.2.1) ?_
  try simp (disch := omega) only [rdI_e, rdI_n, rdC_i, rdC_o, rdW, rdR, rdU_e, rdU_n, rdLW, Int.add_zero]
  first | refine x_iaddN dX8_isDone_5 (by unfold i32; omega) ?_ | refine x_iadd dX8_isDone_5 ?_
  refine x_bipush dX8_isDone_6 rfl ?_
  first | refine x_iremN dX8_isDone_8 (by omega) (by omega) ?_ | refine x_irem dX8_isDone_8 (by omega) ?_
  refine x_istore_n (L' := [some _, some _, some _, some _]) dX8_isDone_9 rfl (by decide) rfl ?_
  refine x_iload_n dX8_isDone_10 rfl rfl ?_
  rcases (show kind = 0 ∨ kind = 1 ∨ kind = 2 ∨ kind = 3 ∨ kind = 4 ∨ kind = 5 ∨ kind = 6 ∨ kind = 7 ∨ kind = 8 ∨ kind = 9 ∨ (kind < 0 ∨ 9 < kind) by omega) with hs11 | hs11 | hs11 | hs11 | hs11 | hs11 | hs11 | hs11 | hs11 | hs11 | hs11
  · refine x_tab_in (tgt := 64) (off := 53) dX8_isDone_11 (by omega) (by omega) (by rw [hs11]; rfl) (by decide) ?_
    refine x_aload_n dX8_isDone_64 rfl rfl ?_
    refine x_aload_n dX8_isDone_65 rfl rfl ?_
    refine g_getI (kI := 19) rfl dX8_isDone_66 fX8_286_8 (by first | assumption | exact hT.2.1) ?_
    try simp (disch := omega) only [rdI_e, rdI_n, rdC_i, rdC_o, rdW, rdR, rdU_e, rdU_n, rdLW, Int.add_zero]
    refine x_iload_n dX8_isDone_69 rfl rfl ?_
    first | refine x_iaddN dX8_isDone_70 (by unfold i32; omega) ?_ | refine x_iadd dX8_isDone_70 ?_
    refine x_iconst dX8_isDone_71 rfl ?_
    first | refine x_iremN dX8_isDone_72 (by omega) (by omega) ?_ | refine x_irem dX8_isDone_72 (by omega) ?_
    refine g_putI (kI := 19) rfl dX8_isDone_73 fX8_286_8 (by first | assumption | exact hT.2.1) ?_
    refine x_goto (tgt := 200) dX8_isDone_76 (by decide) ?_
    refine x_vreturn rfl dX8_isDone_200 ?_
    refine hQ _ _ ⟨rfl, exI rfl ⟨?_, fun a' k' q => by simp (disch := omega) only [rdI_e, rdI_n, rdC_i, rdC_o, rdW, rdR, rdU_e, rdU_n]⟩⟩
    first
    | (subst hs11
       unfold mvT
       simp (disch := omega) only [rdI_e, rdI_n, rdC_i, rdC_o, rdW, rdR, rdU_e, rdU_n]
       first
       | rfl
       | exact congrArg (fun q => (mci M m 19, mci M m 20, mci M m 21, mci M m 22, mci M m 23, q)) (hsv _)
       | exact congrArg (fun q => (mci M m 19, mci M m 20, mci M m 21, mci M m 22, q, fun k => mci M (m + 8) (k % 8))) (show _ = ite (mci M m 19 = n % 4) (1 : Int) (mci M m 23) by split <;> omega))
    | (have hk10 : kind = 10 := by omega
       subst hk10
       rfl)
  · refine x_tab_in (tgt := 79) (off := 68) dX8_isDone_11 (by omega) (by omega) (by rw [hs11]; rfl) (by decide) ?_
    refine x_aload_n dX8_isDone_79 rfl rfl ?_
    refine x_aload_n dX8_isDone_80 rfl rfl ?_
    refine g_getR (kI := 17) rfl dX8_isDone_81 fX8_39_8 (by first | assumption | exact hT.2.1) (by first | assumption | exact hT.2.1) ?_
    refine x_iload_n dX8_isDone_84 rfl rfl ?_
    refine x_iald dX8_isDone_85 (by first | assumption | exact hT.2.1) (by omega) (by omega) ?_
    try simp (disch := omega) only [rdI_e, rdI_n, rdC_i, rdC_o, rdW, rdR, rdU_e, rdU_n, rdLW, Int.add_zero]
    refine g_putI (kI := 19) rfl dX8_isDone_86 fX8_286_8 (by first | assumption | exact hT.2.1) ?_
    refine x_goto (tgt := 200) dX8_isDone_89 (by decide) ?_
    refine x_vreturn rfl dX8_isDone_200 ?_
    refine hQ _ _ ⟨rfl, exI rfl ⟨?_, fun a' k' q => by simp (disch := omega) only [rdI_e, rdI_n, rdC_i, rdC_o, rdW, rdR, rdU_e, rdU_n]⟩⟩
    first
    | (subst hs11
       unfold mvT
       simp (disch := omega) only [rdI_e, rdI_n, rdC_i, rdC_o, rdW, rdR, rdU_e, rdU_n]
       first
       | rfl
       | exact congrArg (fun q => (mci M m 19, mci M m 20, mci M m 21, mci M m 22, mci M m 23, q)) (hsv _)
       | exact congrArg (fun q => (mci M m 19, mci M m 20, mci M m 21, mci M m 22, q, fun k => mci M (m + 8) (k % 8))) (show _ = ite (mci M m 19 = n % 4) (1 : Int) (mci M m 23) by split <;> omega))
    | (have hk10 : kind = 10 := by omega
       subst hk10
       rfl)
  · refine x_tab_in (tgt := 92) (off := 81) dX8_isDone_11 (by omega) (by omega) (by rw [hs11]; rfl) (by decide) ?_
    refine x_aload_n dX8_isDone_92 rfl rfl ?_
    refine g_getR (kI := 17) rfl dX8_isDone_93 fX8_39_8 (by first | assumption | exact hT.2.1) (by first | assumption | exact hT.2.1) ?_
    refine x_iload_n dX8_isDone_96 rfl rfl ?_
    refine x_aload_n dX8_isDone_97 rfl rfl ?_
    refine g_getI (kI := 19) rfl dX8_isDone_98 fX8_286_8 (by first | assumption | exact hT.2.1) ?_
    try simp (disch := omega) only [rdI_e, rdI_n, rdC_i, rdC_o, rdW, rdR, rdU_e, rdU_n, rdLW, Int.add_zero]
    refine x_iast (by omega) dX8_isDone_101 (by first | assumption | exact hT.2.1) (by omega) (by omega) ?_
    refine x_goto (tgt := 200) dX8_isDone_102 (by decide) ?_
    refine x_vreturn rfl dX8_isDone_200 ?_
    refine hQ _ _ ⟨rfl, exI rfl ⟨?_, fun a' k' q => by simp (disch := omega) only [rdI_e, rdI_n, rdC_i, rdC_o, rdW, rdR, rdU_e, rdU_n]⟩⟩
    first
    | (subst hs11
       unfold mvT
       simp (disch := omega) only [rdI_e, rdI_n, rdC_i, rdC_o, rdW, rdR, rdU_e, rdU_n]
       first
       | rfl
       | exact congrArg (fun q => (mci M m 19, mci M m 20, mci M m 21, mci M m 22, mci M m 23, q)) (hsv _)
       | exact congrArg (fun q => (mci M m 19, mci M m 20, mci M m 21, mci M m 22, q, fun k => mci M (m + 8) (k % 8))) (show _ = ite (mci M m 19 = n % 4) (1 : Int) (mci M m 23) by split <;> omega))
    | (have hk10 : kind = 10 := by omega
       subst hk10
       rfl)
  · refine x_tab_in (tgt := 105) (off := 94) dX8_isDone_11 (by omega) (by omega) (by rw [hs11]; rfl) (by decide) ?_
    refine x_aload_n dX8_isDone_105 rfl rfl ?_
    refine x_iconst dX8_isDone_106 rfl ?_
    refine g_putI (kI := 20) rfl dX8_isDone_107 fX8_289_8 (by first | assumption | exact hT.2.1) ?_
    refine x_goto (tgt := 200) dX8_isDone_110 (by decide) ?_
    refine x_vreturn rfl dX8_isDone_200 ?_
    refine hQ _ _ ⟨rfl, exI rfl ⟨?_, fun a' k' q => by simp (disch := omega) only [rdI_e, rdI_n, rdC_i, rdC_o, rdW, rdR, rdU_e, rdU_n]⟩⟩
    first
    | (subst hs11
       unfold mvT
       simp (disch := omega) only [rdI_e, rdI_n, rdC_i, rdC_o, rdW, rdR, rdU_e, rdU_n]
       first
       | rfl
       | exact congrArg (fun q => (mci M m 19, mci M m 20, mci M m 21, mci M m 22, mci M m 23, q)) (hsv _)
       | exact congrArg (fun q => (mci M m 19, mci M m 20, mci M m 21, mci M m 22, q, fun k => mci M (m + 8) (k % 8))) (show _ = ite (mci M m 19 = n % 4) (1 : Int) (mci M m 23) by split <;> omega))
    | (have hk10 : kind = 10 := by omega
       subst hk10
       rfl)
  · refine x_tab_in (tgt := 113) (off := 102) dX8_isDone_11 (by omega) (by omega) (by rw [hs11]; rfl) (by decide) ?_
    refine x_aload_n dX8_isDone_113 rfl rfl ?_
    refine x_iconst dX8_isDone_114 rfl ?_
    refine g_putI (kI := 20) rfl dX8_isDone_115 fX8_289_8 (by first | assumption | exact hT.2.1) ?_
    refine x_goto (tgt := 200) dX8_isDone_118 (by decide) ?_
    refine x_vreturn rfl dX8_isDone_200 ?_
    refine hQ _ _ ⟨rfl, exI rfl ⟨?_, fun a' k' q => by simp (disch := omega) only [rdI_e, rdI_n, rdC_i, rdC_o, rdW, rdR, rdU_e, rdU_n]⟩⟩
    first
    | (subst hs11
       unfold mvT
       simp (disch := omega) only [rdI_e, rdI_n, rdC_i, rdC_o, rdW, rdR, rdU_e, rdU_n]
       first
       | rfl
       | exact congrArg (fun q => (mci M m 19, mci M m 20, mci M m 21, mci M m 22, mci M m 23, q)) (hsv _)
       | exact congrArg (fun q => (mci M m 19, mci M m 20, mci M m 21, mci M m 22, q, fun k => mci M (m + 8) (k % 8))) (show _ = ite (mci M m 19 = n % 4) (1 : Int) (mci M m 23) by split <;> omega))
    | (have hk10 : kind = 10 := by omega
       subst hk10
       rfl)
  · refine x_tab_in (tgt := 121) (off := 110) dX8_isDone_11 (by omega) (by omega) (by rw [hs11]; rfl) (by decide) ?_
    refine x_aload_n dX8_isDone_121 rfl rfl ?_
    refine x_iconst dX8_isDone_122 rfl ?_
    refine x_aload_n dX8_isDone_123 rfl rfl ?_
    refine g_getI (kI := 19) rfl dX8_isDone_124 fX8_286_8 (by first | assumption | exact hT.2.1) ?_
    try simp (disch := omega) only [rdI_e, rdI_n, rdC_i, rdC_o, rdW, rdR, rdU_e, rdU_n, rdLW, Int.add_zero]
    first | refine x_imulN dX8_isDone_127 (by unfold i32; omega) ?_ | refine x_imul dX8_isDone_127 ?_
    refine g_putI (kI := 21) rfl dX8_isDone_128 fX8_283_8 (by first | assumption | exact hT.2.1) ?_
    refine x_goto (tgt := 200) dX8_isDone_131 (by decide) ?_
    refine x_vreturn rfl dX8_isDone_200 ?_
    refine hQ _ _ ⟨rfl, exI rfl ⟨?_, fun a' k' q => by simp (disch := omega) only [rdI_e, rdI_n, rdC_i, rdC_o, rdW, rdR, rdU_e, rdU_n]⟩⟩
    first
    | (subst hs11
       unfold mvT
       simp (disch := omega) only [rdI_e, rdI_n, rdC_i, rdC_o, rdW, rdR, rdU_e, rdU_n]
       first
       | rfl
       | exact congrArg (fun q => (mci M m 19, mci M m 20, mci M m 21, mci M m 22, mci M m 23, q)) (hsv _)
       | exact congrArg (fun q => (mci M m 19, mci M m 20, mci M m 21, mci M m 22, q, fun k => mci M (m + 8) (k % 8))) (show _ = ite (mci M m 19 = n % 4) (1 : Int) (mci M m 23) by split <;> omega))
    | (have hk10 : kind = 10 := by omega
       subst hk10
       rfl)
  · refine x_tab_in (tgt := 134) (off := 123) dX8_isDone_11 (by omega) (by omega) (by rw [hs11]; rfl) (by decide) ?_
    refine x_aload_n dX8_isDone_134 rfl rfl ?_
    refine x_aload_n dX8_isDone_135 rfl rfl ?_
    refine g_getI (kI := 21) rfl dX8_isDone_136 fX8_283_8 (by first | assumption | exact hT.2.1) ?_
    try simp (disch := omega) only [rdI_e, rdI_n, rdC_i, rdC_o, rdW, rdR, rdU_e, rdU_n, rdLW, Int.add_zero]
    refine x_iconst dX8_isDone_139 rfl ?_
    first | refine x_idivN dX8_isDone_140 (by omega) (by omega) ?_ | refine x_idiv dX8_isDone_140 (by omega) ?_
    refine g_putI (kI := 19) rfl dX8_isDone_141 fX8_286_8 (by first | assumption | exact hT.2.1) ?_
    refine x_goto (tgt := 200) dX8_isDone_144 (by decide) ?_
    refine x_vreturn rfl dX8_isDone_200 ?_
    refine hQ _ _ ⟨rfl, exI rfl ⟨?_, fun a' k' q => by simp (disch := omega) only [rdI_e, rdI_n, rdC_i, rdC_o, rdW, rdR, rdU_e, rdU_n]⟩⟩
    first
    | (subst hs11
       unfold mvT
       simp (disch := omega) only [rdI_e, rdI_n, rdC_i, rdC_o, rdW, rdR, rdU_e, rdU_n]
       first
       | rfl
       | exact congrArg (fun q => (mci M m 19, mci M m 20, mci M m 21, mci M m 22, mci M m 23, q)) (hsv _)
       | exact congrArg (fun q => (mci M m 19, mci M m 20, mci M m 21, mci M m 22, q, fun k => mci M (m + 8) (k % 8))) (show _ = ite (mci M m 19 = n % 4) (1 : Int) (mci M m 23) by split <;> omega))
    | (have hk10 : kind = 10 := by omega
       subst hk10
       rfl)
  · refine x_tab_in (tgt := 147) (off := 136) dX8_isDone_11 (by omega) (by omega) (by rw [hs11]; rfl) (by decide) ?_
    refine x_aload_n dX8_isDone_147 rfl rfl ?_
    refine x_aload_n dX8_isDone_148 rfl rfl ?_
    refine g_getI (kI := 20) rfl dX8_isDone_149 fX8_289_8 (by first | assumption | exact hT.2.1) ?_
    try simp (disch := omega) only [rdI_e, rdI_n, rdC_i, rdC_o, rdW, rdR, rdU_e, rdU_n, rdLW, Int.add_zero]
    refine g_putI (kI := 19) rfl dX8_isDone_152 fX8_286_8 (by first | assumption | exact hT.2.1) ?_
    refine x_goto (tgt := 200) dX8_isDone_155 (by decide) ?_
    refine x_vreturn rfl dX8_isDone_200 ?_
    refine hQ _ _ ⟨rfl, exI rfl ⟨?_, fun a' k' q => by simp (disch := omega) only [rdI_e, rdI_n, rdC_i, rdC_o, rdW, rdR, rdU_e, rdU_n]⟩⟩
    first
    | (subst hs11
       unfold mvT
       simp (disch := omega) only [rdI_e, rdI_n, rdC_i, rdC_o, rdW, rdR, rdU_e, rdU_n]
       first
       | rfl
       | exact congrArg (fun q => (mci M m 19, mci M m 20, mci M m 21, mci M m 22, mci M m 23, q)) (hsv _)
       | exact congrArg (fun q => (mci M m 19, mci M m 20, mci M m 21, mci M m 22, q, fun k => mci M (m + 8) (k % 8))) (show _ = ite (mci M m 19 = n % 4) (1 : Int) (mci M m 23) by split <;> omega))
    | (have hk10 : kind = 10 := by omega
       subst hk10
       rfl)
  · refine x_tab_in (tgt := 158) (off := 147) dX8_isDone_11 (by omega) (by omega) (by rw [hs11]; rfl) (by decide) ?_
    refine x_aload_n dX8_isDone_158 rfl rfl ?_
    refine x_aload_n dX8_isDone_159 rfl rfl ?_
    refine g_getI (kI := 22) rfl dX8_isDone_160 fX8_292_8 (by first | assumption | exact hT.2.1) ?_
    try simp (disch := omega) only [rdI_e, rdI_n, rdC_i, rdC_o, rdW, rdR, rdU_e, rdU_n, rdLW, Int.add_zero]
    refine x_iconst dX8_isDone_163 rfl ?_
    first | refine x_iremN dX8_isDone_164 (by omega) (by omega) ?_ | refine x_irem dX8_isDone_164 (by omega) ?_
    refine g_putI (kI := 19) rfl dX8_isDone_165 fX8_286_8 (by first | assumption | exact hT.2.1) ?_
    refine x_goto (tgt := 200) dX8_isDone_168 (by decide) ?_
    refine x_vreturn rfl dX8_isDone_200 ?_
    refine hQ _ _ ⟨rfl, exI rfl ⟨?_, fun a' k' q => by simp (disch := omega) only [rdI_e, rdI_n, rdC_i, rdC_o, rdW, rdR, rdU_e, rdU_n]⟩⟩
    first
    | (subst hs11
       unfold mvT
       simp (disch := omega) only [rdI_e, rdI_n, rdC_i, rdC_o, rdW, rdR, rdU_e, rdU_n]
       first
       | rfl
       | exact congrArg (fun q => (mci M m 19, mci M m 20, mci M m 21, mci M m 22, mci M m 23, q)) (hsv _)
       | exact congrArg (fun q => (mci M m 19, mci M m 20, mci M m 21, mci M m 22, q, fun k => mci M (m + 8) (k % 8))) (show _ = ite (mci M m 19 = n % 4) (1 : Int) (mci M m 23) by split <;> omega))
    | (have hk10 : kind = 10 := by omega
       subst hk10
       rfl)
  · refine x_tab_in (tgt := 171) (off := 160) dX8_isDone_11 (by omega) (by omega) (by rw [hs11]; rfl) (by decide) ?_
    refine x_aload_n dX8_isDone_171 rfl rfl ?_
    refine x_aload_n dX8_isDone_172 rfl rfl ?_
    refine g_getZ (kI := 23) rfl dX8_isDone_173 fX8_295_8 (by first | assumption | exact hT.2.1) ?_
    try simp (disch := omega) only [rdI_e, rdI_n, rdC_i, rdC_o, rdW, rdR, rdU_e, rdU_n, rdLW, Int.add_zero]
    refine x_if_ne (tgt := 189) dX8_isDone_176 (by decide) (fun h176 => ?_) (fun h176 => ?_)
    · try simp only [vP_0, vP_1, vP_n0, vP_n1, Classical.not_not] at h176
      refine x_iconst dX8_isDone_189 rfl ?_
      refine x_goto (tgt := 194) dX8_isDone_190 (by decide) ?_
      refine g_putZ (by first | exact Or.inl rfl | exact Or.inr rfl | exact vB_r _ | omega) (kI := 23) rfl dX8_isDone_194 fX8_295_8 (by first | assumption | exact hT.2.1) ?_
      refine x_goto (tgt := 200) dX8_isDone_197 (by decide) ?_
      refine x_vreturn rfl dX8_isDone_200 ?_
      refine hQ _ _ ⟨rfl, exI rfl ⟨?_, fun a' k' q => by simp (disch := omega) only [rdI_e, rdI_n, rdC_i, rdC_o, rdW, rdR, rdU_e, rdU_n]⟩⟩
      first
      | (subst hs11
         unfold mvT
         simp (disch := omega) only [rdI_e, rdI_n, rdC_i, rdC_o, rdW, rdR, rdU_e, rdU_n]
         first
         | rfl
         | exact congrArg (fun q => (mci M m 19, mci M m 20, mci M m 21, mci M m 22, mci M m 23, q)) (hsv _)
         | exact congrArg (fun q => (mci M m 19, mci M m 20, mci M m 21, mci M m 22, q, fun k => mci M (m + 8) (k % 8))) (show _ = ite (mci M m 19 = n % 4) (1 : Int) (mci M m 23) by split <;> omega))
      | (have hk10 : kind = 10 := by omega
         subst hk10
         rfl)
    · try simp only [vP_0, vP_1, vP_n0, vP_n1, Classical.not_not] at h176
      refine x_aload_n dX8_isDone_179 rfl rfl ?_
      refine g_getI (kI := 19) rfl dX8_isDone_180 fX8_286_8 (by first | assumption | exact hT.2.1) ?_
      try simp (disch := omega) only [rdI_e, rdI_n, rdC_i, rdC_o, rdW, rdR, rdU_e, rdU_n, rdLW, Int.add_zero]
      refine x_iload_n dX8_isDone_183 rfl rfl ?_
      refine x_iconst dX8_isDone_184 rfl ?_
      first | refine x_iremN dX8_isDone_185 (by omega) (by omega) ?_ | refine x_irem dX8_isDone_185 (by omega) ?_
      refine x_icmp_ne (tgt := 193) dX8_isDone_186 (by decide) (fun h186 => ?_) (fun h186 => ?_)
      · refine x_iconst dX8_isDone_193 rfl ?_
        refine g_putZ (by first | exact Or.inl rfl | exact Or.inr rfl | exact vB_r _ | omega) (kI := 23) rfl dX8_isDone_194 fX8_295_8 (by first | assumption | exact hT.2.1) ?_
        refine x_goto (tgt := 200) dX8_isDone_197 (by decide) ?_
        refine x_vreturn rfl dX8_isDone_200 ?_
        refine hQ _ _ ⟨rfl, exI rfl ⟨?_, fun a' k' q => by simp (disch := omega) only [rdI_e, rdI_n, rdC_i, rdC_o, rdW, rdR, rdU_e, rdU_n]⟩⟩
        first
        | (subst hs11
           unfold mvT
           simp (disch := omega) only [rdI_e, rdI_n, rdC_i, rdC_o, rdW, rdR, rdU_e, rdU_n]
           first
           | rfl
           | exact congrArg (fun q => (mci M m 19, mci M m 20, mci M m 21, mci M m 22, mci M m 23, q)) (hsv _)
           | exact congrArg (fun q => (mci M m 19, mci M m 20, mci M m 21, mci M m 22, q, fun k => mci M (m + 8) (k % 8))) (show _ = ite (mci M m 19 = n % 4) (1 : Int) (mci M m 23) by split <;> omega))
        | (have hk10 : kind = 10 := by omega
           subst hk10
           rfl)
      · refine x_iconst dX8_isDone_189 rfl ?_
        refine x_goto (tgt := 194) dX8_isDone_190 (by decide) ?_
        refine g_putZ (by first | exact Or.inl rfl | exact Or.inr rfl | exact vB_r _ | omega) (kI := 23) rfl dX8_isDone_194 fX8_295_8 (by first | assumption | exact hT.2.1) ?_
        refine x_goto (tgt := 200) dX8_isDone_197 (by decide) ?_
        refine x_vreturn rfl dX8_isDone_200 ?_
        refine hQ _ _ ⟨rfl, exI rfl ⟨?_, fun a' k' q => by simp (disch := omega) only [rdI_e, rdI_n, rdC_i, rdC_o, rdW, rdR, rdU_e, rdU_n]⟩⟩
        first
        | (subst hs11
           unfold mvT
           simp (disch := omega) only [rdI_e, rdI_n, rdC_i, rdC_o, rdW, rdR, rdU_e, rdU_n]
           first
           | rfl
           | exact congrArg (fun q => (mci M m 19, mci M m 20, mci M m 21, mci M m 22, mci M m 23, q)) (hsv _)
           | exact congrArg (fun q => (mci M m 19, mci M m 20, mci M m 21, mci M m 22, q, fun k => mci M (m + 8) (k % 8))) (show _ = ite (mci M m 19 = n % 4) (1 : Int) (mci M m 23) by split <;> omega))
        | (have hk10 : kind = 10 := by omega
           subst hk10
           rfl)
  · refine x_tab_out (tgt := 200) dX8_isDone_11 hs11 (by decide) ?_
    refine x_vreturn rfl dX8_isDone_200 ?_
    refine hQ _ _ ⟨rfl, exI rfl ⟨?_, fun a' k' q => by simp (disch := omega) only [rdI_e, rdI_n, rdC_i, rdC_o, rdW, rdR, rdU_e, rdU_n]⟩⟩
    first
    | (subst hs11
       unfold mvT
       simp (disch := omega) only [rdI_e, rdI_n, rdC_i, rdC_o, rdW, rdR, rdU_e, rdU_n]
       first
       | rfl
       | exact congrArg (fun q => (mci M m 19, mci M m 20, mci M m 21, mci M m 22, mci M m 23, q)) (hsv _)
       | exact congrArg (fun q => (mci M m 19, mci M m 20, mci M m 21, mci M m 22, q, fun k => mci M (m + 8) (k % 8))) (show _ = ite (mci M m 19 = n % 4) (1 : Int) (mci M m 23) by split <;> omega))
    | (have hk10 : kind = 10 := by omega
       subst hk10
       rfl)
theorem s_X8_does (hd : 13 ≤ d) (hT : TwS (msh M) (mcr M) m) (hw : mci M (m + 1) = v) (hok : okM (mvT (mci M) m)) (hop : okOp v p) (hp : 0 ≤ p ∧ p < 8) : CS G d mX8_does [dR m, dI p] M (postN fun M1 => ∃ g, M1 = wI M g ∧ mvT g m = opD v p (mvT (mci M) m) ∧ TA m (mci M) g) := by
  have hT_ := hT; obtain ⟨p0, p1, ⟨c1, c2, c3, c4, c5, c6, c7, c8, c9, c10, c11, c12, c13, c14, c15⟩, ⟨t1, t2, t3, t4, t5, t6, t7, t8, t9, t10, t11, t12, t13, t14, t15⟩⟩ := hT_
  obtain ⟨b1, b2, b3, b4⟩ := hop
  have hn : opN v p = v (30 + 9 * p) := rfl
  rw [hn] at b1
  refine CS.mkQ (by decide) (Nat.le_of_ble_eq_true rfl) fun Q hQ => ?_
  have loop : ∀ (t : Nat) (k x : Int) (g : Ci), (v (30 + 9 * p) - k).toNat = t → (0 ≤ k) → (k ≤ v (30 + 9 * p)) → (TA m (mci M) g) → (okM (mvT g m)) → (x = 1 ∧ opD v p (mvT (mci M) m) = runM (opK v p) (opX v p) t k (mvT g m) ∨ x = 0 ∧ mvT g m = opD v p (mvT (mci M) m)) → WP G d mX8_does 9 [some (dR m), some (dI p), some (dI x), some (dI k)] [] (wI M g) Q := by
    intro t
    induction t using Nat.strongRecOn with
    | _ t ih =>
      intro k x g ht hk hk2 hf hg hx
      have hw : g (m + 1) = v := hf.w hw
      refine x_iload_n dX8_does_9 rfl rfl ?_
      refine x_aload_n dX8_does_10 rfl rfl ?_
      refine x_iload_n dX8_does_11 rfl rfl ?_
      refine x_iconst dX8_does_12 rfl ?_
      refine g_callI (vs := [_, _, _]) (d' := d - 1) rfl (s_X8_of (by omega) hT (by first | exact hw | exact mciI (by omega) hw | exact mciI (by omega) (mciI (by omega) hw) | exact mciI (by omega) (mciI (by omega) (mciI (by omega) hw)) | exact mciI (by omega) (mciI (by omega) (mciI (by omega) (mciI (by omega) hw))) | exact mciC (by omega) hw) (by omega) (by omega)) dX8_does_13 kX8_78 (by omega) (by decide) rfl (Nat.le_of_ble_eq_true rfl) (rcv_o (by first | assumption | exact hT.2.1) rfl) (fun x13 M13 h13 => ?_)
      obtain ⟨e13, f13⟩ := h13
      have f13' := f13.symm
      subst f13'
      subst e13
      try simp (disch := omega) only [rdI_e, rdI_n, rdC_i, rdC_o, rdW, rdR, rdU_e, rdU_n, rdLW, Int.add_zero, hw]
      refine x_icmp_ge (tgt := 70) dX8_does_16 (by decide) (fun h16 => ?_) (fun h16 => ?_)
      · refine x_vreturn rfl dX8_does_70 ?_
        refine hQ _ _ ⟨rfl, g, rfl, ?_, hf⟩
        rcases hx with q | q
        · first
          | (have t0 : t = 0 := by omega
             rw [q.2, t0]; rfl)
          | exact absurd q.1 (by omega)
        · exact q.2
      · refine x_iload_n dX8_does_19 rfl rfl ?_
        refine x_if_eq (tgt := 70) dX8_does_20 (by decide) (fun h20 => ?_) (fun h20 => ?_)
        · refine x_vreturn rfl dX8_does_70 ?_
          refine hQ _ _ ⟨rfl, g, rfl, ?_, hf⟩
          rcases hx with q | q
          · first
            | (have t0 : t = 0 := by omega
               rw [q.2, t0]; rfl)
            | exact absurd q.1 (by omega)
          · exact q.2
        · refine x_aload_n dX8_does_23 rfl rfl ?_
          refine x_aload_n dX8_does_24 rfl rfl ?_
          refine x_iload_n dX8_does_25 rfl rfl ?_
          refine x_iload_n dX8_does_26 rfl rfl ?_
          refine g_callI (vs := [_, _, _]) (d' := d - 1) rfl (s_X8_kindOf (by omega) hT (by first | exact hw | exact mciI (by omega) hw | exact mciI (by omega) (mciI (by omega) hw) | exact mciI (by omega) (mciI (by omega) (mciI (by omega) hw)) | exact mciI (by omega) (mciI (by omega) (mciI (by omega) (mciI (by omega) hw))) | exact mciC (by omega) hw) (by omega) (by omega)) dX8_does_27 kX8_298 (by omega) (by decide) rfl (Nat.le_of_ble_eq_true rfl) (rcv_o (by first | assumption | exact hT.2.1) rfl) (fun x27 M27 h27 => ?_)
          obtain ⟨e27, f27⟩ := h27
          have f27' := f27.symm
          subst f27'
          subst e27
          try simp (disch := omega) only [rdI_e, rdI_n, rdC_i, rdC_o, rdW, rdR, rdU_e, rdU_n, rdLW, Int.add_zero, hw]
          refine x_aload_n dX8_does_30 rfl rfl ?_
          refine x_iload_n dX8_does_31 rfl rfl ?_
          refine x_iload_n dX8_does_32 rfl rfl ?_
          refine g_callI (vs := [_, _, _]) (d' := d - 1) rfl (s_X8_numberOf (by omega) hT (by first | exact hw | exact mciI (by omega) hw | exact mciI (by omega) (mciI (by omega) hw) | exact mciI (by omega) (mciI (by omega) (mciI (by omega) hw)) | exact mciI (by omega) (mciI (by omega) (mciI (by omega) (mciI (by omega) hw))) | exact mciC (by omega) hw) (by omega) (by omega)) dX8_does_33 kX8_301 (by omega) (by decide) rfl (Nat.le_of_ble_eq_true rfl) (rcv_o (by first | assumption | exact hT.2.1) rfl) (fun x33 M33 h33 => ?_)
          obtain ⟨e33, f33⟩ := h33
          have f33' := f33.symm
          subst f33'
          subst e33
          try simp (disch := omega) only [rdI_e, rdI_n, rdC_i, rdC_o, rdW, rdR, rdU_e, rdU_n, rdLW, Int.add_zero, hw]
          refine g_callN (vs := [_, _, _]) (d' := d - 1) rfl (s_X8_isDone (M := wI M g) (by omega) hT hg (b4 k hk (by rw [hn]; omega)).1 (b4 k hk (by rw [hn]; omega)).2) dX8_does_36 kX8_304 (by omega) (by decide) rfl (Nat.le_of_ble_eq_true rfl) (rcv_o (by first | assumption | exact hT.2.1) rfl) (fun M36 h36 => ?_)
          obtain ⟨g1, hM36, q1, q4⟩ := h36
          subst hM36
          have hw1 := hw
          have hw : g1 (m + 1) = v := TA.w q4 hw1
          refine x_aload_n dX8_does_39 rfl rfl ?_
          refine x_iload_n dX8_does_40 rfl rfl ?_
          refine x_iload_n dX8_does_41 rfl rfl ?_
          refine g_callI (vs := [_, _, _]) (d' := d - 1) rfl (s_X8_kindOf (by omega) hT (by first | exact hw | exact mciI (by omega) hw | exact mciI (by omega) (mciI (by omega) hw) | exact mciI (by omega) (mciI (by omega) (mciI (by omega) hw)) | exact mciI (by omega) (mciI (by omega) (mciI (by omega) (mciI (by omega) hw))) | exact mciC (by omega) hw) (by omega) (by omega)) dX8_does_42 kX8_298 (by omega) (by decide) rfl (Nat.le_of_ble_eq_true rfl) (rcv_o (by first | assumption | exact hT.2.1) rfl) (fun x42 M42 h42 => ?_)
          obtain ⟨e42, f42⟩ := h42
          have f42' := f42.symm
          subst f42'
          subst e42
          try simp (disch := omega) only [rdI_e, rdI_n, rdC_i, rdC_o, rdW, rdR, rdU_e, rdU_n, rdLW, Int.add_zero, hw]
          refine x_bipush dX8_does_45 rfl ?_
          refine x_icmp_ne (tgt := 58) dX8_does_47 (by decide) (fun h47 => ?_) (fun h47 => ?_)
          · refine x_iconst dX8_does_58 rfl ?_
            refine x_goto (tgt := 63) dX8_does_59 (by decide) ?_
            refine x_istore_n (L' := [some _, some _, some _, some _]) dX8_does_63 rfl (by decide) rfl ?_
            first | refine x_iincN (L' := [some _, some _, some _, some _]) dX8_does_64 rfl (by decide) (by unfold i32; omega) rfl ?_ | refine x_iinc (L' := [some _, some _, some _, some _]) dX8_does_64 rfl (by decide) rfl ?_
            refine x_goto (tgt := 9) dX8_does_67 (by decide) ?_
            have ht' : t = (v (30 + 9 * p) - (k + 1)).toNat + 1 := by omega
            have hx1 : opD v p (mvT (mci M) m) = runM (opK v p) (opX v p) t k (mvT g m) := by
              rcases hx with q | q
              · exact q.2
              · exact absurd q.1 h20
            rw [ht', runM_s] at hx1
            refine ih _ (by omega) (k + 1) _ g1 rfl (by omega) (by omega) (TA.trans hf q4) (by rw [q1]; exact step1_ok (b4 k hk (by rw [hn]; omega)).2.1 hg) ?_
            have e20 : g1 m 20 = (step1 (opK v p k) (opX v p k) (mvT g m)).2.1 := congrArg (fun q : Ms => q.2.1) q1
            rw [q1]
            by_cases hq : opK v p k = 10 ∧ (step1 (opK v p k) (opX v p k) (mvT g m)).2.1 ≠ 1
            · rw [if_pos hq] at hx1
              first | exact Or.inr ⟨rfl, hx1.symm⟩ | exact absurd hq.1 h47 | exact absurd (e20.symm.trans h55) hq.2
            · rw [if_neg hq] at hx1
              first | exact Or.inl ⟨rfl, hx1⟩ | exact absurd ⟨h47, fun q => h55 (e20.trans q)⟩ hq
          · refine x_aload_n dX8_does_50 rfl rfl ?_
            refine g_getI (kI := 20) rfl dX8_does_51 fX8_289_8 (by first | assumption | exact hT.2.1) ?_
            try simp (disch := omega) only [rdI_e, rdI_n, rdC_i, rdC_o, rdW, rdR, rdU_e, rdU_n, rdLW, Int.add_zero, hw]
            refine x_iconst dX8_does_54 rfl ?_
            refine x_icmp_ne (tgt := 62) dX8_does_55 (by decide) (fun h55 => ?_) (fun h55 => ?_)
            · refine x_iconst dX8_does_62 rfl ?_
              refine x_istore_n (L' := [some _, some _, some _, some _]) dX8_does_63 rfl (by decide) rfl ?_
              first | refine x_iincN (L' := [some _, some _, some _, some _]) dX8_does_64 rfl (by decide) (by unfold i32; omega) rfl ?_ | refine x_iinc (L' := [some _, some _, some _, some _]) dX8_does_64 rfl (by decide) rfl ?_
              refine x_goto (tgt := 9) dX8_does_67 (by decide) ?_
              have ht' : t = (v (30 + 9 * p) - (k + 1)).toNat + 1 := by omega
              have hx1 : opD v p (mvT (mci M) m) = runM (opK v p) (opX v p) t k (mvT g m) := by
                rcases hx with q | q
                · exact q.2
                · exact absurd q.1 h20
              rw [ht', runM_s] at hx1
              refine ih _ (by omega) (k + 1) _ g1 rfl (by omega) (by omega) (TA.trans hf q4) (by rw [q1]; exact step1_ok (b4 k hk (by rw [hn]; omega)).2.1 hg) ?_
              have e20 : g1 m 20 = (step1 (opK v p k) (opX v p k) (mvT g m)).2.1 := congrArg (fun q : Ms => q.2.1) q1
              rw [q1]
              by_cases hq : opK v p k = 10 ∧ (step1 (opK v p k) (opX v p k) (mvT g m)).2.1 ≠ 1
              · rw [if_pos hq] at hx1
                first | exact Or.inr ⟨rfl, hx1.symm⟩ | exact absurd hq.1 h47 | exact absurd (e20.symm.trans h55) hq.2
              · rw [if_neg hq] at hx1
                first | exact Or.inl ⟨rfl, hx1⟩ | exact absurd ⟨h47, fun q => h55 (e20.trans q)⟩ hq
            · refine x_iconst dX8_does_58 rfl ?_
              refine x_goto (tgt := 63) dX8_does_59 (by decide) ?_
              refine x_istore_n (L' := [some _, some _, some _, some _]) dX8_does_63 rfl (by decide) rfl ?_
              first | refine x_iincN (L' := [some _, some _, some _, some _]) dX8_does_64 rfl (by decide) (by unfold i32; omega) rfl ?_ | refine x_iinc (L' := [some _, some _, some _, some _]) dX8_does_64 rfl (by decide) rfl ?_
              refine x_goto (tgt := 9) dX8_does_67 (by decide) ?_
              have ht' : t = (v (30 + 9 * p) - (k + 1)).toNat + 1 := by omega
              have hx1 : opD v p (mvT (mci M) m) = runM (opK v p) (opX v p) t k (mvT g m) := by
                rcases hx with q | q
                · exact q.2
                · exact absurd q.1 h20
              rw [ht', runM_s] at hx1
              refine ih _ (by omega) (k + 1) _ g1 rfl (by omega) (by omega) (TA.trans hf q4) (by rw [q1]; exact step1_ok (b4 k hk (by rw [hn]; omega)).2.1 hg) ?_
              have e20 : g1 m 20 = (step1 (opK v p k) (opX v p k) (mvT g m)).2.1 := congrArg (fun q : Ms => q.2.1) q1
              rw [q1]
              by_cases hq : opK v p k = 10 ∧ (step1 (opK v p k) (opX v p k) (mvT g m)).2.1 ≠ 1
              · rw [if_pos hq] at hx1
                first | exact Or.inr ⟨rfl, hx1.symm⟩ | exact absurd hq.1 h47 | exact absurd (e20.symm.trans h55) hq.2
              · rw [if_neg hq] at hx1
                first | exact Or.inl ⟨rfl, hx1⟩ | exact absurd ⟨h47, fun q => h55 (e20.trans q)⟩ hq
  refine x_aload_n dX8_does_0 rfl rfl ?_
  refine x_iconst dX8_does_1 rfl ?_
  refine g_putZ (by first | exact Or.inl rfl | exact Or.inr rfl | exact vB_r _ | omega) (kI := 23) rfl dX8_does_2 fX8_295_8 (by first | assumption | exact hT.2.1) ?_
  refine x_iconst dX8_does_5 rfl ?_
  refine x_istore_n (L' := [some _, some _, some _, none]) dX8_does_6 rfl (by decide) rfl ?_
  refine x_iconst dX8_does_7 rfl ?_
  refine x_istore_n (L' := [some _, some _, some _, some _]) dX8_does_8 rfl (by decide) rfl ?_
  refine loop _ 0 1 (up (mci M) m 23 0) rfl (by omega) (by omega) (fun a' k' q => by simp (disch := omega) only [rdI_e, rdI_n, rdC_i, rdC_o, rdW, rdR, rdU_e, rdU_n]) ?_ (Or.inl ⟨rfl, ?_⟩)
  · obtain ⟨c1, c2, c3, c4, c5, c6⟩ := hok
    refine ⟨?_, ?_, ?_, ?_, ?_, ?_⟩
    all_goals (unfold mvT; simp (disch := omega) only [rdI_e, rdI_n, rdC_i, rdC_o, rdW, rdR, rdU_e, rdU_n]; first | exact c1 | exact c2 | exact c3 | exact c4 | exact Or.inl trivial | exact c6)
  · unfold opD doM mvT
    simp (disch := omega) only [rdI_e, rdI_n, rdC_i, rdC_o, rdW, rdR, rdU_e, rdU_n]
    rw [hn, show v (30 + 9 * p) - 0 = v (30 + 9 * p) by omega]
/-- the machine in a state of the table -/
theorem s_X8_isLike {md bs cl : Int} (hd : 12 ≤ d) (hT : TwS (msh M) (mcr M) m) (hs : 0 ≤ st ∧ st < 512) (hc : c = 0 ∨ c = 1) : CS G d mX8_isLike [dR m, dI st, dI md, dI bs, dI cl, dI c] M (postN fun M1 => ∃ g, M1 = wI M g ∧ mvT g m = tabM st md bs cl (mci M m 23) (if c = 1 then st / 8 % 4 * 2 else 0) ∧ TA m (mci M) g) := by
  have hT_ := hT; obtain ⟨p0, p1, ⟨c1, c2, c3, c4, c5, c6, c7, c8, c9, c10, c11, c12, c13, c14, c15⟩, ⟨t1, t2, t3, t4, t5, t6, t7, t8, t9, t10, t11, t12, t13, t14, t15⟩⟩ := hT_
  refine CS.mkQ (by decide) (Nat.le_of_ble_eq_true rfl) fun Q hQ => ?_
  have loop : ∀ (t : Nat) (k by' : Int) (g : Ci), (8 - k).toNat = t → (0 ≤ k) → (k ≤ 8) → (0 ≤ by' ∧ by' < 8) → (by' = (if c = 1 then st / 8 % 4 * 2 else 0)) → (g m 19 = st % 4 ∧ g m 20 = md ∧ g m 21 = bs ∧ g m 22 = cl ∧ g m 23 = mci M m 23) → (∀ i, 0 ≤ i → i < k → g (m + 8) i = (st / 32 % 16 % 4 * ((i + by') % 8) + st / 32 % 16 / 4) % 4) → (TA m (mci M) g) → WP G d mX8_isLike 50 [some (dR m), some (dI st), some (dI md), some (dI bs), some (dI cl), some (dI c), some (dI (st / 32 % 16)), some (dI by'), some (dI k)] [] (wI M g) Q := by
    intro t
    induction t using Nat.strongRecOn with
    | _ t ih =>
      intro k by' g ht h0 h1 hb0 hb hg hgc hf
      have hpos : 0 ≤ st / 32 % 16 % 4 * ((k + by') % 8) := Int.mul_nonneg (by omega) (by omega)
      have hle : st / 32 % 16 % 4 * ((k + by') % 8) ≤ 3 * 7 := Int.mul_le_mul (by omega) (by omega) (by omega) (by omega)
      obtain ⟨g1, g2, g3, g4, g5⟩ := hg
      refine x_iload dX8_isLike_50 rfl ?_
      refine x_bipush dX8_isLike_52 rfl ?_
      refine x_icmp_ge (tgt := 90) dX8_isLike_54 (by decide) (fun h54 => ?_) (fun h54 => ?_)
      · refine x_vreturn rfl dX8_isLike_90 ?_
        refine hQ _ _ ⟨rfl, g, rfl, ?_, hf⟩
        unfold mvT tabM
        rw [g1, g2, g3, g4, g5, ← hb]
        have e : (fun k => g (m + 8) (k % 8)) = fun k => (st / 32 % 16 % 4 * ((k + by') % 8) + st / 32 % 16 / 4) % 4 := funext fun i => by
          rw [hgc (i % 8) (by omega) (by omega), show (i % 8 + by') % 8 = (i + by') % 8 by omega]
        rw [e]
      · refine x_aload_n dX8_isLike_57 rfl rfl ?_
        refine g_getR (kI := 17) rfl dX8_isLike_58 fX8_39_8 (by first | assumption | exact hT.2.1) (by first | assumption | exact hT.2.1) ?_
        refine x_iload dX8_isLike_61 rfl ?_
        refine x_iload dX8_isLike_63 rfl ?_
        refine x_iconst dX8_isLike_65 rfl ?_
        first | refine x_iremN dX8_isLike_66 (by omega) (by omega) ?_ | refine x_irem dX8_isLike_66 (by omega) ?_
        refine x_iload dX8_isLike_67 rfl ?_
        refine x_iload dX8_isLike_69 rfl ?_
        first | refine x_iaddN dX8_isLike_71 (by unfold i32; omega) ?_ | refine x_iadd dX8_isLike_71 ?_
        refine x_bipush dX8_isLike_72 rfl ?_
        first | refine x_iremN dX8_isLike_74 (by omega) (by omega) ?_ | refine x_irem dX8_isLike_74 (by omega) ?_
        first | refine x_imulN dX8_isLike_75 (by unfold i32; omega) ?_ | refine x_imul dX8_isLike_75 ?_
        refine x_iload dX8_isLike_76 rfl ?_
        refine x_iconst dX8_isLike_78 rfl ?_
        first | refine x_idivN dX8_isLike_79 (by omega) (by omega) ?_ | refine x_idiv dX8_isLike_79 (by omega) ?_
        first | refine x_iaddN dX8_isLike_80 (by unfold i32; omega) ?_ | refine x_iadd dX8_isLike_80 ?_
        refine x_iconst dX8_isLike_81 rfl ?_
        first | refine x_iremN dX8_isLike_82 (by omega) (by omega) ?_ | refine x_irem dX8_isLike_82 (by omega) ?_
        refine x_iast (by omega) dX8_isLike_83 (by first | assumption | exact hT.2.1) (by omega) (by omega) ?_
        first | refine x_iincN (L' := [some _, some _, some _, some _, some _, some _, some _, some _, some _]) dX8_isLike_84 rfl (by decide) (by unfold i32; omega) rfl ?_ | refine x_iinc (L' := [some _, some _, some _, some _, some _, some _, some _, some _, some _]) dX8_isLike_84 rfl (by decide) rfl ?_
        refine x_goto (tgt := 50) dX8_isLike_87 (by decide) ?_
        refine ih _ (by omega) (k + 1) by' (up g (m + 8) k _) rfl (by omega) (by omega) hb0 hb ⟨?_, ?_, ?_, ?_, ?_⟩ (fun i i0 i1 => ?_) (fun a' k' q => ?_)
        · simp (disch := omega) only [rdI_e, rdI_n, rdC_i, rdC_o, rdW, rdR, rdU_e, rdU_n]; exact g1
        · simp (disch := omega) only [rdI_e, rdI_n, rdC_i, rdC_o, rdW, rdR, rdU_e, rdU_n]; exact g2
        · simp (disch := omega) only [rdI_e, rdI_n, rdC_i, rdC_o, rdW, rdR, rdU_e, rdU_n]; exact g3
        · simp (disch := omega) only [rdI_e, rdI_n, rdC_i, rdC_o, rdW, rdR, rdU_e, rdU_n]; exact g4
        · simp (disch := omega) only [rdI_e, rdI_n, rdC_i, rdC_o, rdW, rdR, rdU_e, rdU_n]; exact g5
        · by_cases e : i = k
          · subst e; simp (disch := omega) only [rdI_e, rdI_n, rdC_i, rdC_o, rdW, rdR, rdU_e, rdU_n]
          · have := hgc i i0 (by omega)
            simp (disch := omega) only [rdI_e, rdI_n, rdC_i, rdC_o, rdW, rdR, rdU_e, rdU_n]
            exact this
        · have := hf a' k' q
          simp (disch := omega) only [rdI_e, rdI_n, rdC_i, rdC_o, rdW, rdR, rdU_e, rdU_n]
          exact this
  refine x_aload_n dX8_isLike_0 rfl rfl ?_
  refine x_iload_n dX8_isLike_1 rfl rfl ?_
  refine x_iconst dX8_isLike_2 rfl ?_
  first | refine x_iremN dX8_isLike_3 (by omega) (by omega) ?_ | refine x_irem dX8_isLike_3 (by omega) ?_
  refine g_putI (kI := 19) rfl dX8_isLike_4 fX8_286_8 (by first | assumption | exact hT.2.1) ?_
  refine x_aload_n dX8_isLike_7 rfl rfl ?_
  refine x_iload_n dX8_isLike_8 rfl rfl ?_
  refine g_putI (kI := 20) rfl dX8_isLike_9 fX8_289_8 (by first | assumption | exact hT.2.1) ?_
  refine x_aload_n dX8_isLike_12 rfl rfl ?_
  refine x_iload_n dX8_isLike_13 rfl rfl ?_
  refine g_putI (kI := 21) rfl dX8_isLike_14 fX8_283_8 (by first | assumption | exact hT.2.1) ?_
  refine x_aload_n dX8_isLike_17 rfl rfl ?_
  refine x_iload dX8_isLike_18 rfl ?_
  refine g_putI (kI := 22) rfl dX8_isLike_20 fX8_292_8 (by first | assumption | exact hT.2.1) ?_
  refine x_iload_n dX8_isLike_23 rfl rfl ?_
  refine x_bipush dX8_isLike_24 rfl ?_
  first | refine x_idivN dX8_isLike_26 (by omega) (by omega) ?_ | refine x_idiv dX8_isLike_26 (by omega) ?_
  refine x_bipush dX8_isLike_27 rfl ?_
  first | refine x_iremN dX8_isLike_29 (by omega) (by omega) ?_ | refine x_irem dX8_isLike_29 (by omega) ?_
  refine x_istore (L' := [some _, some _, some _, some _, some _, some _, some _, none, none]) dX8_isLike_30 (by decide) rfl ?_
  refine x_iload dX8_isLike_32 rfl ?_
  refine x_if_eq (tgt := 44) dX8_isLike_34 (by decide) (fun h34 => ?_) (fun h34 => ?_)
  · try simp only [vP_0, vP_1, vP_n0, vP_n1, Classical.not_not] at h34
    refine x_iconst dX8_isLike_44 rfl ?_
    refine x_istore (L' := [some _, some _, some _, some _, some _, some _, some _, some _, none]) dX8_isLike_45 (by decide) rfl ?_
    refine x_iconst dX8_isLike_47 rfl ?_
    refine x_istore (L' := [some _, some _, some _, some _, some _, some _, some _, some _, some _]) dX8_isLike_48 (by decide) rfl ?_
    refine loop _ 0 _ (up (up (up (up (mci M) m 19 (st % 4)) m 20 md) m 21 bs) m 22 cl) rfl (by omega) (by omega) (by omega) ?_ ⟨?_, ?_, ?_, ?_, ?_⟩ (fun i _ _ => by omega) (fun a' k' q => ?_)
    · first | (rw [if_pos (by omega)]) | (rw [if_neg (by omega)])
    all_goals (simp (disch := omega) only [rdI_e, rdI_n, rdC_i, rdC_o, rdW, rdR, rdU_e, rdU_n])
  · try simp only [vP_0, vP_1, vP_n0, vP_n1, Classical.not_not] at h34
    refine x_iload_n dX8_isLike_37 rfl rfl ?_
    refine g_callI (vs := [_]) (d' := d - 1) rfl (s_X8_baseOf (by omega) (by omega)) dX8_isLike_38 kX8_307 (by omega) (by decide) rfl (Nat.le_of_ble_eq_true rfl) (rcv_n) (fun x38 M38 h38 => ?_)
    obtain ⟨e38, f38⟩ := h38
    have f38' := f38.symm
    subst f38'
    subst e38
    try simp (disch := omega) only [rdI_e, rdI_n, rdC_i, rdC_o, rdW, rdR, rdU_e, rdU_n, rdLW, Int.add_zero]
    refine x_goto (tgt := 45) dX8_isLike_41 (by decide) ?_
    refine x_istore (L' := [some _, some _, some _, some _, some _, some _, some _, some _, none]) dX8_isLike_45 (by decide) rfl ?_
    refine x_iconst dX8_isLike_47 rfl ?_
    refine x_istore (L' := [some _, some _, some _, some _, some _, some _, some _, some _, some _]) dX8_isLike_48 (by decide) rfl ?_
    refine loop _ 0 _ (up (up (up (up (mci M) m 19 (st % 4)) m 20 md) m 21 bs) m 22 cl) rfl (by omega) (by omega) (by omega) ?_ ⟨?_, ?_, ?_, ?_, ?_⟩ (fun i _ _ => by omega) (fun a' k' q => ?_)
    · first | (rw [if_pos (by omega)]) | (rw [if_neg (by omega)])
    all_goals (simp (disch := omega) only [rdI_e, rdI_n, rdC_i, rdC_o, rdW, rdR, rdU_e, rdU_n])
theorem s_X8_isNow (hd : 13 ≤ d) (hT : TwS (msh M) (mcr M) m) (hst : 0 ≤ st ∧ st < 512) : CS G d mX8_isNow [dR m, dI st] M (postN fun M1 => ∃ g, M1 = wI M g ∧ mvT g m = tabM st (st / 4 % 2) (st / 8 % 4 * 2) 0 (mci M m 23) 0 ∧ TA m (mci M) g) := by
  refine CS.mkQ (by decide) (Nat.le_of_ble_eq_true rfl) fun Q hQ => ?_
  refine x_aload_n dX8_isNow_0 rfl rfl ?_
  refine x_iload_n dX8_isNow_1 rfl rfl ?_
  refine x_iload_n dX8_isNow_2 rfl rfl ?_
  refine g_callI (vs := [_]) (d' := d - 1) rfl (s_X8_modeOf (by omega) (by omega)) dX8_isNow_3 kX8_311 (by omega) (by decide) rfl (Nat.le_of_ble_eq_true rfl) (rcv_n) (fun x3 M3 h3 => ?_)
  obtain ⟨e3, f3⟩ := h3
  have f3' := f3.symm
  subst f3'
  subst e3
  try simp (disch := omega) only [rdI_e, rdI_n, rdC_i, rdC_o, rdW, rdR, rdU_e, rdU_n, rdLW, Int.add_zero]
  refine x_iload_n dX8_isNow_6 rfl rfl ?_
  refine g_callI (vs := [_]) (d' := d - 1) rfl (s_X8_baseOf (by omega) (by omega)) dX8_isNow_7 kX8_307 (by omega) (by decide) rfl (Nat.le_of_ble_eq_true rfl) (rcv_n) (fun x7 M7 h7 => ?_)
  obtain ⟨e7, f7⟩ := h7
  have f7' := f7.symm
  subst f7'
  subst e7
  try simp (disch := omega) only [rdI_e, rdI_n, rdC_i, rdC_o, rdW, rdR, rdU_e, rdU_n, rdLW, Int.add_zero]
  refine x_iconst dX8_isNow_10 rfl ?_
  refine x_iconst dX8_isNow_11 rfl ?_
  refine g_callN (vs := [_, _, _, _, _, _]) (d' := d - 1) rfl (s_X8_isLike (by omega) hT hst (Or.inl rfl)) dX8_isNow_12 kX8_314 (by omega) (by decide) rfl (Nat.le_of_ble_eq_true rfl) (rcv_o (by first | assumption | exact hT.2.1) rfl) (fun M12 h12 => ?_)
  obtain ⟨g12, hM12, r12, q12⟩ := h12
  refine x_vreturn rfl dX8_isNow_15 ?_
  exact hQ _ _ ⟨rfl, g12, hM12, r12.trans (congrArg _ (if_neg (by decide))), q12⟩
/-- what came of the first one of two -/
def fsT (f : Ci) (m : Int) (x : Ms) : Prop := f m 24 = x.1 ∧ f m 25 = x.2.2.2.2.1 ∧ ∀ k, 0 ≤ k → k < 8 → f (m + 9) k = x.2.2.2.2.2 k
theorem fsT.ta {f g : Ci} {m : Int} {x : Ms} (h : fsT f m x) (hf : TA m f g) : fsT g m x := ⟨(hf _ _ (by omega)).trans h.1, (hf _ _ (by omega)).trans h.2.1, fun k a b => (hf _ _ (by omega)).trans (h.2.2 k a b)⟩
theorem s_X8_keepsFirst {x : Ms} (hd : 10 ≤ d) (hT : TwS (msh M) (mcr M) m) (hx : mvT (mci M) m = x) (hok : okM x) : CS G d mX8_keepsFirst [dR m] M (postN fun M1 => ∃ g, M1 = wI M g ∧ fsT g m x ∧ mvT g m = x ∧ TE m (mci M) g) := by
  have hT_ := hT; obtain ⟨p0, p1, ⟨c1, c2, c3, c4, c5, c6, c7, c8, c9, c10, c11, c12, c13, c14, c15⟩, ⟨t1, t2, t3, t4, t5, t6, t7, t8, t9, t10, t11, t12, t13, t14, t15⟩⟩ := hT_
  subst hx
  have h23 := hok.2.2.2.2.1
  refine CS.mkQ (by decide) (Nat.le_of_ble_eq_true rfl) fun Q hQ => ?_
  have loop : ∀ (t : Nat) (k : Int), (8 - k).toNat = t → (0 ≤ k) → (k ≤ 8) → WP G d mX8_keepsFirst 18 [some (dR m), some (dI k)] [] (mC (mI (mI M m 24 (mci M m 19)) m 25 (mci M m 23)) (m + 8) 0 (m + 9) 0 k) Q := by
    intro t
    induction t using Nat.strongRecOn with
    | _ t ih =>
      intro k ht h0 h1
      refine x_iload_n dX8_keepsFirst_18 rfl rfl ?_
      refine x_bipush dX8_keepsFirst_19 rfl ?_
      refine x_icmp_ge (tgt := 42) dX8_keepsFirst_21 (by decide) (fun h21 => ?_) (fun h21 => ?_)
      · refine x_vreturn rfl dX8_keepsFirst_42 ?_
        have hk8 : k = 8 := by omega
        subst hk8
        refine hQ _ _ ⟨rfl, exI rfl ⟨⟨?_, ?_, fun i i0 i1 => ?_⟩, ?_, fun a' k' q => ?_⟩⟩
        · simp (disch := omega) only [rdI_e, rdI_n, rdC_i, rdC_o, rdW, rdR, rdU_e, rdU_n]; rfl
        · simp (disch := omega) only [rdI_e, rdI_n, rdC_i, rdC_o, rdW, rdR, rdU_e, rdU_n]; rfl
        · simp (disch := omega) only [rdI_e, rdI_n, rdC_i, rdC_o, rdW, rdR, rdU_e, rdU_n]
          show mci M (m + 8) (0 + (i - 0)) = mci M (m + 8) (i % 8)
          rw [show 0 + (i - 0) = i % 8 by omega]
        · unfold mvT
          simp (disch := omega) only [rdI_e, rdI_n, rdC_i, rdC_o, rdW, rdR, rdU_e, rdU_n]
        · unfold scr at q
          simp (disch := omega) only [rdI_e, rdI_n, rdC_i, rdC_o, rdW, rdR, rdU_e, rdU_n]
      · refine x_aload_n dX8_keepsFirst_24 rfl rfl ?_
        refine g_getR (kI := 18) rfl dX8_keepsFirst_25 fX8_42_8 (by first | assumption | exact hT.2.1) (by first | assumption | exact hT.2.1) ?_
        refine x_iload_n dX8_keepsFirst_28 rfl rfl ?_
        refine x_aload_n dX8_keepsFirst_29 rfl rfl ?_
        refine g_getR (kI := 17) rfl dX8_keepsFirst_30 fX8_39_8 (by first | assumption | exact hT.2.1) (by first | assumption | exact hT.2.1) ?_
        refine x_iload_n dX8_keepsFirst_33 rfl rfl ?_
        refine x_iald dX8_keepsFirst_34 (by first | assumption | exact hT.2.1) (by omega) (by omega) ?_
        try simp (disch := omega) only [rdI_e, rdI_n, rdC_i, rdC_o, rdW, rdR, rdU_e, rdU_n, rdLW, Int.add_zero]
        refine x_iast (by omega) dX8_keepsFirst_35 (by first | assumption | exact hT.2.1) (by omega) (by omega) ?_
        first | refine x_iincN (L' := [some _, some _]) dX8_keepsFirst_36 rfl (by decide) (by unfold i32; omega) rfl ?_ | refine x_iinc (L' := [some _, some _]) dX8_keepsFirst_36 rfl (by decide) rfl ?_
        refine x_goto (tgt := 18) dX8_keepsFirst_39 (by decide) ?_
        refine WP.mem (mC_s (by omega) ?_ (by omega)) (ih _ (by omega) (k + 1) rfl (by omega) (by omega))
        simp (disch := omega) only [rdI_e, rdI_n, rdC_i, rdC_o, rdW, rdR, rdU_e, rdU_n]
        exact congrArg _ (by omega)
  refine x_aload_n dX8_keepsFirst_0 rfl rfl ?_
  refine x_aload_n dX8_keepsFirst_1 rfl rfl ?_
  refine g_getI (kI := 19) rfl dX8_keepsFirst_2 fX8_286_8 (by first | assumption | exact hT.2.1) ?_
  try simp (disch := omega) only [rdI_e, rdI_n, rdC_i, rdC_o, rdW, rdR, rdU_e, rdU_n, rdLW, Int.add_zero]
  refine g_putI (kI := 24) rfl dX8_keepsFirst_5 fX8_328_8 (by first | assumption | exact hT.2.1) ?_
  refine x_aload_n dX8_keepsFirst_8 rfl rfl ?_
  refine x_aload_n dX8_keepsFirst_9 rfl rfl ?_
  refine g_getZ (kI := 23) rfl dX8_keepsFirst_10 fX8_295_8 (by first | assumption | exact hT.2.1) ?_
  try simp (disch := omega) only [rdI_e, rdI_n, rdC_i, rdC_o, rdW, rdR, rdU_e, rdU_n, rdLW, Int.add_zero]
  refine g_putZ (by exact h23) (kI := 25) rfl dX8_keepsFirst_13 fX8_331_8 (by first | assumption | exact hT.2.1) ?_
  refine x_iconst dX8_keepsFirst_16 rfl ?_
  refine x_istore_n (L' := [some _, some _]) dX8_keepsFirst_17 rfl (by decide) rfl ?_
  exact WP.mem mC_0.symm (loop _ 0 rfl (by omega) (by omega))
theorem s_X8_isUnlike {x : Ms} (hd : 10 ≤ d) (hT : TwS (msh M) (mcr M) m) (hx : fsT (mci M) m x) (hper : perC x.2.2.2.2.2) (hn : 0 ≤ n ∧ n < 8) : CS G d mX8_isUnlike [dR m, dI n] M (pur M (vP (unM x (mvT (mci M) m) n))) := by
  have hT_ := hT; obtain ⟨p0, p1, ⟨c1, c2, c3, c4, c5, c6, c7, c8, c9, c10, c11, c12, c13, c14, c15⟩, ⟨t1, t2, t3, t4, t5, t6, t7, t8, t9, t10, t11, t12, t13, t14, t15⟩⟩ := hT_
  obtain ⟨x1, x2, x3⟩ := hx
  refine CS.mkQ (by decide) (Nat.le_of_ble_eq_true rfl) fun Q hQ => ?_
  have loop : ∀ (t : Nat) (k y : Int), (8 - k).toNat = t → (0 ≤ k) → (k ≤ 8) → (y = vP (x.1 ≠ mci M m 19 ∨ x.2.2.2.2.1 ≠ mci M m 23 ∨ ∃ i, 0 ≤ i ∧ i < k ∧ x.2.2.2.2.2 (i + n) ≠ mci M (m + 8) i)) → WP G d mX8_isUnlike 30 [some (dR m), some (dI n), some (dI y), some (dI k)] [] (M) Q := by
    intro t
    induction t using Nat.strongRecOn with
    | _ t ih =>
      intro k y ht h0 h1 hy
      have hy01 : y = 0 ∨ y = 1 := by rw [hy]; exact vP_r _
      have hc9 : mci M (m + 9) ((k + n) % 8) = x.2.2.2.2.2 (k + n) := (x3 _ (by omega) (by omega)).trans (hper _)
      refine x_iload_n dX8_isUnlike_30 rfl rfl ?_
      refine x_bipush dX8_isUnlike_31 rfl ?_
      refine x_icmp_ge (tgt := 72) dX8_isUnlike_33 (by decide) (fun h33 => ?_) (fun h33 => ?_)
      · refine x_iload_n dX8_isUnlike_72 rfl rfl ?_
        refine x_zreturn (by exact hy01) rfl dX8_isUnlike_73 ?_
        refine hQ _ _ ⟨_, rfl, ?_, rfl⟩
        rw [hy]
        have hk8 : k = 8 := by omega
        subst hk8
        refine vP_c ⟨fun q => q.imp id fun q => q.imp id fun ⟨i, q1, q2, q3⟩ => ⟨i, q1, q2, ?_⟩, fun q => q.imp id fun q => q.imp id fun ⟨i, q1, q2, q3⟩ => ⟨i, q1, q2, ?_⟩⟩
        · show _ ≠ mci M (m + 8) (i % 8)
          rw [show i % 8 = i by omega]; exact q3
        · have q3' : x.2.2.2.2.2 (i + n) ≠ mci M (m + 8) (i % 8) := q3
          rw [show i % 8 = i by omega] at q3'; exact q3'
      · refine x_iload_n dX8_isUnlike_36 rfl rfl ?_
        refine x_if_ne (tgt := 60) dX8_isUnlike_37 (by decide) (fun h37 => ?_) (fun h37 => ?_)
        · refine x_iconst dX8_isUnlike_60 rfl ?_
          refine x_goto (tgt := 65) dX8_isUnlike_61 (by decide) ?_
          refine x_istore_n (L' := [some _, some _, some _, some _]) dX8_isUnlike_65 rfl (by decide) rfl ?_
          first | refine x_iincN (L' := [some _, some _, some _, some _]) dX8_isUnlike_66 rfl (by decide) (by unfold i32; omega) rfl ?_ | refine x_iinc (L' := [some _, some _, some _, some _]) dX8_isUnlike_66 rfl (by decide) rfl ?_
          refine x_goto (tgt := 30) dX8_isUnlike_69 (by decide) ?_
          refine ih _ (by omega) (k + 1) _ rfl (by omega) (by omega) ?_
          rw [hy] at h37
          first
          | (have h37' := vP_n0.mp h37
             exact (vP_t (h37'.imp id fun q => q.imp id fun ⟨i, q1, q2, q3⟩ => ⟨i, q1, by omega, q3⟩)).symm)
          | (rw [hc9] at h57
             exact (vP_t (Or.inr (Or.inr ⟨k, by omega, by omega, h57⟩))).symm)
          | (rw [hc9] at h57
             have h37' := vP_0.mp h37
             refine (vP_f fun q => h37' (q.imp id fun q => q.imp id fun ⟨i, q1, q2, q3⟩ => ⟨i, q1, ?_, q3⟩)).symm
             by_cases e : i = k
             · subst e; exact absurd h57 q3
             · omega)
        · refine x_aload_n dX8_isUnlike_40 rfl rfl ?_
          refine g_getR (kI := 18) rfl dX8_isUnlike_41 fX8_42_8 (by first | assumption | exact hT.2.1) (by first | assumption | exact hT.2.1) ?_
          refine x_iload_n dX8_isUnlike_44 rfl rfl ?_
          refine x_iload_n dX8_isUnlike_45 rfl rfl ?_
          first | refine x_iaddN dX8_isUnlike_46 (by unfold i32; omega) ?_ | refine x_iadd dX8_isUnlike_46 ?_
          refine x_bipush dX8_isUnlike_47 rfl ?_
          first | refine x_iremN dX8_isUnlike_49 (by omega) (by omega) ?_ | refine x_irem dX8_isUnlike_49 (by omega) ?_
          refine x_iald dX8_isUnlike_50 (by first | assumption | exact hT.2.1) (by omega) (by omega) ?_
          try simp (disch := omega) only [rdI_e, rdI_n, rdC_i, rdC_o, rdW, rdR, rdU_e, rdU_n, rdLW, Int.add_zero]
          refine x_aload_n dX8_isUnlike_51 rfl rfl ?_
          refine g_getR (kI := 17) rfl dX8_isUnlike_52 fX8_39_8 (by first | assumption | exact hT.2.1) (by first | assumption | exact hT.2.1) ?_
          refine x_iload_n dX8_isUnlike_55 rfl rfl ?_
          refine x_iald dX8_isUnlike_56 (by first | assumption | exact hT.2.1) (by omega) (by omega) ?_
          try simp (disch := omega) only [rdI_e, rdI_n, rdC_i, rdC_o, rdW, rdR, rdU_e, rdU_n, rdLW, Int.add_zero]
          refine x_icmp_eq (tgt := 64) dX8_isUnlike_57 (by decide) (fun h57 => ?_) (fun h57 => ?_)
          · refine x_iconst dX8_isUnlike_64 rfl ?_
            refine x_istore_n (L' := [some _, some _, some _, some _]) dX8_isUnlike_65 rfl (by decide) rfl ?_
            first | refine x_iincN (L' := [some _, some _, some _, some _]) dX8_isUnlike_66 rfl (by decide) (by unfold i32; omega) rfl ?_ | refine x_iinc (L' := [some _, some _, some _, some _]) dX8_isUnlike_66 rfl (by decide) rfl ?_
            refine x_goto (tgt := 30) dX8_isUnlike_69 (by decide) ?_
            refine ih _ (by omega) (k + 1) _ rfl (by omega) (by omega) ?_
            rw [hy] at h37
            first
            | (have h37' := vP_n0.mp h37
               exact (vP_t (h37'.imp id fun q => q.imp id fun ⟨i, q1, q2, q3⟩ => ⟨i, q1, by omega, q3⟩)).symm)
            | (rw [hc9] at h57
               exact (vP_t (Or.inr (Or.inr ⟨k, by omega, by omega, h57⟩))).symm)
            | (rw [hc9] at h57
               have h37' := vP_0.mp h37
               refine (vP_f fun q => h37' (q.imp id fun q => q.imp id fun ⟨i, q1, q2, q3⟩ => ⟨i, q1, ?_, q3⟩)).symm
               by_cases e : i = k
               · subst e; exact absurd h57 q3
               · omega)
          · refine x_iconst dX8_isUnlike_60 rfl ?_
            refine x_goto (tgt := 65) dX8_isUnlike_61 (by decide) ?_
            refine x_istore_n (L' := [some _, some _, some _, some _]) dX8_isUnlike_65 rfl (by decide) rfl ?_
            first | refine x_iincN (L' := [some _, some _, some _, some _]) dX8_isUnlike_66 rfl (by decide) (by unfold i32; omega) rfl ?_ | refine x_iinc (L' := [some _, some _, some _, some _]) dX8_isUnlike_66 rfl (by decide) rfl ?_
            refine x_goto (tgt := 30) dX8_isUnlike_69 (by decide) ?_
            refine ih _ (by omega) (k + 1) _ rfl (by omega) (by omega) ?_
            rw [hy] at h37
            first
            | (have h37' := vP_n0.mp h37
               exact (vP_t (h37'.imp id fun q => q.imp id fun ⟨i, q1, q2, q3⟩ => ⟨i, q1, by omega, q3⟩)).symm)
            | (rw [hc9] at h57
               exact (vP_t (Or.inr (Or.inr ⟨k, by omega, by omega, h57⟩))).symm)
            | (rw [hc9] at h57
               have h37' := vP_0.mp h37
               refine (vP_f fun q => h37' (q.imp id fun q => q.imp id fun ⟨i, q1, q2, q3⟩ => ⟨i, q1, ?_, q3⟩)).symm
               by_cases e : i = k
               · subst e; exact absurd h57 q3
               · omega)
  refine x_aload_n dX8_isUnlike_0 rfl rfl ?_
  refine g_getI (kI := 19) rfl dX8_isUnlike_1 fX8_286_8 (by first | assumption | exact hT.2.1) ?_
  try simp (disch := omega) only [rdI_e, rdI_n, rdC_i, rdC_o, rdW, rdR, rdU_e, rdU_n, rdLW, Int.add_zero]
  refine x_aload_n dX8_isUnlike_4 rfl rfl ?_
  refine g_getI (kI := 24) rfl dX8_isUnlike_5 fX8_328_8 (by first | assumption | exact hT.2.1) ?_
  try simp (disch := omega) only [rdI_e, rdI_n, rdC_i, rdC_o, rdW, rdR, rdU_e, rdU_n, rdLW, Int.add_zero]
  refine x_icmp_ne (tgt := 22) dX8_isUnlike_8 (by decide) (fun h8 => ?_) (fun h8 => ?_)
  · refine x_iconst dX8_isUnlike_22 rfl ?_
    refine x_goto (tgt := 27) dX8_isUnlike_23 (by decide) ?_
    refine x_istore_n (L' := [some _, some _, some _, none]) dX8_isUnlike_27 rfl (by decide) rfl ?_
    refine x_iconst dX8_isUnlike_28 rfl ?_
    refine x_istore_n (L' := [some _, some _, some _, some _]) dX8_isUnlike_29 rfl (by decide) rfl ?_
    refine loop _ 0 _ rfl (by omega) (by omega) ?_
    first
    | exact (vP_t (Or.inl fun q => h8 (by rw [x1]; exact q.symm))).symm
    | exact (vP_t (Or.inr (Or.inl fun q => h19 (by rw [x2]; exact q.symm)))).symm
    | exact (vP_f fun q => q.elim (fun q => q (by rw [← x1]; exact h8.symm)) fun q => q.elim (fun q => q (by rw [← x2]; exact h19.symm)) fun ⟨i, _, _, _⟩ => by omega).symm
  · refine x_aload_n dX8_isUnlike_11 rfl rfl ?_
    refine g_getZ (kI := 23) rfl dX8_isUnlike_12 fX8_295_8 (by first | assumption | exact hT.2.1) ?_
    try simp (disch := omega) only [rdI_e, rdI_n, rdC_i, rdC_o, rdW, rdR, rdU_e, rdU_n, rdLW, Int.add_zero]
    refine x_aload_n dX8_isUnlike_15 rfl rfl ?_
    refine g_getZ (kI := 25) rfl dX8_isUnlike_16 fX8_331_8 (by first | assumption | exact hT.2.1) ?_
    try simp (disch := omega) only [rdI_e, rdI_n, rdC_i, rdC_o, rdW, rdR, rdU_e, rdU_n, rdLW, Int.add_zero]
    refine x_icmp_eq (tgt := 26) dX8_isUnlike_19 (by decide) (fun h19 => ?_) (fun h19 => ?_)
    · refine x_iconst dX8_isUnlike_26 rfl ?_
      refine x_istore_n (L' := [some _, some _, some _, none]) dX8_isUnlike_27 rfl (by decide) rfl ?_
      refine x_iconst dX8_isUnlike_28 rfl ?_
      refine x_istore_n (L' := [some _, some _, some _, some _]) dX8_isUnlike_29 rfl (by decide) rfl ?_
      refine loop _ 0 _ rfl (by omega) (by omega) ?_
      first
      | exact (vP_t (Or.inl fun q => h8 (by rw [x1]; exact q.symm))).symm
      | exact (vP_t (Or.inr (Or.inl fun q => h19 (by rw [x2]; exact q.symm)))).symm
      | exact (vP_f fun q => q.elim (fun q => q (by rw [← x1]; exact h8.symm)) fun q => q.elim (fun q => q (by rw [← x2]; exact h19.symm)) fun ⟨i, _, _, _⟩ => by omega).symm
    · refine x_iconst dX8_isUnlike_22 rfl ?_
      refine x_goto (tgt := 27) dX8_isUnlike_23 (by decide) ?_
      refine x_istore_n (L' := [some _, some _, some _, none]) dX8_isUnlike_27 rfl (by decide) rfl ?_
      refine x_iconst dX8_isUnlike_28 rfl ?_
      refine x_istore_n (L' := [some _, some _, some _, some _]) dX8_isUnlike_29 rfl (by decide) rfl ?_
      refine loop _ 0 _ rfl (by omega) (by omega) ?_
      first
      | exact (vP_t (Or.inl fun q => h8 (by rw [x1]; exact q.symm))).symm
      | exact (vP_t (Or.inr (Or.inl fun q => h19 (by rw [x2]; exact q.symm)))).symm
      | exact (vP_f fun q => q.elim (fun q => q (by rw [← x1]; exact h8.symm)) fun q => q.elim (fun q => q (by rw [← x2]; exact h19.symm)) fun ⟨i, _, _, _⟩ => by omega).symm
end X8

