/-! GuestViewModel: a tick -/
section X8
variable {G : GW} {d : Nat} {M : Mem} {m a b c p k i what n st pc op : Int} {v : Vw}
theorem s_X8_hostedSteps (hd : 18 ≤ d) (hT : TwS (msh M) (mcr M) m) (hw : mci M (m + 1) = v) (hv : okB v) (hg : okGu v 1) (hTr : TrOk (mci M) m v) (hL : lawOK v) (hsk : sk01 (mci M) m) : CS G d mX8_hostedSteps [dR m] M (postI fun x M1 => x = (if hostH v ≤ 2 then hostH v else -1) ∧ ∃ g, M1 = wI M g ∧ g (m + 1) = hostV v ∧ TF m (mci M) g ∧ sk01 g m) := by
  have hT_ := hT; obtain ⟨p0, p1, ⟨c1, c2, c3, c4, c5, c6, c7, c8, c9, c10, c11, c12, c13, c14, c15⟩, ⟨t1, t2, t3, t4, t5, t6, t7, t8, t9, t10, t11, t12, t13, t14, t15⟩⟩ := hT_
  have h4 : 0 ≤ v (guA 1 + 4) ∧ v (guA 1 + 4) < 8 := hg.2.2.2.2.1
  have h2 : v (guA 1 + 2) = 0 ∨ v (guA 1 + 2) = 1 := hg.2.2.1
  have hpc := hg.1
  have hv3 := hv.2.2.2.1
  have hv5 := hv.2.2.2.2.2.1
  have hv8 := hv.1
  refine CS.mkQ (by decide) (Nat.le_of_ble_eq_true rfl) fun Q hQ => ?_
  by_cases hh : v 3 ≤ v (guA 1)
  · refine x_aload_n dX8_hostedSteps_0 rfl rfl ?_
    refine x_iconst dX8_hostedSteps_1 rfl ?_
    refine g_callI (vs := [_, _]) (d' := d - 1) rfl (s_X8_isHalted (by omega) hT (by first | exact hw | exact mciI (by omega) hw | exact mciI (by omega) (mciI (by omega) hw) | exact mciI (by omega) (mciI (by omega) (mciI (by omega) hw)) | exact mciI (by omega) (mciI (by omega) (mciI (by omega) (mciI (by omega) hw))) | exact mciC (by omega) hw) (by omega)) dX8_hostedSteps_2 kX8_392 (by omega) (by decide) rfl (Nat.le_of_ble_eq_true rfl) (rcv_o (by first | assumption | exact hT.2.1) rfl) (fun x2 M2 h2 => ?_)
    obtain ⟨e2, f2⟩ := h2
    have f2' := f2.symm
    subst f2'
    subst e2
    try simp (disch := omega) only [rdI_e, rdI_n, rdC_i, rdC_o, rdW, rdR, rdU_e, rdU_n, rdLW, Int.add_zero]
    refine x_if_eq (tgt := 10) dX8_hostedSteps_5 (by decide) (fun h5 => ?_) (fun h5 => ?_)
    · try simp only [vP_0, vP_1, vP_n0, vP_n1, Classical.not_not] at h5
      exact absurd hh h5
    · try simp only [vP_0, vP_1, vP_n0, vP_n1, Classical.not_not] at h5
      refine x_iconst dX8_hostedSteps_8 rfl ?_
      refine x_ireturn rfl dX8_hostedSteps_9 ?_
      refine hQ _ _ ⟨_, rfl, ?_, mci M, rfl, ?_, TF.rfl, hsk⟩
      · unfold hostH
        rw [if_pos hh, if_neg (by decide)]
      · unfold hostV
        rw [if_pos hh]
        exact hw
  · have hp : 0 ≤ opAtV v 1 ∧ opAtV v 1 < v 0 := hv.pr (v (guA 1)) hpc.1 (by omega)
    have hop := hv.op _ hp.1 hp.2
    have tail : ∀ (how : Int) (g' : Ci) (v1 : Vw), (how = -1 ∨ how = 0 ∨ how = 1 ∨ how = 2) → g' (m + 1) = v1 → v1 (guA 1 + 4) = v (guA 1 + 4) → eqB v v1 → TF m (mci M) g' → sk01 g' m → us v1 (guA 1 + 4) ((v (guA 1 + 4) + (if 0 ≤ how ∧ how ≤ 1 then 1 + emuV v (opAtV v 1) else 1)) % 8) = hostV v → how = (if hostH v ≤ 2 then hostH v else -1) → WP G d mX8_hostedSteps 157 [some (dR m), some (dI (opAtV v 1)), some (dI how), some (dI 1)] [] (wI M g') Q := by
      intro how g' v1 hhow hw e4 heB hf hs e5 e6
      have hv1 : okB v1 := hv.eqB heB
      have hTr1 : TrOk g' m v1 := (hf.tr hTr).eqM hv heB.m
      have hL1 : lawOK v1 := hL.eqM heB.m
      have hp1 : 0 ≤ opAtV v 1 ∧ opAtV v 1 < v1 0 := by rw [heB 0 (by omega)]; exact hp
      refine x_iload_n dX8_hostedSteps_157 rfl rfl ?_
      refine x_iconst dX8_hostedSteps_158 rfl ?_
      refine x_iconst dX8_hostedSteps_159 rfl ?_
      refine g_callI (vs := [_, _, _]) (d' := d - 1) rfl (s_X8_in (by omega)) dX8_hostedSteps_160 kX8_88 (by omega) (by decide) rfl (Nat.le_of_ble_eq_true rfl) (rcv_n) (fun x160 M160 h160 => ?_)
      obtain ⟨e160, f160⟩ := h160
      have f160' := f160.symm
      subst f160'
      subst e160
      try simp (disch := omega) only [rdI_e, rdI_n, rdC_i, rdC_o, rdW, rdR, rdU_e, rdU_n, rdLW, Int.add_zero]
      refine x_if_eq (tgt := 174) dX8_hostedSteps_163 (by decide) (fun h163 => ?_) (fun h163 => ?_)
      · try simp only [vP_0, vP_1, vP_n0, vP_n1, Classical.not_not] at h163
        refine x_aload_n dX8_hostedSteps_174 rfl rfl ?_
        refine g_getR (kI := 1) rfl dX8_hostedSteps_175 fX8_13_8 (by first | assumption | exact hT.2.1) (by first | assumption | exact hT.2.1) ?_
        refine x_iconst dX8_hostedSteps_178 rfl ?_
        refine x_iconst dX8_hostedSteps_179 rfl ?_
        refine g_callI (vs := [_, _]) (d' := d - 1) rfl (s_X8_guestAt (by omega) (by omega) (by omega)) dX8_hostedSteps_180 kX8_81 (by omega) (by decide) rfl (Nat.le_of_ble_eq_true rfl) (rcv_n) (fun x180 M180 h180 => ?_)
        obtain ⟨e180, f180⟩ := h180
        have f180' := f180.symm
        subst f180'
        subst e180
        try simp (disch := omega) only [rdI_e, rdI_n, rdC_i, rdC_o, rdW, rdR, rdU_e, rdU_n, rdLW, Int.add_zero]
        refine x_aload_n dX8_hostedSteps_183 rfl rfl ?_
        refine x_iconst dX8_hostedSteps_184 rfl ?_
        refine x_iconst dX8_hostedSteps_185 rfl ?_
        refine g_callI (vs := [_, _, _]) (d' := d - 1) rfl (s_X8_ofGuest (by omega) hT (by first | exact hw | exact mciI (by omega) hw | exact mciI (by omega) (mciI (by omega) hw) | exact mciI (by omega) (mciI (by omega) (mciI (by omega) hw)) | exact mciI (by omega) (mciI (by omega) (mciI (by omega) (mciI (by omega) hw))) | exact mciC (by omega) hw) (by omega) (by omega)) dX8_hostedSteps_186 kX8_384 (by omega) (by decide) rfl (Nat.le_of_ble_eq_true rfl) (rcv_o (by first | assumption | exact hT.2.1) rfl) (fun x186 M186 h186 => ?_)
        obtain ⟨e186, f186⟩ := h186
        have f186' := f186.symm
        subst f186'
        subst e186
        try simp (disch := omega) only [rdI_e, rdI_n, rdC_i, rdC_o, rdW, rdR, rdU_e, rdU_n, rdLW, Int.add_zero]
        rw [e4]
        refine x_iload_n dX8_hostedSteps_189 rfl rfl ?_
        first | refine x_iaddN dX8_hostedSteps_190 (by unfold i32; omega) ?_ | refine x_iadd dX8_hostedSteps_190 ?_
        refine x_bipush dX8_hostedSteps_191 rfl ?_
        first | refine x_iremN dX8_hostedSteps_193 (by omega) (by omega) ?_ | refine x_irem dX8_hostedSteps_193 (by omega) ?_
        refine x_iast (by omega) dX8_hostedSteps_194 (by first | assumption | exact hT.2.1) (by omega) (by omega) ?_
        refine x_iload_n dX8_hostedSteps_195 rfl rfl ?_
        refine x_ireturn rfl dX8_hostedSteps_196 ?_
        first
        | (refine hQ _ _ ⟨_, rfl, e6, exI (M := M) rfl ⟨(mciIs (M := wI M g169) hw).trans e5, fun a' k' q1 q2 => ?_, ?_⟩⟩
           · rw [rdI_n (by omega)]
             exact (q169.te a' k' q2).trans (hf a' k' q1 q2)
           · unfold sk01 at hs ⊢
             rw [rdI_n (by omega)]
             exact hs)
        | (rw [if_neg h163] at e5
           refine hQ _ _ ⟨_, rfl, e6, exI (M := M) rfl ⟨(mciIs (M := wI M g') hw).trans e5, fun a' k' q1 q2 => ?_, ?_⟩⟩
           · rw [rdI_n (by omega)]
             exact hf a' k' q1 q2
           · unfold sk01 at hs ⊢
             rw [rdI_n (by omega)]
             exact hs)
      · try simp only [vP_0, vP_1, vP_n0, vP_n1, Classical.not_not] at h163
        refine x_iload_n dX8_hostedSteps_166 rfl rfl ?_
        refine x_aload_n dX8_hostedSteps_167 rfl rfl ?_
        refine x_iload_n dX8_hostedSteps_168 rfl rfl ?_
        refine g_callI (vs := [_, _]) (d' := d - 1) rfl (s_X8_emulationOf (M := wI M g') (by omega) hT hw hv1 hp1 hTr1 hL1) dX8_hostedSteps_169 kX8_405 (by omega) (by decide) rfl (Nat.le_of_ble_eq_true rfl) (rcv_o (by first | assumption | exact hT.2.1) rfl) (fun x169 M169 h169 => ?_)
        obtain ⟨⟨e169, r169⟩, g169, hM169, q169⟩ := h169
        subst hM169
        have hw := TV.w q169 hw
        have hs := q169.sk hs
        rw [if_pos h163, ← emuV_eqL hv hp heB.m hL, ← e169] at e5
        first | refine x_iaddN dX8_hostedSteps_172 (by unfold i32; omega) ?_ | refine x_iadd dX8_hostedSteps_172 ?_
        refine x_istore_n (L' := [some _, some _, some _, some _]) dX8_hostedSteps_173 rfl (by decide) rfl ?_
        refine x_aload_n dX8_hostedSteps_174 rfl rfl ?_
        refine g_getR (kI := 1) rfl dX8_hostedSteps_175 fX8_13_8 (by first | assumption | exact hT.2.1) (by first | assumption | exact hT.2.1) ?_
        refine x_iconst dX8_hostedSteps_178 rfl ?_
        refine x_iconst dX8_hostedSteps_179 rfl ?_
        refine g_callI (vs := [_, _]) (d' := d - 1) rfl (s_X8_guestAt (by omega) (by omega) (by omega)) dX8_hostedSteps_180 kX8_81 (by omega) (by decide) rfl (Nat.le_of_ble_eq_true rfl) (rcv_n) (fun x180 M180 h180 => ?_)
        obtain ⟨e180, f180⟩ := h180
        have f180' := f180.symm
        subst f180'
        subst e180
        try simp (disch := omega) only [rdI_e, rdI_n, rdC_i, rdC_o, rdW, rdR, rdU_e, rdU_n, rdLW, Int.add_zero]
        refine x_aload_n dX8_hostedSteps_183 rfl rfl ?_
        refine x_iconst dX8_hostedSteps_184 rfl ?_
        refine x_iconst dX8_hostedSteps_185 rfl ?_
        refine g_callI (vs := [_, _, _]) (d' := d - 1) rfl (s_X8_ofGuest (by omega) hT (by first | exact hw | exact mciI (by omega) hw | exact mciI (by omega) (mciI (by omega) hw) | exact mciI (by omega) (mciI (by omega) (mciI (by omega) hw)) | exact mciI (by omega) (mciI (by omega) (mciI (by omega) (mciI (by omega) hw))) | exact mciC (by omega) hw) (by omega) (by omega)) dX8_hostedSteps_186 kX8_384 (by omega) (by decide) rfl (Nat.le_of_ble_eq_true rfl) (rcv_o (by first | assumption | exact hT.2.1) rfl) (fun x186 M186 h186 => ?_)
        obtain ⟨e186, f186⟩ := h186
        have f186' := f186.symm
        subst f186'
        subst e186
        try simp (disch := omega) only [rdI_e, rdI_n, rdC_i, rdC_o, rdW, rdR, rdU_e, rdU_n, rdLW, Int.add_zero]
        rw [e4]
        refine x_iload_n dX8_hostedSteps_189 rfl rfl ?_
        first | refine x_iaddN dX8_hostedSteps_190 (by unfold i32; omega) ?_ | refine x_iadd dX8_hostedSteps_190 ?_
        refine x_bipush dX8_hostedSteps_191 rfl ?_
        first | refine x_iremN dX8_hostedSteps_193 (by omega) (by omega) ?_ | refine x_irem dX8_hostedSteps_193 (by omega) ?_
        refine x_iast (by omega) dX8_hostedSteps_194 (by first | assumption | exact hT.2.1) (by omega) (by omega) ?_
        refine x_iload_n dX8_hostedSteps_195 rfl rfl ?_
        refine x_ireturn rfl dX8_hostedSteps_196 ?_
        first
        | (refine hQ _ _ ⟨_, rfl, e6, exI (M := M) rfl ⟨(mciIs (M := wI M g169) hw).trans e5, fun a' k' q1 q2 => ?_, ?_⟩⟩
           · rw [rdI_n (by omega)]
             exact (q169.te a' k' q2).trans (hf a' k' q1 q2)
           · unfold sk01 at hs ⊢
             rw [rdI_n (by omega)]
             exact hs)
        | (rw [if_neg h163] at e5
           refine hQ _ _ ⟨_, rfl, e6, exI (M := M) rfl ⟨(mciIs (M := wI M g') hw).trans e5, fun a' k' q1 q2 => ?_, ?_⟩⟩
           · rw [rdI_n (by omega)]
             exact hf a' k' q1 q2
           · unfold sk01 at hs ⊢
             rw [rdI_n (by omega)]
             exact hs)
    have hper0 : perC (guM v 1).2.2.2.2.2 := fun k => by
      show v _ = v _
      rw [show k % 8 % 8 = k % 8 by omega]
    have ge1 : v (30 + 9 * opAtV v 1 + 1) = opG v (opAtV v 1) := congrArg v (by omega)
    have ge2 : v (30 + 9 * opAtV v 1 + 2) = opP v (opAtV v 1) := congrArg v (by omega)
    have gP := hop.2.2.1
    have gG := hop.2.1
    by_cases ht : trapsV v (opAtV v 1) (v (guA 1 + 2))
    · have eH : hostH v = 0 := by
        unfold hostH
        rw [if_neg hh, if_pos (show opG v (opAtV v 1) = 1 ∧ v (guA 1 + 2) = 0 from ht)]
      refine x_aload_n dX8_hostedSteps_0 rfl rfl ?_
      refine x_iconst dX8_hostedSteps_1 rfl ?_
      refine g_callI (vs := [_, _]) (d' := d - 1) rfl (s_X8_isHalted (by omega) hT (by first | exact hw | exact mciI (by omega) hw | exact mciI (by omega) (mciI (by omega) hw) | exact mciI (by omega) (mciI (by omega) (mciI (by omega) hw)) | exact mciI (by omega) (mciI (by omega) (mciI (by omega) (mciI (by omega) hw))) | exact mciC (by omega) hw) (by omega)) dX8_hostedSteps_2 kX8_392 (by omega) (by decide) rfl (Nat.le_of_ble_eq_true rfl) (rcv_o (by first | assumption | exact hT.2.1) rfl) (fun x2 M2 h2 => ?_)
      obtain ⟨e2, f2⟩ := h2
      have f2' := f2.symm
      subst f2'
      subst e2
      try simp (disch := omega) only [rdI_e, rdI_n, rdC_i, rdC_o, rdW, rdR, rdU_e, rdU_n, rdLW, Int.add_zero, hw]
      refine x_if_eq (tgt := 10) dX8_hostedSteps_5 (by decide) (fun h5 => ?_) (fun h5 => ?_)
      · try simp only [vP_0, vP_1, vP_n0, vP_n1, Classical.not_not] at h5
        refine x_aload_n dX8_hostedSteps_10 rfl rfl ?_
        refine g_getR (kI := 1) rfl dX8_hostedSteps_11 fX8_13_8 (by first | assumption | exact hT.2.1) (by first | assumption | exact hT.2.1) ?_
        refine x_bipush dX8_hostedSteps_14 rfl ?_
        refine x_aload_n dX8_hostedSteps_16 rfl rfl ?_
        refine x_iconst dX8_hostedSteps_17 rfl ?_
        refine x_iconst dX8_hostedSteps_18 rfl ?_
        refine g_callI (vs := [_, _, _]) (d' := d - 1) rfl (s_X8_ofGuest (by omega) hT (by first | exact hw | exact mciI (by omega) hw | exact mciI (by omega) (mciI (by omega) hw) | exact mciI (by omega) (mciI (by omega) (mciI (by omega) hw)) | exact mciI (by omega) (mciI (by omega) (mciI (by omega) (mciI (by omega) hw))) | exact mciC (by omega) hw) (by omega) (by omega)) dX8_hostedSteps_19 kX8_384 (by omega) (by decide) rfl (Nat.le_of_ble_eq_true rfl) (rcv_o (by first | assumption | exact hT.2.1) rfl) (fun x19 M19 h19 => ?_)
        obtain ⟨e19, f19⟩ := h19
        have f19' := f19.symm
        subst f19'
        subst e19
        try simp (disch := omega) only [rdI_e, rdI_n, rdC_i, rdC_o, rdW, rdR, rdU_e, rdU_n, rdLW, Int.add_zero, hw]
        first | refine x_iaddN dX8_hostedSteps_22 (by unfold i32; omega) ?_ | refine x_iadd dX8_hostedSteps_22 ?_
        refine x_iald dX8_hostedSteps_23 (by first | assumption | exact hT.2.1) (by omega) (by omega) ?_
        try simp (disch := omega) only [rdI_e, rdI_n, rdC_i, rdC_o, rdW, rdR, rdU_e, rdU_n, rdLW, Int.add_zero, hw]
        show WP G d _ _ _ (dI (opAtV v 1) :: _) _ _
        refine x_istore_n (L' := [some _, some _, none, none]) dX8_hostedSteps_24 rfl (by decide) rfl ?_
        refine x_iconst dX8_hostedSteps_25 rfl ?_
        refine x_istore_n (L' := [some _, some _, some _, none]) dX8_hostedSteps_26 rfl (by decide) rfl ?_
        refine x_iconst dX8_hostedSteps_27 rfl ?_
        refine x_istore_n (L' := [some _, some _, some _, some _]) dX8_hostedSteps_28 rfl (by decide) rfl ?_
        refine x_aload_n dX8_hostedSteps_29 rfl rfl ?_
        refine x_iload_n dX8_hostedSteps_30 rfl rfl ?_
        refine x_aload_n dX8_hostedSteps_31 rfl rfl ?_
        refine x_iconst dX8_hostedSteps_32 rfl ?_
        refine x_iconst dX8_hostedSteps_33 rfl ?_
        refine g_callI (vs := [_, _, _]) (d' := d - 1) rfl (s_X8_ofGuest (by omega) hT (by first | exact hw | exact mciI (by omega) hw | exact mciI (by omega) (mciI (by omega) hw) | exact mciI (by omega) (mciI (by omega) (mciI (by omega) hw)) | exact mciI (by omega) (mciI (by omega) (mciI (by omega) (mciI (by omega) hw))) | exact mciC (by omega) hw) (by omega) (by omega)) dX8_hostedSteps_34 kX8_384 (by omega) (by decide) rfl (Nat.le_of_ble_eq_true rfl) (rcv_o (by first | assumption | exact hT.2.1) rfl) (fun x34 M34 h34 => ?_)
        obtain ⟨e34, f34⟩ := h34
        have f34' := f34.symm
        subst f34'
        subst e34
        try simp (disch := omega) only [rdI_e, rdI_n, rdC_i, rdC_o, rdW, rdR, rdU_e, rdU_n, rdLW, Int.add_zero, hw]
        refine g_callI (vs := [_, _, _]) (d' := d - 1) rfl (s_X8_trapsIn (by omega) hT (by first | exact hw | exact mciI (by omega) hw | exact mciI (by omega) (mciI (by omega) hw) | exact mciI (by omega) (mciI (by omega) (mciI (by omega) hw)) | exact mciI (by omega) (mciI (by omega) (mciI (by omega) (mciI (by omega) hw))) | exact mciC (by omega) hw) (by omega)) dX8_hostedSteps_37 kX8_318 (by omega) (by decide) rfl (Nat.le_of_ble_eq_true rfl) (rcv_o (by first | assumption | exact hT.2.1) rfl) (fun x37 M37 h37 => ?_)
        obtain ⟨e37, f37⟩ := h37
        have f37' := f37.symm
        subst f37'
        subst e37
        try simp (disch := omega) only [rdI_e, rdI_n, rdC_i, rdC_o, rdW, rdR, rdU_e, rdU_n, rdLW, Int.add_zero, hw]
        refine x_if_eq (tgt := 53) dX8_hostedSteps_40 (by decide) (fun h40 => ?_) (fun h40 => ?_)
        · try simp only [vP_0, vP_1, vP_n0, vP_n1, Classical.not_not] at h40
          exact absurd ht h40
        · try simp only [vP_0, vP_1, vP_n0, vP_n1, Classical.not_not] at h40
          refine x_aload_n dX8_hostedSteps_43 rfl rfl ?_
          refine x_iconst dX8_hostedSteps_44 rfl ?_
          refine g_callN (vs := [_, _]) (d' := d - 1) rfl (s_X8_isCaught (by omega) hT (by first | exact hw | exact mciI (by omega) hw | exact mciI (by omega) (mciI (by omega) hw) | exact mciI (by omega) (mciI (by omega) (mciI (by omega) hw)) | exact mciI (by omega) (mciI (by omega) (mciI (by omega) (mciI (by omega) hw))) | exact mciC (by omega) hw) (by omega)) dX8_hostedSteps_45 kX8_395 (by omega) (by decide) rfl (Nat.le_of_ble_eq_true rfl) (rcv_o (by first | assumption | exact hT.2.1) rfl) (fun M45 h45 => ?_)
          obtain ⟨g45, hM45, r45, q45⟩ := h45
          refine x_iconst dX8_hostedSteps_48 rfl ?_
          refine x_istore_n (L' := [some _, some _, some _, some _]) dX8_hostedSteps_49 rfl (by decide) rfl ?_
          refine x_goto (tgt := 157) dX8_hostedSteps_50 (by decide) ?_
          subst hM45
          refine tail 0 g45 _ (by omega) r45 (caughtV_o (by omega) (by omega)) (caughtV_eqB (Or.inr rfl)) q45.tf (q45.sk hsk) ?_ (by rw [eH]; rfl)
          rw [setG_caught, if_pos (by omega)]
          unfold hostV
          rw [if_neg hh, if_pos (show opG v (opAtV v 1) = 1 ∧ v (guA 1 + 2) = 0 from ht)]
      · try simp only [vP_0, vP_1, vP_n0, vP_n1, Classical.not_not] at h5
        exact absurd h5 hh
    · by_cases hE : opG v (opAtV v 1) = 1 ∨ opP v (opAtV v 1) = 1
      · have eH : hostH v = 1 := by
          unfold hostH
          rw [if_neg hh, if_neg (show ¬ (opG v (opAtV v 1) = 1 ∧ v (guA 1 + 2) = 0) from ht), if_pos hE]
        refine x_aload_n dX8_hostedSteps_0 rfl rfl ?_
        refine x_iconst dX8_hostedSteps_1 rfl ?_
        refine g_callI (vs := [_, _]) (d' := d - 1) rfl (s_X8_isHalted (by omega) hT (by first | exact hw | exact mciI (by omega) hw | exact mciI (by omega) (mciI (by omega) hw) | exact mciI (by omega) (mciI (by omega) (mciI (by omega) hw)) | exact mciI (by omega) (mciI (by omega) (mciI (by omega) (mciI (by omega) hw))) | exact mciC (by omega) hw) (by omega)) dX8_hostedSteps_2 kX8_392 (by omega) (by decide) rfl (Nat.le_of_ble_eq_true rfl) (rcv_o (by first | assumption | exact hT.2.1) rfl) (fun x2 M2 h2 => ?_)
        obtain ⟨e2, f2⟩ := h2
        have f2' := f2.symm
        subst f2'
        subst e2
        try simp (disch := omega) only [rdI_e, rdI_n, rdC_i, rdC_o, rdW, rdR, rdU_e, rdU_n, rdLW, Int.add_zero, hw]
        refine x_if_eq (tgt := 10) dX8_hostedSteps_5 (by decide) (fun h5 => ?_) (fun h5 => ?_)
        · try simp only [vP_0, vP_1, vP_n0, vP_n1, Classical.not_not] at h5
          refine x_aload_n dX8_hostedSteps_10 rfl rfl ?_
          refine g_getR (kI := 1) rfl dX8_hostedSteps_11 fX8_13_8 (by first | assumption | exact hT.2.1) (by first | assumption | exact hT.2.1) ?_
          refine x_bipush dX8_hostedSteps_14 rfl ?_
          refine x_aload_n dX8_hostedSteps_16 rfl rfl ?_
          refine x_iconst dX8_hostedSteps_17 rfl ?_
          refine x_iconst dX8_hostedSteps_18 rfl ?_
          refine g_callI (vs := [_, _, _]) (d' := d - 1) rfl (s_X8_ofGuest (by omega) hT (by first | exact hw | exact mciI (by omega) hw | exact mciI (by omega) (mciI (by omega) hw) | exact mciI (by omega) (mciI (by omega) (mciI (by omega) hw)) | exact mciI (by omega) (mciI (by omega) (mciI (by omega) (mciI (by omega) hw))) | exact mciC (by omega) hw) (by omega) (by omega)) dX8_hostedSteps_19 kX8_384 (by omega) (by decide) rfl (Nat.le_of_ble_eq_true rfl) (rcv_o (by first | assumption | exact hT.2.1) rfl) (fun x19 M19 h19 => ?_)
          obtain ⟨e19, f19⟩ := h19
          have f19' := f19.symm
          subst f19'
          subst e19
          try simp (disch := omega) only [rdI_e, rdI_n, rdC_i, rdC_o, rdW, rdR, rdU_e, rdU_n, rdLW, Int.add_zero, hw]
          first | refine x_iaddN dX8_hostedSteps_22 (by unfold i32; omega) ?_ | refine x_iadd dX8_hostedSteps_22 ?_
          refine x_iald dX8_hostedSteps_23 (by first | assumption | exact hT.2.1) (by omega) (by omega) ?_
          try simp (disch := omega) only [rdI_e, rdI_n, rdC_i, rdC_o, rdW, rdR, rdU_e, rdU_n, rdLW, Int.add_zero, hw]
          show WP G d _ _ _ (dI (opAtV v 1) :: _) _ _
          refine x_istore_n (L' := [some _, some _, none, none]) dX8_hostedSteps_24 rfl (by decide) rfl ?_
          refine x_iconst dX8_hostedSteps_25 rfl ?_
          refine x_istore_n (L' := [some _, some _, some _, none]) dX8_hostedSteps_26 rfl (by decide) rfl ?_
          refine x_iconst dX8_hostedSteps_27 rfl ?_
          refine x_istore_n (L' := [some _, some _, some _, some _]) dX8_hostedSteps_28 rfl (by decide) rfl ?_
          refine x_aload_n dX8_hostedSteps_29 rfl rfl ?_
          refine x_iload_n dX8_hostedSteps_30 rfl rfl ?_
          refine x_aload_n dX8_hostedSteps_31 rfl rfl ?_
          refine x_iconst dX8_hostedSteps_32 rfl ?_
          refine x_iconst dX8_hostedSteps_33 rfl ?_
          refine g_callI (vs := [_, _, _]) (d' := d - 1) rfl (s_X8_ofGuest (by omega) hT (by first | exact hw | exact mciI (by omega) hw | exact mciI (by omega) (mciI (by omega) hw) | exact mciI (by omega) (mciI (by omega) (mciI (by omega) hw)) | exact mciI (by omega) (mciI (by omega) (mciI (by omega) (mciI (by omega) hw))) | exact mciC (by omega) hw) (by omega) (by omega)) dX8_hostedSteps_34 kX8_384 (by omega) (by decide) rfl (Nat.le_of_ble_eq_true rfl) (rcv_o (by first | assumption | exact hT.2.1) rfl) (fun x34 M34 h34 => ?_)
          obtain ⟨e34, f34⟩ := h34
          have f34' := f34.symm
          subst f34'
          subst e34
          try simp (disch := omega) only [rdI_e, rdI_n, rdC_i, rdC_o, rdW, rdR, rdU_e, rdU_n, rdLW, Int.add_zero, hw]
          refine g_callI (vs := [_, _, _]) (d' := d - 1) rfl (s_X8_trapsIn (by omega) hT (by first | exact hw | exact mciI (by omega) hw | exact mciI (by omega) (mciI (by omega) hw) | exact mciI (by omega) (mciI (by omega) (mciI (by omega) hw)) | exact mciI (by omega) (mciI (by omega) (mciI (by omega) (mciI (by omega) hw))) | exact mciC (by omega) hw) (by omega)) dX8_hostedSteps_37 kX8_318 (by omega) (by decide) rfl (Nat.le_of_ble_eq_true rfl) (rcv_o (by first | assumption | exact hT.2.1) rfl) (fun x37 M37 h37 => ?_)
          obtain ⟨e37, f37⟩ := h37
          have f37' := f37.symm
          subst f37'
          subst e37
          try simp (disch := omega) only [rdI_e, rdI_n, rdC_i, rdC_o, rdW, rdR, rdU_e, rdU_n, rdLW, Int.add_zero, hw]
          refine x_if_eq (tgt := 53) dX8_hostedSteps_40 (by decide) (fun h40 => ?_) (fun h40 => ?_)
          · try simp only [vP_0, vP_1, vP_n0, vP_n1, Classical.not_not] at h40
            refine x_aload_n dX8_hostedSteps_53 rfl rfl ?_
            refine x_iload_n dX8_hostedSteps_54 rfl rfl ?_
            refine x_iconst dX8_hostedSteps_55 rfl ?_
            refine g_callI (vs := [_, _, _]) (d' := d - 1) rfl (s_X8_of (by omega) hT hw (by omega) (by omega)) dX8_hostedSteps_56 kX8_78 (by omega) (by decide) rfl (Nat.le_of_ble_eq_true rfl) (rcv_o (by first | assumption | exact hT.2.1) rfl) (fun x56 M56 h56 => ?_)
            obtain ⟨e56, f56⟩ := h56
            have f56' := f56.symm
            subst f56'
            rw [ge1] at e56
            subst e56
            refine x_iconst dX8_hostedSteps_59 rfl ?_
            refine x_icmp_eq (tgt := 73) dX8_hostedSteps_60 (by decide) (fun h60 => ?_) (fun h60 => ?_)
            · refine x_aload_n dX8_hostedSteps_73 rfl rfl ?_
              refine x_iconst dX8_hostedSteps_74 rfl ?_
              refine x_aload_n dX8_hostedSteps_75 rfl rfl ?_
              refine x_iconst dX8_hostedSteps_76 rfl ?_
              refine x_iconst dX8_hostedSteps_77 rfl ?_
              refine g_callI (vs := [_, _, _]) (d' := d - 1) rfl (s_X8_ofGuest (by omega) hT (by first | exact hw | exact mciI (by omega) hw | exact mciI (by omega) (mciI (by omega) hw) | exact mciI (by omega) (mciI (by omega) (mciI (by omega) hw)) | exact mciI (by omega) (mciI (by omega) (mciI (by omega) (mciI (by omega) hw))) | exact mciC (by omega) hw) (by omega) (by omega)) dX8_hostedSteps_78 kX8_384 (by omega) (by decide) rfl (Nat.le_of_ble_eq_true rfl) (rcv_o (by first | assumption | exact hT.2.1) rfl) (fun x78 M78 h78 => ?_)
              obtain ⟨e78, f78⟩ := h78
              have f78' := f78.symm
              subst f78'
              subst e78
              try simp (disch := omega) only [rdI_e, rdI_n, rdC_i, rdC_o, rdW, rdR, rdU_e, rdU_n, rdLW, Int.add_zero, hw]
              refine x_iconst dX8_hostedSteps_81 rfl ?_
              refine g_callN (vs := [_, _, _, _]) (d' := d - 1) rfl (s_X8_comes (by omega) hT hw (Or.inr rfl) hg (by omega)) dX8_hostedSteps_82 kX8_398 (by omega) (by decide) rfl (Nat.le_of_ble_eq_true rfl) (rcv_o (by first | assumption | exact hT.2.1) rfl) (fun M82 h82 => ?_)
              obtain ⟨g82, hM82, r82, q82⟩ := h82
              subst hM82
              have r1 : mvT g82 m = skM (guM v 1) (mci M m 23) := by
                rw [r82, trM_0 hg]
                rfl
              have hok : okM (mvT g82 m) := by rw [r1]; exact skM_ok hg.2 hsk
              have hw1 : g82 (m + 1) = v := TA.w q82 hw
              refine x_aload_n dX8_hostedSteps_85 rfl rfl ?_
              refine x_iload_n dX8_hostedSteps_86 rfl rfl ?_
              refine g_callN (vs := [_, _]) (d' := d - 1) rfl (s_X8_does (M := wI M g82) (by omega) hT hw1 hok hop (by omega)) dX8_hostedSteps_87 kX8_325 (by omega) (by decide) rfl (Nat.le_of_ble_eq_true rfl) (rcv_o (by first | assumption | exact hT.2.1) rfl) (fun M87 h87 => ?_)
              obtain ⟨g87, hM87, r87, q87⟩ := h87
              subst hM87
              have r2 : mvT g87 m = opD v (opAtV v 1) (guM v 1) := r87.trans (by rw [mci_wI, r1]; rfl)
              have ho2 : okM (opD v (opAtV v 1) (guM v 1)) := opD_ok hop hg.2
              have hw2 : g87 (m + 1) = v := TA.w q87 hw1
              have e20 : g87 m 20 = (opD v (opAtV v 1) (guM v 1)).2.1 := congrArg (fun y : Ms => y.2.1) r2
              refine x_aload_n dX8_hostedSteps_90 rfl rfl ?_
              refine g_getR (kI := 1) rfl dX8_hostedSteps_91 fX8_13_8 (by first | assumption | exact hT.2.1) (by first | assumption | exact hT.2.1) ?_
              refine x_iconst dX8_hostedSteps_94 rfl ?_
              refine x_iconst dX8_hostedSteps_95 rfl ?_
              refine g_callI (vs := [_, _]) (d' := d - 1) rfl (s_X8_guestAt (by omega) (by omega) (by omega)) dX8_hostedSteps_96 kX8_81 (by omega) (by decide) rfl (Nat.le_of_ble_eq_true rfl) (rcv_n) (fun x96 M96 h96 => ?_)
              obtain ⟨e96, f96⟩ := h96
              have f96' := f96.symm
              subst f96'
              subst e96
              try simp (disch := omega) only [rdI_e, rdI_n, rdC_i, rdC_o, rdW, rdR, rdU_e, rdU_n, rdLW, Int.add_zero, hw]
              refine x_aload_n dX8_hostedSteps_99 rfl rfl ?_
              refine g_getI (kI := 20) rfl dX8_hostedSteps_100 fX8_289_8 (by first | assumption | exact hT.2.1) ?_
              try simp (disch := omega) only [rdI_e, rdI_n, rdC_i, rdC_o, rdW, rdR, rdU_e, rdU_n, rdLW, Int.add_zero, hw]
              rw [e20]
              refine x_iast (by omega) dX8_hostedSteps_103 (by first | assumption | exact hT.2.1) (by omega) (by omega) ?_
              refine x_nm (M := M) (fun g => g (m + 1) = us v (guA 1 + 2) (opD v (opAtV v 1) (guM v 1)).2.1 ∧ mvT g m = opD v (opAtV v 1) (guM v 1) ∧ TF m (mci M) g) ⟨up g87 (m + 1) (102 + 13 * 1 + 2) (opD v (opAtV v 1) (guM v 1)).2.1, rfl, mciIs (M := wI M g87) hw2, ?_, fun a' k' q1 q2 => ?_⟩ ?_
              · rw [← r2]
                unfold mvT
                simp (disch := omega) only [rdI_e, rdI_n, rdC_i, rdC_o, rdW, rdR, rdU_e, rdU_n]
              · rw [rdU_n (by omega)]
                exact (TE.trans q82.te q87.te) a' k' q2
              rintro g3 ⟨w3, r3, q3⟩
              refine x_aload_n dX8_hostedSteps_104 rfl rfl ?_
              refine x_iconst dX8_hostedSteps_105 rfl ?_
              refine x_iconst dX8_hostedSteps_106 rfl ?_
              refine g_callN (vs := [_, _, _]) (d' := d - 1) rfl (s_X8_goes (M := wI M g3) (by omega) hT w3 r3 ho2 (opD_perC hper0) (Or.inr rfl) (by rw [us_n (by omega)]; exact hpc) (by omega)) dX8_hostedSteps_107 kX8_402 (by omega) (by decide) rfl (Nat.le_of_ble_eq_true rfl) (rcv_o (by first | assumption | exact hT.2.1) rfl) (fun M107 h107 => ?_)
              obtain ⟨g107, hM107, r107, q107⟩ := h107
              refine x_iconst dX8_hostedSteps_110 rfl ?_
              refine x_istore_n (L' := [some _, some _, some _, some _]) dX8_hostedSteps_111 rfl (by decide) rfl ?_
              refine x_goto (tgt := 157) dX8_hostedSteps_112 (by decide) ?_
              subst hM107
              refine WP.mem (M1 := wI M g107) rfl (tail 1 g107 _ (by omega) r107 ?_ (fun k' hk' => ?_) (TF.trans q3 q107.tf) ?_ ?_ (by rw [eH]; rfl))
              · unfold goV blkN
                rw [us_n (by omega), if_neg (by omega), us_n (by omega), us_n (by omega), us_n (by omega)]
              · unfold goV blkN guA
                rw [us_n (by omega), if_neg (by omega), us_n (by omega), us_n (by omega), us_n (by omega)]
              · have e : g107 m 23 = (opD v (opAtV v 1) (guM v 1)).2.2.2.2.1 := (q107 _ _ (by omega)).trans (congrArg (fun y : Ms => y.2.2.2.2.1) r3)
                unfold sk01
                rw [e]
                exact ho2.2.2.2.2.1
              · unfold goV
                rw [setG_us (x := opD v (opAtV v 1) (guM v 1)) (v := v) (fun k q => us_n (by omega)) (us_e rfl) rfl (by have := ho2.2.2.1; omega) (fun k _ _ => by show _ = _; rw [Int.add_zero]), us_n (by omega), if_pos (by omega)]
                unfold hostV
                rw [if_neg hh, if_neg (show ¬ (opG v (opAtV v 1) = 1 ∧ v (guA 1 + 2) = 0) from ht), if_pos hE]
            · refine x_aload_n dX8_hostedSteps_63 rfl rfl ?_
              refine x_iload_n dX8_hostedSteps_64 rfl rfl ?_
              refine x_iconst dX8_hostedSteps_65 rfl ?_
              refine g_callI (vs := [_, _, _]) (d' := d - 1) rfl (s_X8_of (by omega) hT hw (by omega) (by omega)) dX8_hostedSteps_66 kX8_78 (by omega) (by decide) rfl (Nat.le_of_ble_eq_true rfl) (rcv_o (by first | assumption | exact hT.2.1) rfl) (fun x66 M66 h66 => ?_)
              obtain ⟨e66, f66⟩ := h66
              have f66' := f66.symm
              subst f66'
              rw [ge2] at e66
              subst e66
              refine x_iconst dX8_hostedSteps_69 rfl ?_
              refine x_icmp_ne (tgt := 115) dX8_hostedSteps_70 (by decide) (fun h70 => ?_) (fun h70 => ?_)
              · omega
              · refine x_aload_n dX8_hostedSteps_73 rfl rfl ?_
                refine x_iconst dX8_hostedSteps_74 rfl ?_
                refine x_aload_n dX8_hostedSteps_75 rfl rfl ?_
                refine x_iconst dX8_hostedSteps_76 rfl ?_
                refine x_iconst dX8_hostedSteps_77 rfl ?_
                refine g_callI (vs := [_, _, _]) (d' := d - 1) rfl (s_X8_ofGuest (by omega) hT (by first | exact hw | exact mciI (by omega) hw | exact mciI (by omega) (mciI (by omega) hw) | exact mciI (by omega) (mciI (by omega) (mciI (by omega) hw)) | exact mciI (by omega) (mciI (by omega) (mciI (by omega) (mciI (by omega) hw))) | exact mciC (by omega) hw) (by omega) (by omega)) dX8_hostedSteps_78 kX8_384 (by omega) (by decide) rfl (Nat.le_of_ble_eq_true rfl) (rcv_o (by first | assumption | exact hT.2.1) rfl) (fun x78 M78 h78 => ?_)
                obtain ⟨e78, f78⟩ := h78
                have f78' := f78.symm
                subst f78'
                subst e78
                try simp (disch := omega) only [rdI_e, rdI_n, rdC_i, rdC_o, rdW, rdR, rdU_e, rdU_n, rdLW, Int.add_zero, hw]
                refine x_iconst dX8_hostedSteps_81 rfl ?_
                refine g_callN (vs := [_, _, _, _]) (d' := d - 1) rfl (s_X8_comes (by omega) hT hw (Or.inr rfl) hg (by omega)) dX8_hostedSteps_82 kX8_398 (by omega) (by decide) rfl (Nat.le_of_ble_eq_true rfl) (rcv_o (by first | assumption | exact hT.2.1) rfl) (fun M82 h82 => ?_)
                obtain ⟨g82, hM82, r82, q82⟩ := h82
                subst hM82
                have r1 : mvT g82 m = skM (guM v 1) (mci M m 23) := by
                  rw [r82, trM_0 hg]
                  rfl
                have hok : okM (mvT g82 m) := by rw [r1]; exact skM_ok hg.2 hsk
                have hw1 : g82 (m + 1) = v := TA.w q82 hw
                refine x_aload_n dX8_hostedSteps_85 rfl rfl ?_
                refine x_iload_n dX8_hostedSteps_86 rfl rfl ?_
                refine g_callN (vs := [_, _]) (d' := d - 1) rfl (s_X8_does (M := wI M g82) (by omega) hT hw1 hok hop (by omega)) dX8_hostedSteps_87 kX8_325 (by omega) (by decide) rfl (Nat.le_of_ble_eq_true rfl) (rcv_o (by first | assumption | exact hT.2.1) rfl) (fun M87 h87 => ?_)
                obtain ⟨g87, hM87, r87, q87⟩ := h87
                subst hM87
                have r2 : mvT g87 m = opD v (opAtV v 1) (guM v 1) := r87.trans (by rw [mci_wI, r1]; rfl)
                have ho2 : okM (opD v (opAtV v 1) (guM v 1)) := opD_ok hop hg.2
                have hw2 : g87 (m + 1) = v := TA.w q87 hw1
                have e20 : g87 m 20 = (opD v (opAtV v 1) (guM v 1)).2.1 := congrArg (fun y : Ms => y.2.1) r2
                refine x_aload_n dX8_hostedSteps_90 rfl rfl ?_
                refine g_getR (kI := 1) rfl dX8_hostedSteps_91 fX8_13_8 (by first | assumption | exact hT.2.1) (by first | assumption | exact hT.2.1) ?_
                refine x_iconst dX8_hostedSteps_94 rfl ?_
                refine x_iconst dX8_hostedSteps_95 rfl ?_
                refine g_callI (vs := [_, _]) (d' := d - 1) rfl (s_X8_guestAt (by omega) (by omega) (by omega)) dX8_hostedSteps_96 kX8_81 (by omega) (by decide) rfl (Nat.le_of_ble_eq_true rfl) (rcv_n) (fun x96 M96 h96 => ?_)
                obtain ⟨e96, f96⟩ := h96
                have f96' := f96.symm
                subst f96'
                subst e96
                try simp (disch := omega) only [rdI_e, rdI_n, rdC_i, rdC_o, rdW, rdR, rdU_e, rdU_n, rdLW, Int.add_zero, hw]
                refine x_aload_n dX8_hostedSteps_99 rfl rfl ?_
                refine g_getI (kI := 20) rfl dX8_hostedSteps_100 fX8_289_8 (by first | assumption | exact hT.2.1) ?_
                try simp (disch := omega) only [rdI_e, rdI_n, rdC_i, rdC_o, rdW, rdR, rdU_e, rdU_n, rdLW, Int.add_zero, hw]
                rw [e20]
                refine x_iast (by omega) dX8_hostedSteps_103 (by first | assumption | exact hT.2.1) (by omega) (by omega) ?_
                refine x_nm (M := M) (fun g => g (m + 1) = us v (guA 1 + 2) (opD v (opAtV v 1) (guM v 1)).2.1 ∧ mvT g m = opD v (opAtV v 1) (guM v 1) ∧ TF m (mci M) g) ⟨up g87 (m + 1) (102 + 13 * 1 + 2) (opD v (opAtV v 1) (guM v 1)).2.1, rfl, mciIs (M := wI M g87) hw2, ?_, fun a' k' q1 q2 => ?_⟩ ?_
                · rw [← r2]
                  unfold mvT
                  simp (disch := omega) only [rdI_e, rdI_n, rdC_i, rdC_o, rdW, rdR, rdU_e, rdU_n]
                · rw [rdU_n (by omega)]
                  exact (TE.trans q82.te q87.te) a' k' q2
                rintro g3 ⟨w3, r3, q3⟩
                refine x_aload_n dX8_hostedSteps_104 rfl rfl ?_
                refine x_iconst dX8_hostedSteps_105 rfl ?_
                refine x_iconst dX8_hostedSteps_106 rfl ?_
                refine g_callN (vs := [_, _, _]) (d' := d - 1) rfl (s_X8_goes (M := wI M g3) (by omega) hT w3 r3 ho2 (opD_perC hper0) (Or.inr rfl) (by rw [us_n (by omega)]; exact hpc) (by omega)) dX8_hostedSteps_107 kX8_402 (by omega) (by decide) rfl (Nat.le_of_ble_eq_true rfl) (rcv_o (by first | assumption | exact hT.2.1) rfl) (fun M107 h107 => ?_)
                obtain ⟨g107, hM107, r107, q107⟩ := h107
                refine x_iconst dX8_hostedSteps_110 rfl ?_
                refine x_istore_n (L' := [some _, some _, some _, some _]) dX8_hostedSteps_111 rfl (by decide) rfl ?_
                refine x_goto (tgt := 157) dX8_hostedSteps_112 (by decide) ?_
                subst hM107
                refine WP.mem (M1 := wI M g107) rfl (tail 1 g107 _ (by omega) r107 ?_ (fun k' hk' => ?_) (TF.trans q3 q107.tf) ?_ ?_ (by rw [eH]; rfl))
                · unfold goV blkN
                  rw [us_n (by omega), if_neg (by omega), us_n (by omega), us_n (by omega), us_n (by omega)]
                · unfold goV blkN guA
                  rw [us_n (by omega), if_neg (by omega), us_n (by omega), us_n (by omega), us_n (by omega)]
                · have e : g107 m 23 = (opD v (opAtV v 1) (guM v 1)).2.2.2.2.1 := (q107 _ _ (by omega)).trans (congrArg (fun y : Ms => y.2.2.2.2.1) r3)
                  unfold sk01
                  rw [e]
                  exact ho2.2.2.2.2.1
                · unfold goV
                  rw [setG_us (x := opD v (opAtV v 1) (guM v 1)) (v := v) (fun k q => us_n (by omega)) (us_e rfl) rfl (by have := ho2.2.2.1; omega) (fun k _ _ => by show _ = _; rw [Int.add_zero]), us_n (by omega), if_pos (by omega)]
                  unfold hostV
                  rw [if_neg hh, if_neg (show ¬ (opG v (opAtV v 1) = 1 ∧ v (guA 1 + 2) = 0) from ht), if_pos hE]
          · try simp only [vP_0, vP_1, vP_n0, vP_n1, Classical.not_not] at h40
            exact absurd h40 ht
        · try simp only [vP_0, vP_1, vP_n0, vP_n1, Classical.not_not] at h5
          exact absurd h5 hh
      · have hpt : perC (trM (mdM (guM v 1) 0) (v 5)).2.2.2.2.2 := fun k => by
          show v (guA 1 + 5 + (k % 8 - v 5) % 8) = v (guA 1 + 5 + (k - v 5) % 8)
          rw [show (k % 8 - v 5) % 8 = (k - v 5) % 8 by omega]
        have ho2 : okM (letM v (opAtV v 1) (v 5) (guM v 1)) := opD_ok hop (trM_ok (mdM_ok (Or.inl rfl) hg.2))
        have hpl : perC (letM v (opAtV v 1) (v 5) (guM v 1)).2.2.2.2.2 := opD_perC hpt
        refine x_aload_n dX8_hostedSteps_0 rfl rfl ?_
        refine x_iconst dX8_hostedSteps_1 rfl ?_
        refine g_callI (vs := [_, _]) (d' := d - 1) rfl (s_X8_isHalted (by omega) hT (by first | exact hw | exact mciI (by omega) hw | exact mciI (by omega) (mciI (by omega) hw) | exact mciI (by omega) (mciI (by omega) (mciI (by omega) hw)) | exact mciI (by omega) (mciI (by omega) (mciI (by omega) (mciI (by omega) hw))) | exact mciC (by omega) hw) (by omega)) dX8_hostedSteps_2 kX8_392 (by omega) (by decide) rfl (Nat.le_of_ble_eq_true rfl) (rcv_o (by first | assumption | exact hT.2.1) rfl) (fun x2 M2 h2 => ?_)
        obtain ⟨e2, f2⟩ := h2
        have f2' := f2.symm
        subst f2'
        subst e2
        try simp (disch := omega) only [rdI_e, rdI_n, rdC_i, rdC_o, rdW, rdR, rdU_e, rdU_n, rdLW, Int.add_zero, hw]
        refine x_if_eq (tgt := 10) dX8_hostedSteps_5 (by decide) (fun h5 => ?_) (fun h5 => ?_)
        · try simp only [vP_0, vP_1, vP_n0, vP_n1, Classical.not_not] at h5
          refine x_aload_n dX8_hostedSteps_10 rfl rfl ?_
          refine g_getR (kI := 1) rfl dX8_hostedSteps_11 fX8_13_8 (by first | assumption | exact hT.2.1) (by first | assumption | exact hT.2.1) ?_
          refine x_bipush dX8_hostedSteps_14 rfl ?_
          refine x_aload_n dX8_hostedSteps_16 rfl rfl ?_
          refine x_iconst dX8_hostedSteps_17 rfl ?_
          refine x_iconst dX8_hostedSteps_18 rfl ?_
          refine g_callI (vs := [_, _, _]) (d' := d - 1) rfl (s_X8_ofGuest (by omega) hT (by first | exact hw | exact mciI (by omega) hw | exact mciI (by omega) (mciI (by omega) hw) | exact mciI (by omega) (mciI (by omega) (mciI (by omega) hw)) | exact mciI (by omega) (mciI (by omega) (mciI (by omega) (mciI (by omega) hw))) | exact mciC (by omega) hw) (by omega) (by omega)) dX8_hostedSteps_19 kX8_384 (by omega) (by decide) rfl (Nat.le_of_ble_eq_true rfl) (rcv_o (by first | assumption | exact hT.2.1) rfl) (fun x19 M19 h19 => ?_)
          obtain ⟨e19, f19⟩ := h19
          have f19' := f19.symm
          subst f19'
          subst e19
          try simp (disch := omega) only [rdI_e, rdI_n, rdC_i, rdC_o, rdW, rdR, rdU_e, rdU_n, rdLW, Int.add_zero, hw]
          first | refine x_iaddN dX8_hostedSteps_22 (by unfold i32; omega) ?_ | refine x_iadd dX8_hostedSteps_22 ?_
          refine x_iald dX8_hostedSteps_23 (by first | assumption | exact hT.2.1) (by omega) (by omega) ?_
          try simp (disch := omega) only [rdI_e, rdI_n, rdC_i, rdC_o, rdW, rdR, rdU_e, rdU_n, rdLW, Int.add_zero, hw]
          show WP G d _ _ _ (dI (opAtV v 1) :: _) _ _
          refine x_istore_n (L' := [some _, some _, none, none]) dX8_hostedSteps_24 rfl (by decide) rfl ?_
          refine x_iconst dX8_hostedSteps_25 rfl ?_
          refine x_istore_n (L' := [some _, some _, some _, none]) dX8_hostedSteps_26 rfl (by decide) rfl ?_
          refine x_iconst dX8_hostedSteps_27 rfl ?_
          refine x_istore_n (L' := [some _, some _, some _, some _]) dX8_hostedSteps_28 rfl (by decide) rfl ?_
          refine x_aload_n dX8_hostedSteps_29 rfl rfl ?_
          refine x_iload_n dX8_hostedSteps_30 rfl rfl ?_
          refine x_aload_n dX8_hostedSteps_31 rfl rfl ?_
          refine x_iconst dX8_hostedSteps_32 rfl ?_
          refine x_iconst dX8_hostedSteps_33 rfl ?_
          refine g_callI (vs := [_, _, _]) (d' := d - 1) rfl (s_X8_ofGuest (by omega) hT (by first | exact hw | exact mciI (by omega) hw | exact mciI (by omega) (mciI (by omega) hw) | exact mciI (by omega) (mciI (by omega) (mciI (by omega) hw)) | exact mciI (by omega) (mciI (by omega) (mciI (by omega) (mciI (by omega) hw))) | exact mciC (by omega) hw) (by omega) (by omega)) dX8_hostedSteps_34 kX8_384 (by omega) (by decide) rfl (Nat.le_of_ble_eq_true rfl) (rcv_o (by first | assumption | exact hT.2.1) rfl) (fun x34 M34 h34 => ?_)
          obtain ⟨e34, f34⟩ := h34
          have f34' := f34.symm
          subst f34'
          subst e34
          try simp (disch := omega) only [rdI_e, rdI_n, rdC_i, rdC_o, rdW, rdR, rdU_e, rdU_n, rdLW, Int.add_zero, hw]
          refine g_callI (vs := [_, _, _]) (d' := d - 1) rfl (s_X8_trapsIn (by omega) hT (by first | exact hw | exact mciI (by omega) hw | exact mciI (by omega) (mciI (by omega) hw) | exact mciI (by omega) (mciI (by omega) (mciI (by omega) hw)) | exact mciI (by omega) (mciI (by omega) (mciI (by omega) (mciI (by omega) hw))) | exact mciC (by omega) hw) (by omega)) dX8_hostedSteps_37 kX8_318 (by omega) (by decide) rfl (Nat.le_of_ble_eq_true rfl) (rcv_o (by first | assumption | exact hT.2.1) rfl) (fun x37 M37 h37 => ?_)
          obtain ⟨e37, f37⟩ := h37
          have f37' := f37.symm
          subst f37'
          subst e37
          try simp (disch := omega) only [rdI_e, rdI_n, rdC_i, rdC_o, rdW, rdR, rdU_e, rdU_n, rdLW, Int.add_zero, hw]
          refine x_if_eq (tgt := 53) dX8_hostedSteps_40 (by decide) (fun h40 => ?_) (fun h40 => ?_)
          · try simp only [vP_0, vP_1, vP_n0, vP_n1, Classical.not_not] at h40
            refine x_aload_n dX8_hostedSteps_53 rfl rfl ?_
            refine x_iload_n dX8_hostedSteps_54 rfl rfl ?_
            refine x_iconst dX8_hostedSteps_55 rfl ?_
            refine g_callI (vs := [_, _, _]) (d' := d - 1) rfl (s_X8_of (by omega) hT hw (by omega) (by omega)) dX8_hostedSteps_56 kX8_78 (by omega) (by decide) rfl (Nat.le_of_ble_eq_true rfl) (rcv_o (by first | assumption | exact hT.2.1) rfl) (fun x56 M56 h56 => ?_)
            obtain ⟨e56, f56⟩ := h56
            have f56' := f56.symm
            subst f56'
            rw [ge1] at e56
            subst e56
            refine x_iconst dX8_hostedSteps_59 rfl ?_
            refine x_icmp_eq (tgt := 73) dX8_hostedSteps_60 (by decide) (fun h60 => ?_) (fun h60 => ?_)
            · omega
            · refine x_aload_n dX8_hostedSteps_63 rfl rfl ?_
              refine x_iload_n dX8_hostedSteps_64 rfl rfl ?_
              refine x_iconst dX8_hostedSteps_65 rfl ?_
              refine g_callI (vs := [_, _, _]) (d' := d - 1) rfl (s_X8_of (by omega) hT hw (by omega) (by omega)) dX8_hostedSteps_66 kX8_78 (by omega) (by decide) rfl (Nat.le_of_ble_eq_true rfl) (rcv_o (by first | assumption | exact hT.2.1) rfl) (fun x66 M66 h66 => ?_)
              obtain ⟨e66, f66⟩ := h66
              have f66' := f66.symm
              subst f66'
              rw [ge2] at e66
              subst e66
              refine x_iconst dX8_hostedSteps_69 rfl ?_
              refine x_icmp_ne (tgt := 115) dX8_hostedSteps_70 (by decide) (fun h70 => ?_) (fun h70 => ?_)
              · refine x_aload_n dX8_hostedSteps_115 rfl rfl ?_
                refine x_iconst dX8_hostedSteps_116 rfl ?_
                refine x_iconst dX8_hostedSteps_117 rfl ?_
                refine x_aload_n dX8_hostedSteps_118 rfl rfl ?_
                refine g_getR (kI := 1) rfl dX8_hostedSteps_119 fX8_13_8 (by first | assumption | exact hT.2.1) (by first | assumption | exact hT.2.1) ?_
                refine x_iconst dX8_hostedSteps_122 rfl ?_
                refine x_iald dX8_hostedSteps_123 (by first | assumption | exact hT.2.1) (by omega) (by omega) ?_
                try simp (disch := omega) only [rdI_e, rdI_n, rdC_i, rdC_o, rdW, rdR, rdU_e, rdU_n, rdLW, Int.add_zero, hw]
                refine g_callN (vs := [_, _, _, _]) (d' := d - 1) rfl (s_X8_comes (by omega) hT hw (Or.inr rfl) hg (by omega)) dX8_hostedSteps_124 kX8_398 (by omega) (by decide) rfl (Nat.le_of_ble_eq_true rfl) (rcv_o (by first | assumption | exact hT.2.1) rfl) (fun M124 h124 => ?_)
                obtain ⟨g124, hM124, r124, q124⟩ := h124
                subst hM124
                have hok : okM (mvT g124 m) := by rw [r124]; exact skM_ok (trM_ok (mdM_ok (Or.inl rfl) hg.2)) hsk
                have hw1 : g124 (m + 1) = v := TA.w q124 hw
                refine x_aload_n dX8_hostedSteps_127 rfl rfl ?_
                refine x_iload_n dX8_hostedSteps_128 rfl rfl ?_
                refine g_callN (vs := [_, _]) (d' := d - 1) rfl (s_X8_does (M := wI M g124) (by omega) hT hw1 hok hop (by omega)) dX8_hostedSteps_129 kX8_325 (by omega) (by decide) rfl (Nat.le_of_ble_eq_true rfl) (rcv_o (by first | assumption | exact hT.2.1) rfl) (fun M129 h129 => ?_)
                obtain ⟨g129, hM129, r129, q129⟩ := h129
                subst hM129
                have r2 : mvT g129 m = letM v (opAtV v 1) (v 5) (guM v 1) := r129.trans (by rw [mci_wI, r124]; rfl)
                have hw2 : g129 (m + 1) = v := TA.w q129 hw1
                refine x_aload_n dX8_hostedSteps_132 rfl rfl ?_
                refine x_iconst dX8_hostedSteps_133 rfl ?_
                refine x_aload_n dX8_hostedSteps_134 rfl rfl ?_
                refine g_getR (kI := 1) rfl dX8_hostedSteps_135 fX8_13_8 (by first | assumption | exact hT.2.1) (by first | assumption | exact hT.2.1) ?_
                refine x_iconst dX8_hostedSteps_138 rfl ?_
                refine x_iald dX8_hostedSteps_139 (by first | assumption | exact hT.2.1) (by omega) (by omega) ?_
                try simp (disch := omega) only [rdI_e, rdI_n, rdC_i, rdC_o, rdW, rdR, rdU_e, rdU_n, rdLW, Int.add_zero, hw]
                rw [show g129 (m + 1) 5 = v 5 from congrFun hw2 5]
                refine g_callN (vs := [_, _, _]) (d' := d - 1) rfl (s_X8_goes (M := wI M g129) (by omega) hT hw2 r2 ho2 hpl (Or.inr rfl) hpc (by omega)) dX8_hostedSteps_140 kX8_402 (by omega) (by decide) rfl (Nat.le_of_ble_eq_true rfl) (rcv_o (by first | assumption | exact hT.2.1) rfl) (fun M140 h140 => ?_)
                obtain ⟨g140, hM140, r140, q140⟩ := h140
                subst hM140
                have e20 : g140 m 20 = (letM v (opAtV v 1) (v 5) (guM v 1)).2.1 := (q140 _ _ (by omega)).trans (congrArg (fun y : Ms => y.2.1) r2)
                have fin : ∀ how : Int, (how = -1 ∨ how = 0 ∨ how = 1 ∨ how = 2) → ¬ (0 ≤ how ∧ how ≤ 1) → how = (if hostH v ≤ 2 then hostH v else -1) → WP G d mX8_hostedSteps 157 [some (dR m), some (dI (opAtV v 1)), some (dI how), some (dI 1)] [] (wI M g140) Q := fun how f1 f2 f3 => by
                  refine tail how g140 _ f1 r140 ?_ (fun k' hk' => ?_) (TF.trans (TE.trans q124.te q129.te).tf q140.tf) ?_ ?_ f3
                  · unfold goV blkN
                    rw [us_n (by omega), if_neg (by omega), us_n (by omega), us_n (by omega)]
                  · unfold goV blkN guA
                    rw [us_n (by omega), if_neg (by omega), us_n (by omega), us_n (by omega)]
                  · have e : g140 m 23 = (letM v (opAtV v 1) (v 5) (guM v 1)).2.2.2.2.1 := (q140 _ _ (by omega)).trans (congrArg (fun y : Ms => y.2.2.2.2.1) r2)
                    unfold sk01
                    rw [e]
                    exact ho2.2.2.2.2.1
                  · unfold goV
                    rw [if_neg f2]
                    refine (setG_us (x := mdM (trM (letM v (opAtV v 1) (v 5) (guM v 1)) (8 - v 5)) (v (guA 1 + 2))) (v := v) (fun k q => rfl) rfl rfl ?_ (fun k k0 k1 => ?_)).trans ?_
                    · show ((letM v (opAtV v 1) (v 5) (guM v 1)).2.2.1 - v 5 + 8) % 8 = ((letM v (opAtV v 1) (v 5) (guM v 1)).2.2.1 + (8 - v 5)) % 8
                      rw [show (letM v (opAtV v 1) (v 5) (guM v 1)).2.2.1 - v 5 + 8 = (letM v (opAtV v 1) (v 5) (guM v 1)).2.2.1 + (8 - v 5) by omega]
                    · show (letM v (opAtV v 1) (v 5) (guM v 1)).2.2.2.2.2 (k + v 5) = (letM v (opAtV v 1) (v 5) (guM v 1)).2.2.2.2.2 (k - (8 - v 5))
                      rw [← hpl (k + v 5), ← hpl (k - (8 - v 5)), show (k - (8 - v 5)) % 8 = (k + v 5) % 8 by omega]
                    · unfold hostV
                      rw [if_neg hh, if_neg (show ¬ (opG v (opAtV v 1) = 1 ∧ v (guA 1 + 2) = 0) from ht), if_neg hE]
                refine x_aload_n dX8_hostedSteps_143 rfl rfl ?_
                refine g_getI (kI := 20) rfl dX8_hostedSteps_144 fX8_289_8 (by first | assumption | exact hT.2.1) ?_
                try simp (disch := omega) only [rdI_e, rdI_n, rdC_i, rdC_o, rdW, rdR, rdU_e, rdU_n, rdLW, Int.add_zero, hw]
                rw [e20]
                refine x_iconst dX8_hostedSteps_147 rfl ?_
                refine x_icmp_ne (tgt := 155) dX8_hostedSteps_148 (by decide) (fun h148 => ?_) (fun h148 => ?_)
                · refine x_iconst dX8_hostedSteps_155 rfl ?_
                  refine x_istore_n (L' := [some _, some _, some _, some _]) dX8_hostedSteps_156 rfl (by decide) rfl ?_
                  have eH : hostH v = (if (letM v (opAtV v 1) (v 5) (guM v 1)).2.1 = 1 then 2 else 5) := by
                    unfold hostH
                    rw [if_neg hh, if_neg (show ¬ (opG v (opAtV v 1) = 1 ∧ v (guA 1 + 2) = 0) from ht), if_neg hE]
                  first
                  | (rw [if_pos h148] at eH
                     exact WP.mem (M1 := wI M g140) rfl (fin 2 (by omega) (by omega) (by rw [eH]; rfl)))
                  | (rw [if_neg h148] at eH
                     exact WP.mem (M1 := wI M g140) rfl (fin (-1) (by omega) (by omega) (by rw [eH]; rfl)))
                · refine x_iconst dX8_hostedSteps_151 rfl ?_
                  refine x_goto (tgt := 156) dX8_hostedSteps_152 (by decide) ?_
                  refine x_istore_n (L' := [some _, some _, some _, some _]) dX8_hostedSteps_156 rfl (by decide) rfl ?_
                  have eH : hostH v = (if (letM v (opAtV v 1) (v 5) (guM v 1)).2.1 = 1 then 2 else 5) := by
                    unfold hostH
                    rw [if_neg hh, if_neg (show ¬ (opG v (opAtV v 1) = 1 ∧ v (guA 1 + 2) = 0) from ht), if_neg hE]
                  first
                  | (rw [if_pos h148] at eH
                     exact WP.mem (M1 := wI M g140) rfl (fin 2 (by omega) (by omega) (by rw [eH]; rfl)))
                  | (rw [if_neg h148] at eH
                     exact WP.mem (M1 := wI M g140) rfl (fin (-1) (by omega) (by omega) (by rw [eH]; rfl)))
              · omega
          · try simp only [vP_0, vP_1, vP_n0, vP_n1, Classical.not_not] at h40
            exact absurd h40 ht
        · try simp only [vP_0, vP_1, vP_n0, vP_n1, Classical.not_not] at h5
          exact absurd h5 hh
theorem s_X8_oneTick (hd : 19 ≤ d) (hT : TwS (msh M) (mcr M) m) (hw : mci M (m + 1) = v) (hv : okA v) (hTr : TrOk (mci M) m v) (hL : lawOK v) (hsk : sk01 (mci M) m) (ha : a = 0 ∨ a = 1) : CS G d mX8_oneTick [dR m, dI a] M (postI fun x M1 => x = vP (a = 0 ∧ whatV v ≤ 1) ∧ ∃ g, M1 = wI M g ∧ g (m + 1) = tick0 v (a = 1) ∧ TF m (mci M) g ∧ sk01 g m) := by
  have hT_ := hT; obtain ⟨p0, p1, ⟨c1, c2, c3, c4, c5, c6, c7, c8, c9, c10, c11, c12, c13, c14, c15⟩, ⟨t1, t2, t3, t4, t5, t6, t7, t8, t9, t10, t11, t12, t13, t14, t15⟩⟩ := hT_
  have h8 := hv.1.2.2.2.2.2.2.2.2.1
  have h9 := hv.1.2.2.2.2.2.2.2.2.2.1
  have hpc := hv.2.2.1
  have hv3 := hv.1.2.2.2.1
  refine CS.mkQ (by decide) (Nat.le_of_ble_eq_true rfl) fun Q hQ => ?_
  have tail3 : ∀ (how op : Int) (w2 : Vw) (g' : Ci), g' (m + 1) = w2 → eqM v w2 → w2 9 = v 9 → w2 8 = v 8 → (how = 0 ∨ how = 1 → 0 ≤ op ∧ op < v 0) → TF m (mci M) g' → sk01 g' m → us (if 0 ≤ how ∧ how ≤ 1 then us w2 9 (if v 9 + worV v op < 9999 then v 9 + worV v op else 9999) else w2) 8 (if v 8 + 1 < 9999 then v 8 + 1 else 9999) = tick0 v (a = 1) → vP (0 ≤ how ∧ how ≤ 1) = vP (a = 0 ∧ whatV v ≤ 1) → okB w2 → WP G d mX8_oneTick 110 [some (dR m), some (dI a), some (dI (vP (likeG v))), some (dI (v (guA 1))), some (dI op), some (dI how), none] [] (wI M g') Q := by
    intro how op w2 g' hw hM e9 e8 hop hf hs e1 e2 hv2
    have hTr2 : TrOk g' m w2 := (hf.tr hTr).eqM hv.1 hM
    have hL2 : lawOK w2 := hL.eqM hM
    have e0 := hM 0 (by omega) (by omega) (by omega)
    by_cases hh : 0 ≤ how ∧ how ≤ 1
    · have hop' := hop (by omega)
      have hop2 : 0 ≤ op ∧ op < w2 0 := by rw [e0]; exact hop'
      rw [if_pos hh, ← worV_eqL hv.1 hop' hM hL] at e1
      refine x_iload dX8_oneTick_110 rfl ?_
      refine x_iconst dX8_oneTick_112 rfl ?_
      refine x_iconst dX8_oneTick_113 rfl ?_
      refine g_callI (vs := [_, _, _]) (d' := d - 1) rfl (s_X8_in (by omega)) dX8_oneTick_114 kX8_88 (by omega) (by decide) rfl (Nat.le_of_ble_eq_true rfl) (rcv_n) (fun x114 M114 h114 => ?_)
      obtain ⟨e114, f114⟩ := h114
      have f114' := f114.symm
      subst f114'
      subst e114
      try simp (disch := omega) only [rdI_e, rdI_n, rdC_i, rdC_o, rdW, rdR, rdU_e, rdU_n, rdLW, Int.add_zero, hw, e9, e8]
      refine x_istore (L' := [some _, some _, some _, some _, some _, some _, some _]) dX8_oneTick_117 (by decide) rfl ?_
      refine x_iload dX8_oneTick_119 rfl ?_
      refine x_if_eq (tgt := 151) dX8_oneTick_121 (by decide) (fun h121 => ?_) (fun h121 => ?_)
      · try simp only [vP_0, vP_1, vP_n0, vP_n1, Classical.not_not] at h121
        exact absurd hh h121
      · try simp only [vP_0, vP_1, vP_n0, vP_n1, Classical.not_not] at h121
        refine x_aload_n dX8_oneTick_124 rfl rfl ?_
        refine g_getR (kI := 1) rfl dX8_oneTick_125 fX8_13_8 (by first | assumption | exact hT.2.1) (by first | assumption | exact hT.2.1) ?_
        refine x_bipush dX8_oneTick_128 rfl ?_
        refine x_sipush dX8_oneTick_130 rfl ?_
        refine x_aload_n dX8_oneTick_133 rfl rfl ?_
        refine g_getR (kI := 1) rfl dX8_oneTick_134 fX8_13_8 (by first | assumption | exact hT.2.1) (by first | assumption | exact hT.2.1) ?_
        refine x_bipush dX8_oneTick_137 rfl ?_
        refine x_iald dX8_oneTick_139 (by first | assumption | exact hT.2.1) (by omega) (by omega) ?_
        try simp (disch := omega) only [rdI_e, rdI_n, rdC_i, rdC_o, rdW, rdR, rdU_e, rdU_n, rdLW, Int.add_zero, hw, e9, e8]
        refine x_aload_n dX8_oneTick_140 rfl rfl ?_
        refine x_iload dX8_oneTick_141 rfl ?_
        refine g_callI (vs := [_, _]) (d' := d - 1) rfl (s_X8_worthOf (M := wI M g') (by omega) hT hw hv2 hop2 hTr2 hL2) dX8_oneTick_143 kX8_420 (by omega) (by decide) rfl (Nat.le_of_ble_eq_true rfl) (rcv_o (by first | assumption | exact hT.2.1) rfl) (fun x143 M143 h143 => ?_)
        obtain ⟨⟨e143, r143⟩, g143, hM143, q143⟩ := h143
        subst hM143
        have hw := TV.w q143 hw
        have hs := q143.sk hs
        first | refine x_iaddN dX8_oneTick_146 (by unfold i32; omega) ?_ | refine x_iadd dX8_oneTick_146 ?_
        refine g_callI (vs := [_, _]) (d' := d - 1) rfl (s_min (by omega)) dX8_oneTick_147 kX8_387 (by omega) (by decide) rfl (Nat.le_of_ble_eq_true rfl) (rcv_n) (fun x147 M147 h147 => ?_)
        obtain ⟨e147, f147⟩ := h147
        have f147' := f147.symm
        subst f147'
        refine x_iast (by omega) dX8_oneTick_150 (by first | assumption | exact hT.2.1) (by omega) (by omega) ?_
        refine x_aload_n dX8_oneTick_151 rfl rfl ?_
        refine g_getR (kI := 1) rfl dX8_oneTick_152 fX8_13_8 (by first | assumption | exact hT.2.1) (by first | assumption | exact hT.2.1) ?_
        refine x_bipush dX8_oneTick_155 rfl ?_
        refine x_sipush dX8_oneTick_157 rfl ?_
        refine x_aload_n dX8_oneTick_160 rfl rfl ?_
        refine g_getR (kI := 1) rfl dX8_oneTick_161 fX8_13_8 (by first | assumption | exact hT.2.1) (by first | assumption | exact hT.2.1) ?_
        refine x_bipush dX8_oneTick_164 rfl ?_
        refine x_iald dX8_oneTick_166 (by first | assumption | exact hT.2.1) (by omega) (by omega) ?_
        try simp (disch := omega) only [rdI_e, rdI_n, rdC_i, rdC_o, rdW, rdR, rdU_e, rdU_n, rdLW, Int.add_zero, hw, e9, e8]
        refine x_iconst dX8_oneTick_167 rfl ?_
        first | refine x_iaddN dX8_oneTick_168 (by unfold i32; omega) ?_ | refine x_iadd dX8_oneTick_168 ?_
        refine g_callI (vs := [_, _]) (d' := d - 1) rfl (s_min (by omega)) dX8_oneTick_169 kX8_387 (by omega) (by decide) rfl (Nat.le_of_ble_eq_true rfl) (rcv_n) (fun x169 M169 h169 => ?_)
        obtain ⟨e169, f169⟩ := h169
        have f169' := f169.symm
        subst f169'
        refine x_iast (by omega) dX8_oneTick_172 (by first | assumption | exact hT.2.1) (by omega) (by omega) ?_
        refine x_iload dX8_oneTick_173 rfl ?_
        refine x_zreturn (by exact vP_r _) rfl dX8_oneTick_175 ?_
        refine hQ _ _ ⟨_, rfl, e2, exI (M := M) rfl ⟨?_, fun a' k' q1 q2 => ?_, ?_⟩⟩
        · refine (mciIs (mciIs (M := wI M g143) hw)).trans ?_
          rw [← e1, ← e143]
          have ex : x147 = (if v 9 + x143 < 9999 then v 9 + x143 else 9999) := by split <;> omega
          have ey : x169 = (if v 8 + 1 < 9999 then v 8 + 1 else 9999) := by split <;> omega
          rw [ex, ey]
        · rw [rdI_n (by omega), rdI_n (by omega)]
          exact (q143.te a' k' q2).trans (hf a' k' q1 q2)
        · unfold sk01 at hs ⊢
          rw [rdI_n (by omega), rdI_n (by omega)]
          exact hs
    · rw [if_neg hh] at e1
      refine x_iload dX8_oneTick_110 rfl ?_
      refine x_iconst dX8_oneTick_112 rfl ?_
      refine x_iconst dX8_oneTick_113 rfl ?_
      refine g_callI (vs := [_, _, _]) (d' := d - 1) rfl (s_X8_in (by omega)) dX8_oneTick_114 kX8_88 (by omega) (by decide) rfl (Nat.le_of_ble_eq_true rfl) (rcv_n) (fun x114 M114 h114 => ?_)
      obtain ⟨e114, f114⟩ := h114
      have f114' := f114.symm
      subst f114'
      subst e114
      try simp (disch := omega) only [rdI_e, rdI_n, rdC_i, rdC_o, rdW, rdR, rdU_e, rdU_n, rdLW, Int.add_zero, hw, e9, e8]
      refine x_istore (L' := [some _, some _, some _, some _, some _, some _, some _]) dX8_oneTick_117 (by decide) rfl ?_
      refine x_iload dX8_oneTick_119 rfl ?_
      refine x_if_eq (tgt := 151) dX8_oneTick_121 (by decide) (fun h121 => ?_) (fun h121 => ?_)
      · try simp only [vP_0, vP_1, vP_n0, vP_n1, Classical.not_not] at h121
        refine x_aload_n dX8_oneTick_151 rfl rfl ?_
        refine g_getR (kI := 1) rfl dX8_oneTick_152 fX8_13_8 (by first | assumption | exact hT.2.1) (by first | assumption | exact hT.2.1) ?_
        refine x_bipush dX8_oneTick_155 rfl ?_
        refine x_sipush dX8_oneTick_157 rfl ?_
        refine x_aload_n dX8_oneTick_160 rfl rfl ?_
        refine g_getR (kI := 1) rfl dX8_oneTick_161 fX8_13_8 (by first | assumption | exact hT.2.1) (by first | assumption | exact hT.2.1) ?_
        refine x_bipush dX8_oneTick_164 rfl ?_
        refine x_iald dX8_oneTick_166 (by first | assumption | exact hT.2.1) (by omega) (by omega) ?_
        try simp (disch := omega) only [rdI_e, rdI_n, rdC_i, rdC_o, rdW, rdR, rdU_e, rdU_n, rdLW, Int.add_zero, hw, e9, e8]
        refine x_iconst dX8_oneTick_167 rfl ?_
        first | refine x_iaddN dX8_oneTick_168 (by unfold i32; omega) ?_ | refine x_iadd dX8_oneTick_168 ?_
        refine g_callI (vs := [_, _]) (d' := d - 1) rfl (s_min (by omega)) dX8_oneTick_169 kX8_387 (by omega) (by decide) rfl (Nat.le_of_ble_eq_true rfl) (rcv_n) (fun x169 M169 h169 => ?_)
        obtain ⟨e169, f169⟩ := h169
        have f169' := f169.symm
        subst f169'
        refine x_iast (by omega) dX8_oneTick_172 (by first | assumption | exact hT.2.1) (by omega) (by omega) ?_
        refine x_iload dX8_oneTick_173 rfl ?_
        refine x_zreturn (by exact vP_r _) rfl dX8_oneTick_175 ?_
        refine hQ _ _ ⟨_, rfl, e2, exI (M := M) rfl ⟨?_, fun a' k' q1 q2 => ?_, ?_⟩⟩
        · refine (mciIs (M := wI M g') hw).trans ?_
          rw [← e1]
          have ey : x169 = (if v 8 + 1 < 9999 then v 8 + 1 else 9999) := by split <;> omega
          rw [ey]
        · rw [rdI_n (by omega)]
          exact hf a' k' q1 q2
        · unfold sk01 at hs ⊢
          rw [rdI_n (by omega)]
          exact hs
      · try simp only [vP_0, vP_1, vP_n0, vP_n1, Classical.not_not] at h121
        exact absurd h121 hh
  have tail2 : ∀ (how op : Int) (w : Vw) (g' : Ci), g' (m + 1) = w → eqM v w → w 9 = v 9 → w 8 = v 8 → (how = 0 ∨ how = 1 → 0 ≤ op ∧ op < v 0) → TF m (mci M) g' → sk01 g' m → afterV v (if 0 ≤ how ∧ how ≤ 1 then us w 9 (if v 9 + worV v op < 9999 then v 9 + worV v op else 9999) else w) op = tick0 v (a = 1) → vP (0 ≤ how ∧ how ≤ 1) = vP (a = 0 ∧ whatV v ≤ 1) → okB w → WP G d mX8_oneTick 91 [some (dR m), some (dI a), some (dI (vP (likeG v))), some (dI (v (guA 1))), some (dI op), some (dI how), none] [] (wI M g') Q := by
    intro how op w g' hw hM e9 e8 hop hf hs e1 e2 hvw
    have h10 := hvw.l60
    have eL : likeG (if 0 ≤ how ∧ how ≤ 1 then us w 9 (if v 9 + worV v op < 9999 then v 9 + worV v op else 9999) else w) ↔ likeG w := by
      split
      · exact likeG_us2 (by omega)
      · exact Iff.rfl
    unfold afterV at e1
    by_cases hl : likeG v ∧ ¬ likeG w
    · rw [iV_t ⟨hl.1, fun q => hl.2 (eL.mp q)⟩] at e1
      refine x_iload_n dX8_oneTick_91 rfl rfl ?_
      refine x_if_eq (tgt := 110) dX8_oneTick_92 (by decide) (fun h92 => ?_) (fun h92 => ?_)
      · try simp only [vP_0, vP_1, vP_n0, vP_n1, Classical.not_not] at h92
        exact absurd hl.1 h92
      · try simp only [vP_0, vP_1, vP_n0, vP_n1, Classical.not_not] at h92
        refine x_aload_n dX8_oneTick_95 rfl rfl ?_
        refine g_callI (vs := [_]) (d' := d - 1) rfl (s_X8_areAlike (by omega) hT (by first | exact hw | exact mciI (by omega) hw | exact mciI (by omega) (mciI (by omega) hw) | exact mciI (by omega) (mciI (by omega) (mciI (by omega) hw)) | exact mciI (by omega) (mciI (by omega) (mciI (by omega) (mciI (by omega) hw))) | exact mciC (by omega) hw)) dX8_oneTick_96 kX8_408 (by omega) (by decide) rfl (Nat.le_of_ble_eq_true rfl) (rcv_o (by first | assumption | exact hT.2.1) rfl) (fun x96 M96 h96 => ?_)
        obtain ⟨e96, f96⟩ := h96
        have f96' := f96.symm
        subst f96'
        subst e96
        refine x_if_ne (tgt := 110) dX8_oneTick_99 (by decide) (fun h99 => ?_) (fun h99 => ?_)
        · try simp only [vP_0, vP_1, vP_n0, vP_n1, Classical.not_not] at h99
          exact absurd h99 hl.2
        · try simp only [vP_0, vP_1, vP_n0, vP_n1, Classical.not_not] at h99
          refine x_aload_n dX8_oneTick_102 rfl rfl ?_
          refine x_iload dX8_oneTick_103 rfl ?_
          refine x_iconst dX8_oneTick_105 rfl ?_
          refine x_iload_n dX8_oneTick_106 rfl rfl ?_
          refine g_callN (vs := [_, _, _, _]) (d' := d - 1) rfl (s_X8_isTold (M := wI M g') (by omega) hT hw h10) dX8_oneTick_107 kX8_411 (by omega) (by decide) rfl (Nat.le_of_ble_eq_true rfl) (rcv_o (by first | assumption | exact hT.2.1) rfl) (fun M107 h107 => ?_)
          obtain ⟨g107, hM107, r107, q107⟩ := h107
          subst hM107
          refine WP.mem (M1 := wI M g107) rfl (tail3 how op _ g107 r107 (hM.trans eqM_tell) ((tellV_o (by omega) (by omega)).trans e9) ((tellV_o (by omega) (by omega)).trans e8) hop (TF.trans hf q107.tf) (q107.sk hs) ?_ e2 hvw.tell)
          rw [← e1]
          split
          · rw [tellV_9]
          · rfl
    · rw [iV_f fun q => hl ⟨q.1, fun y => q.2 (eL.mpr y)⟩] at e1
      refine x_iload_n dX8_oneTick_91 rfl rfl ?_
      refine x_if_eq (tgt := 110) dX8_oneTick_92 (by decide) (fun h92 => ?_) (fun h92 => ?_)
      · try simp only [vP_0, vP_1, vP_n0, vP_n1, Classical.not_not] at h92
        exact tail3 how op w g' hw hM e9 e8 hop hf hs e1 e2 hvw
      · try simp only [vP_0, vP_1, vP_n0, vP_n1, Classical.not_not] at h92
        refine x_aload_n dX8_oneTick_95 rfl rfl ?_
        refine g_callI (vs := [_]) (d' := d - 1) rfl (s_X8_areAlike (by omega) hT (by first | exact hw | exact mciI (by omega) hw | exact mciI (by omega) (mciI (by omega) hw) | exact mciI (by omega) (mciI (by omega) (mciI (by omega) hw)) | exact mciI (by omega) (mciI (by omega) (mciI (by omega) (mciI (by omega) hw))) | exact mciC (by omega) hw)) dX8_oneTick_96 kX8_408 (by omega) (by decide) rfl (Nat.le_of_ble_eq_true rfl) (rcv_o (by first | assumption | exact hT.2.1) rfl) (fun x96 M96 h96 => ?_)
        obtain ⟨e96, f96⟩ := h96
        have f96' := f96.symm
        subst f96'
        subst e96
        refine x_if_ne (tgt := 110) dX8_oneTick_99 (by decide) (fun h99 => ?_) (fun h99 => ?_)
        · try simp only [vP_0, vP_1, vP_n0, vP_n1, Classical.not_not] at h99
          exact tail3 how op w g' hw hM e9 e8 hop hf hs e1 e2 hvw
        · try simp only [vP_0, vP_1, vP_n0, vP_n1, Classical.not_not] at h99
          exact absurd ⟨h92, h99⟩ hl
  rcases ha with rfl | rfl
  · have hx : tick0 v ((0 : Int) = 1) = afterV v (tickP v) (opH v) := by
      unfold tick0
      rw [iV_f (by decide)]
    have hr := whatV_r v
    have hs2 := okA_stepV hv
    have hb1 := okA_bareV hv
    have hMb : eqM v (bareV v 0) := (bareV_eqB (Or.inl rfl)).m
    have hMs : eqM v (stepV v) := eqM_stepV
    have o9 : stepV v 9 = v 9 := (hostV_o (by decide)).trans (bareV_o (by decide))
    have o8 : stepV v 8 = v 8 := (hostV_o (by decide)).trans (bareV_o (by decide))
    have o10 := hs2.1.l60
    have hwh : 0 ≤ whatV v ∧ whatV v ≤ 1 → v (guA 1) < v 3 := fun q => by
      have e1 : bareV v 0 3 = v 3 := bareV_o (by decide)
      have e2 : bareV v 0 (guA 1) = v (guA 1) := bareV_o (by decide)
      by_cases y : v 3 ≤ v (guA 1)
      · have : whatV v = 6 := by
          unfold whatV hostH
          rw [e1, e2, if_pos y]
        omega
      · omega
    have hpr := fun (q : v (guA 1) < v 3) => hv.1.pr (v (guA 1)) hpc.1 q
    have eo : ∀ q : v (guA 1) < v 3, opH v = v (12 + v (guA 1)) := fun q => if_pos q
    have eo2 : ∀ q : ¬ v (guA 1) < v 3, opH v = -1 := fun q => if_neg q
    have fin : ∀ (how op : Int) (g' : Ci), how = (if whatV v ≤ 2 then whatV v else -1) → op = opH v → g' (m + 1) = tickW v → TF m (mci M) g' → sk01 g' m → WP G d mX8_oneTick 91 [some (dR m), some (dI 0), some (dI (vP (likeG v))), some (dI (v (guA 1))), some (dI op), some (dI how), none] [] (wI M g') Q := by
      intro how op g' e1 e2 hw hf hs
      subst e2
      have eW : eqM v (tickW v) ∧ tickW v 9 = v 9 ∧ tickW v 8 = v 8 ∧ okB (tickW v) := by
        unfold tickW
        split
        · exact ⟨hMs.trans eqM_tell, (tellV_o (by omega) (by omega)).trans o9, (tellV_o (by omega) (by omega)).trans o8, hs2.1.tell⟩
        · exact ⟨hMs, o9, o8, hs2.1⟩
      refine tail2 how _ _ g' hw eW.1 eW.2.1 eW.2.2.1 (fun q => ?_) hf hs ?_ ?_ eW.2.2.2
      · have hq : 0 ≤ whatV v ∧ whatV v ≤ 1 := by split at e1 <;> omega
        rw [eo (hwh hq)]
        exact hpr (hwh hq)
      · rw [hx]
        unfold tickP
        by_cases y : whatV v ≤ 1
        · rw [if_pos y, if_pos (by rw [if_pos (by omega)] at e1; omega)]
        · rw [if_neg y, if_neg (by split at e1 <;> omega)]
      · refine vP_c ⟨fun q => ⟨rfl, ?_⟩, fun q => ?_⟩
        · split at e1 <;> omega
        · rw [if_pos (by omega)] at e1
          omega
    refine x_aload_n dX8_oneTick_0 rfl rfl ?_
    refine g_callI (vs := [_]) (d' := d - 1) rfl (s_X8_areAlike (by omega) hT (by first | exact hw | exact mciI (by omega) hw | exact mciI (by omega) (mciI (by omega) hw) | exact mciI (by omega) (mciI (by omega) (mciI (by omega) hw)) | exact mciI (by omega) (mciI (by omega) (mciI (by omega) (mciI (by omega) hw))) | exact mciC (by omega) hw)) dX8_oneTick_1 kX8_408 (by omega) (by decide) rfl (Nat.le_of_ble_eq_true rfl) (rcv_o (by first | assumption | exact hT.2.1) rfl) (fun x1 M1 h1 => ?_)
    obtain ⟨e1, f1⟩ := h1
    have f1' := f1.symm
    subst f1'
    subst e1
    try simp (disch := omega) only [rdI_e, rdI_n, rdC_i, rdC_o, rdW, rdR, rdU_e, rdU_n, rdLW, Int.add_zero, hw]
    refine x_istore_n (L' := [some _, some _, some _, none, none, none, none]) dX8_oneTick_4 rfl (by decide) rfl ?_
    refine x_aload_n dX8_oneTick_5 rfl rfl ?_
    refine x_iconst dX8_oneTick_6 rfl ?_
    refine x_iconst dX8_oneTick_7 rfl ?_
    refine g_callI (vs := [_, _, _]) (d' := d - 1) rfl (s_X8_ofGuest (by omega) hT (by first | exact hw | exact mciI (by omega) hw | exact mciI (by omega) (mciI (by omega) hw) | exact mciI (by omega) (mciI (by omega) (mciI (by omega) hw)) | exact mciI (by omega) (mciI (by omega) (mciI (by omega) (mciI (by omega) hw))) | exact mciC (by omega) hw) (by omega) (by omega)) dX8_oneTick_8 kX8_384 (by omega) (by decide) rfl (Nat.le_of_ble_eq_true rfl) (rcv_o (by first | assumption | exact hT.2.1) rfl) (fun x8 M8 h8 => ?_)
    obtain ⟨e8, f8⟩ := h8
    have f8' := f8.symm
    subst f8'
    subst e8
    try simp (disch := omega) only [rdI_e, rdI_n, rdC_i, rdC_o, rdW, rdR, rdU_e, rdU_n, rdLW, Int.add_zero, hw]
    refine x_istore_n (L' := [some _, some _, some _, some _, none, none, none]) dX8_oneTick_11 rfl (by decide) rfl ?_
    refine x_aload_n dX8_oneTick_12 rfl rfl ?_
    refine x_iconst dX8_oneTick_13 rfl ?_
    refine g_callI (vs := [_, _]) (d' := d - 1) rfl (s_X8_isHalted (by omega) hT (by first | exact hw | exact mciI (by omega) hw | exact mciI (by omega) (mciI (by omega) hw) | exact mciI (by omega) (mciI (by omega) (mciI (by omega) hw)) | exact mciI (by omega) (mciI (by omega) (mciI (by omega) (mciI (by omega) hw))) | exact mciC (by omega) hw) (by omega)) dX8_oneTick_14 kX8_392 (by omega) (by decide) rfl (Nat.le_of_ble_eq_true rfl) (rcv_o (by first | assumption | exact hT.2.1) rfl) (fun x14 M14 h14 => ?_)
    obtain ⟨e14, f14⟩ := h14
    have f14' := f14.symm
    subst f14'
    subst e14
    try simp (disch := omega) only [rdI_e, rdI_n, rdC_i, rdC_o, rdW, rdR, rdU_e, rdU_n, rdLW, Int.add_zero, hw]
    refine x_if_ne (tgt := 24) dX8_oneTick_17 (by decide) (fun h17 => ?_) (fun h17 => ?_)
    · try simp only [vP_0, vP_1, vP_n0, vP_n1, Classical.not_not] at h17
      refine x_iconst dX8_oneTick_24 rfl ?_
      refine x_goto (tgt := 37) dX8_oneTick_25 (by decide) ?_
      refine x_istore (L' := [some _, some _, some _, some _, some _, none, none]) dX8_oneTick_37 (by decide) rfl ?_
      refine x_iconst dX8_oneTick_39 rfl ?_
      refine x_istore (L' := [some _, some _, some _, some _, some _, some _, none]) dX8_oneTick_40 (by decide) rfl ?_
      refine x_iload_n dX8_oneTick_42 rfl rfl ?_
      refine x_if_eq (tgt := 66) dX8_oneTick_43 (by decide) (fun h43 => ?_) (fun h43 => ?_)
      · refine x_aload_n dX8_oneTick_66 rfl rfl ?_
        refine g_callN (vs := [_]) (d' := d - 1) rfl (s_X8_bareSteps (by omega) hT hw hv.1 hv.2.1 hsk) dX8_oneTick_67 kX8_414 (by omega) (by decide) rfl (Nat.le_of_ble_eq_true rfl) (rcv_o (by first | assumption | exact hT.2.1) rfl) (fun M67 h67 => ?_)
        obtain ⟨g67, hM67, r67, q67, z67⟩ := h67
        subst hM67
        refine x_aload_n dX8_oneTick_70 rfl rfl ?_
        refine g_callI (vs := [_]) (d' := d - 1) rfl (s_X8_hostedSteps (M := wI M g67) (by omega) hT r67 hb1.1 hb1.2.2 ((q67.tr hTr).eqM hv.1 hMb) (hL.eqM hMb) z67) dX8_oneTick_71 kX8_417 (by omega) (by decide) rfl (Nat.le_of_ble_eq_true rfl) (rcv_o (by first | assumption | exact hT.2.1) rfl) (fun x71 M71 h71 => ?_)
        obtain ⟨e71, g71, hM71, r71, q71, z71⟩ := h71
        subst hM71
        have hw1 : g71 (m + 1) = stepV v := r71
        refine x_istore (L' := [some _, some _, some _, some _, some _, some _, none]) dX8_oneTick_74 (by decide) rfl ?_
        refine x_iload dX8_oneTick_76 rfl ?_
        refine x_iconst dX8_oneTick_78 rfl ?_
        refine x_icmp_eq (tgt := 91) dX8_oneTick_79 (by decide) (fun h79 => ?_) (fun h79 => ?_)
        · have e71' : x71 = (if whatV v ≤ 2 then whatV v else -1) := e71
          first
          | (subst hM88
             refine WP.mem (M1 := wI M g88) rfl (fin _ _ g88 e71' ?_ (r88.trans ?_) (TF.trans (TF.trans q67 q71) q88.tf) (q88.sk z71))
             · first | exact (eo (by omega)).symm | exact (eo2 (by omega)).symm
             · have y : whatV v ≤ 2 := by split at e71' <;> omega
               rw [if_pos y] at e71'
               unfold tickW
               rw [if_pos y, e71']
               first | rw [eo (by omega)] | rw [eo2 (by omega)])
          | (refine WP.mem (M1 := wI M g71) rfl (fin _ _ g71 e71' ?_ (hw1.trans ?_) (TF.trans q67 q71) z71)
             · first | exact (eo (by omega)).symm | exact (eo2 (by omega)).symm
             · have y : ¬ whatV v ≤ 2 := by split at e71' <;> omega
               unfold tickW
               rw [if_neg y])
        · refine x_aload_n dX8_oneTick_82 rfl rfl ?_
          refine x_iload dX8_oneTick_83 rfl ?_
          refine x_iload dX8_oneTick_85 rfl ?_
          refine x_iload_n dX8_oneTick_87 rfl rfl ?_
          refine g_callN (vs := [_, _, _, _]) (d' := d - 1) rfl (s_X8_isTold (M := wI M g71) (by omega) hT hw1 o10) dX8_oneTick_88 kX8_411 (by omega) (by decide) rfl (Nat.le_of_ble_eq_true rfl) (rcv_o (by first | assumption | exact hT.2.1) rfl) (fun M88 h88 => ?_)
          obtain ⟨g88, hM88, r88, q88⟩ := h88
          have e71' : x71 = (if whatV v ≤ 2 then whatV v else -1) := e71
          first
          | (subst hM88
             refine WP.mem (M1 := wI M g88) rfl (fin _ _ g88 e71' ?_ (r88.trans ?_) (TF.trans (TF.trans q67 q71) q88.tf) (q88.sk z71))
             · first | exact (eo (by omega)).symm | exact (eo2 (by omega)).symm
             · have y : whatV v ≤ 2 := by split at e71' <;> omega
               rw [if_pos y] at e71'
               unfold tickW
               rw [if_pos y, e71']
               first | rw [eo (by omega)] | rw [eo2 (by omega)])
          | (refine WP.mem (M1 := wI M g71) rfl (fin _ _ g71 e71' ?_ (hw1.trans ?_) (TF.trans q67 q71) z71)
             · first | exact (eo (by omega)).symm | exact (eo2 (by omega)).symm
             · have y : ¬ whatV v ≤ 2 := by split at e71' <;> omega
               unfold tickW
               rw [if_neg y])
      · exact absurd rfl h43
    · try simp only [vP_0, vP_1, vP_n0, vP_n1, Classical.not_not] at h17
      refine x_iload_n dX8_oneTick_20 rfl rfl ?_
      refine x_if_eq (tgt := 28) dX8_oneTick_21 (by decide) (fun h21 => ?_) (fun h21 => ?_)
      · refine x_aload_n dX8_oneTick_28 rfl rfl ?_
        refine g_getR (kI := 1) rfl dX8_oneTick_29 fX8_13_8 (by first | assumption | exact hT.2.1) (by first | assumption | exact hT.2.1) ?_
        refine x_bipush dX8_oneTick_32 rfl ?_
        refine x_iload_n dX8_oneTick_34 rfl rfl ?_
        first | refine x_iaddN dX8_oneTick_35 (by unfold i32; omega) ?_ | refine x_iadd dX8_oneTick_35 ?_
        refine x_iald dX8_oneTick_36 (by first | assumption | exact hT.2.1) (by omega) (by omega) ?_
        try simp (disch := omega) only [rdI_e, rdI_n, rdC_i, rdC_o, rdW, rdR, rdU_e, rdU_n, rdLW, Int.add_zero, hw]
        refine x_istore (L' := [some _, some _, some _, some _, some _, none, none]) dX8_oneTick_37 (by decide) rfl ?_
        refine x_iconst dX8_oneTick_39 rfl ?_
        refine x_istore (L' := [some _, some _, some _, some _, some _, some _, none]) dX8_oneTick_40 (by decide) rfl ?_
        refine x_iload_n dX8_oneTick_42 rfl rfl ?_
        refine x_if_eq (tgt := 66) dX8_oneTick_43 (by decide) (fun h43 => ?_) (fun h43 => ?_)
        · refine x_aload_n dX8_oneTick_66 rfl rfl ?_
          refine g_callN (vs := [_]) (d' := d - 1) rfl (s_X8_bareSteps (by omega) hT hw hv.1 hv.2.1 hsk) dX8_oneTick_67 kX8_414 (by omega) (by decide) rfl (Nat.le_of_ble_eq_true rfl) (rcv_o (by first | assumption | exact hT.2.1) rfl) (fun M67 h67 => ?_)
          obtain ⟨g67, hM67, r67, q67, z67⟩ := h67
          subst hM67
          refine x_aload_n dX8_oneTick_70 rfl rfl ?_
          refine g_callI (vs := [_]) (d' := d - 1) rfl (s_X8_hostedSteps (M := wI M g67) (by omega) hT r67 hb1.1 hb1.2.2 ((q67.tr hTr).eqM hv.1 hMb) (hL.eqM hMb) z67) dX8_oneTick_71 kX8_417 (by omega) (by decide) rfl (Nat.le_of_ble_eq_true rfl) (rcv_o (by first | assumption | exact hT.2.1) rfl) (fun x71 M71 h71 => ?_)
          obtain ⟨e71, g71, hM71, r71, q71, z71⟩ := h71
          subst hM71
          have hw1 : g71 (m + 1) = stepV v := r71
          refine x_istore (L' := [some _, some _, some _, some _, some _, some _, none]) dX8_oneTick_74 (by decide) rfl ?_
          refine x_iload dX8_oneTick_76 rfl ?_
          refine x_iconst dX8_oneTick_78 rfl ?_
          refine x_icmp_eq (tgt := 91) dX8_oneTick_79 (by decide) (fun h79 => ?_) (fun h79 => ?_)
          · have e71' : x71 = (if whatV v ≤ 2 then whatV v else -1) := e71
            first
            | (subst hM88
               refine WP.mem (M1 := wI M g88) rfl (fin _ _ g88 e71' ?_ (r88.trans ?_) (TF.trans (TF.trans q67 q71) q88.tf) (q88.sk z71))
               · first | exact (eo (by omega)).symm | exact (eo2 (by omega)).symm
               · have y : whatV v ≤ 2 := by split at e71' <;> omega
                 rw [if_pos y] at e71'
                 unfold tickW
                 rw [if_pos y, e71']
                 first | rw [eo (by omega)] | rw [eo2 (by omega)])
            | (refine WP.mem (M1 := wI M g71) rfl (fin _ _ g71 e71' ?_ (hw1.trans ?_) (TF.trans q67 q71) z71)
               · first | exact (eo (by omega)).symm | exact (eo2 (by omega)).symm
               · have y : ¬ whatV v ≤ 2 := by split at e71' <;> omega
                 unfold tickW
                 rw [if_neg y])
          · refine x_aload_n dX8_oneTick_82 rfl rfl ?_
            refine x_iload dX8_oneTick_83 rfl ?_
            refine x_iload dX8_oneTick_85 rfl ?_
            refine x_iload_n dX8_oneTick_87 rfl rfl ?_
            refine g_callN (vs := [_, _, _, _]) (d' := d - 1) rfl (s_X8_isTold (M := wI M g71) (by omega) hT hw1 o10) dX8_oneTick_88 kX8_411 (by omega) (by decide) rfl (Nat.le_of_ble_eq_true rfl) (rcv_o (by first | assumption | exact hT.2.1) rfl) (fun M88 h88 => ?_)
            obtain ⟨g88, hM88, r88, q88⟩ := h88
            have e71' : x71 = (if whatV v ≤ 2 then whatV v else -1) := e71
            first
            | (subst hM88
               refine WP.mem (M1 := wI M g88) rfl (fin _ _ g88 e71' ?_ (r88.trans ?_) (TF.trans (TF.trans q67 q71) q88.tf) (q88.sk z71))
               · first | exact (eo (by omega)).symm | exact (eo2 (by omega)).symm
               · have y : whatV v ≤ 2 := by split at e71' <;> omega
                 rw [if_pos y] at e71'
                 unfold tickW
                 rw [if_pos y, e71']
                 first | rw [eo (by omega)] | rw [eo2 (by omega)])
            | (refine WP.mem (M1 := wI M g71) rfl (fin _ _ g71 e71' ?_ (hw1.trans ?_) (TF.trans q67 q71) z71)
               · first | exact (eo (by omega)).symm | exact (eo2 (by omega)).symm
               · have y : ¬ whatV v ≤ 2 := by split at e71' <;> omega
                 unfold tickW
                 rw [if_neg y])
        · exact absurd rfl h43
      · exact absurd rfl h21
  · have hx : tick0 v ((1 : Int) = 1) = afterV v (tickA v) (-1) := by
      unfold tick0
      rw [iV_t rfl]
    have h10 := hv.1.l60
    have hm1 : eqM v (tickA v) := eqM_tickA
    have t9 : tickA v 9 = v 9 := by
      unfold tickA
      rw [caughtV_o (by decide) (by decide), caughtV_o (by decide) (by decide), tellV_o (by decide) (by decide)]
    have t8 : tickA v 8 = v 8 := by
      unfold tickA
      rw [caughtV_o (by decide) (by decide), caughtV_o (by decide) (by decide), tellV_o (by decide) (by decide)]
    refine x_aload_n dX8_oneTick_0 rfl rfl ?_
    refine g_callI (vs := [_]) (d' := d - 1) rfl (s_X8_areAlike (by omega) hT (by first | exact hw | exact mciI (by omega) hw | exact mciI (by omega) (mciI (by omega) hw) | exact mciI (by omega) (mciI (by omega) (mciI (by omega) hw)) | exact mciI (by omega) (mciI (by omega) (mciI (by omega) (mciI (by omega) hw))) | exact mciC (by omega) hw)) dX8_oneTick_1 kX8_408 (by omega) (by decide) rfl (Nat.le_of_ble_eq_true rfl) (rcv_o (by first | assumption | exact hT.2.1) rfl) (fun x1 M1 h1 => ?_)
    obtain ⟨e1, f1⟩ := h1
    have f1' := f1.symm
    subst f1'
    subst e1
    try simp (disch := omega) only [rdI_e, rdI_n, rdC_i, rdC_o, rdW, rdR, rdU_e, rdU_n, rdLW, Int.add_zero, hw]
    refine x_istore_n (L' := [some _, some _, some _, none, none, none, none]) dX8_oneTick_4 rfl (by decide) rfl ?_
    refine x_aload_n dX8_oneTick_5 rfl rfl ?_
    refine x_iconst dX8_oneTick_6 rfl ?_
    refine x_iconst dX8_oneTick_7 rfl ?_
    refine g_callI (vs := [_, _, _]) (d' := d - 1) rfl (s_X8_ofGuest (by omega) hT (by first | exact hw | exact mciI (by omega) hw | exact mciI (by omega) (mciI (by omega) hw) | exact mciI (by omega) (mciI (by omega) (mciI (by omega) hw)) | exact mciI (by omega) (mciI (by omega) (mciI (by omega) (mciI (by omega) hw))) | exact mciC (by omega) hw) (by omega) (by omega)) dX8_oneTick_8 kX8_384 (by omega) (by decide) rfl (Nat.le_of_ble_eq_true rfl) (rcv_o (by first | assumption | exact hT.2.1) rfl) (fun x8 M8 h8 => ?_)
    obtain ⟨e8, f8⟩ := h8
    have f8' := f8.symm
    subst f8'
    subst e8
    try simp (disch := omega) only [rdI_e, rdI_n, rdC_i, rdC_o, rdW, rdR, rdU_e, rdU_n, rdLW, Int.add_zero, hw]
    refine x_istore_n (L' := [some _, some _, some _, some _, none, none, none]) dX8_oneTick_11 rfl (by decide) rfl ?_
    refine x_aload_n dX8_oneTick_12 rfl rfl ?_
    refine x_iconst dX8_oneTick_13 rfl ?_
    refine g_callI (vs := [_, _]) (d' := d - 1) rfl (s_X8_isHalted (by omega) hT (by first | exact hw | exact mciI (by omega) hw | exact mciI (by omega) (mciI (by omega) hw) | exact mciI (by omega) (mciI (by omega) (mciI (by omega) hw)) | exact mciI (by omega) (mciI (by omega) (mciI (by omega) (mciI (by omega) hw))) | exact mciC (by omega) hw) (by omega)) dX8_oneTick_14 kX8_392 (by omega) (by decide) rfl (Nat.le_of_ble_eq_true rfl) (rcv_o (by first | assumption | exact hT.2.1) rfl) (fun x14 M14 h14 => ?_)
    obtain ⟨e14, f14⟩ := h14
    have f14' := f14.symm
    subst f14'
    subst e14
    try simp (disch := omega) only [rdI_e, rdI_n, rdC_i, rdC_o, rdW, rdR, rdU_e, rdU_n, rdLW, Int.add_zero, hw]
    refine x_if_ne (tgt := 24) dX8_oneTick_17 (by decide) (fun h17 => ?_) (fun h17 => ?_)
    · try simp only [vP_0, vP_1, vP_n0, vP_n1, Classical.not_not] at h17
      refine x_iconst dX8_oneTick_24 rfl ?_
      refine x_goto (tgt := 37) dX8_oneTick_25 (by decide) ?_
      refine x_istore (L' := [some _, some _, some _, some _, some _, none, none]) dX8_oneTick_37 (by decide) rfl ?_
      refine x_iconst dX8_oneTick_39 rfl ?_
      refine x_istore (L' := [some _, some _, some _, some _, some _, some _, none]) dX8_oneTick_40 (by decide) rfl ?_
      refine x_iload_n dX8_oneTick_42 rfl rfl ?_
      refine x_if_eq (tgt := 66) dX8_oneTick_43 (by decide) (fun h43 => ?_) (fun h43 => ?_)
      · exact absurd h43 (by decide)
      · refine x_aload_n dX8_oneTick_46 rfl rfl ?_
        refine x_iconst dX8_oneTick_47 rfl ?_
        refine x_iconst dX8_oneTick_48 rfl ?_
        refine x_iload_n dX8_oneTick_49 rfl rfl ?_
        refine g_callN (vs := [_, _, _, _]) (d' := d - 1) rfl (s_X8_isTold (by omega) hT hw h10) dX8_oneTick_50 kX8_411 (by omega) (by decide) rfl (Nat.le_of_ble_eq_true rfl) (rcv_o (by first | assumption | exact hT.2.1) rfl) (fun M50 h50 => ?_)
        obtain ⟨g50, hM50, r50, q50⟩ := h50
        subst hM50
        refine x_aload_n dX8_oneTick_53 rfl rfl ?_
        refine x_iconst dX8_oneTick_54 rfl ?_
        refine g_callN (vs := [_, _]) (d' := d - 1) rfl (s_X8_isCaught (M := wI M g50) (by omega) hT r50 (Or.inl rfl)) dX8_oneTick_55 kX8_395 (by omega) (by decide) rfl (Nat.le_of_ble_eq_true rfl) (rcv_o (by first | assumption | exact hT.2.1) rfl) (fun M55 h55 => ?_)
        obtain ⟨g55, hM55, r55, q55⟩ := h55
        subst hM55
        refine x_aload_n dX8_oneTick_58 rfl rfl ?_
        refine x_iconst dX8_oneTick_59 rfl ?_
        refine g_callN (vs := [_, _]) (d' := d - 1) rfl (s_X8_isCaught (M := wI M g55) (by omega) hT r55 (Or.inr rfl)) dX8_oneTick_60 kX8_395 (by omega) (by decide) rfl (Nat.le_of_ble_eq_true rfl) (rcv_o (by first | assumption | exact hT.2.1) rfl) (fun M60 h60 => ?_)
        obtain ⟨g60, hM60, r60, q60⟩ := h60
        subst hM60
        refine x_goto (tgt := 91) dX8_oneTick_63 (by decide) ?_
        refine WP.mem (M1 := wI M g60) rfl (tail2 (-1) (-1) _ g60 r60 hm1 t9 t8 (by omega) (TF.trans (TF.trans q50.tf q55.tf) q60.tf) (q60.sk (q55.sk (q50.sk hsk))) ?_ ?_ (okA_tickA hv).1)
        · rw [hx, if_neg (by decide)]
          rfl
        · exact vP_c ⟨fun q => absurd q.1 (by decide), fun q => absurd q.1 (by decide)⟩
    · try simp only [vP_0, vP_1, vP_n0, vP_n1, Classical.not_not] at h17
      refine x_iload_n dX8_oneTick_20 rfl rfl ?_
      refine x_if_eq (tgt := 28) dX8_oneTick_21 (by decide) (fun h21 => ?_) (fun h21 => ?_)
      · exact absurd h21 (by decide)
      · refine x_iconst dX8_oneTick_24 rfl ?_
        refine x_goto (tgt := 37) dX8_oneTick_25 (by decide) ?_
        refine x_istore (L' := [some _, some _, some _, some _, some _, none, none]) dX8_oneTick_37 (by decide) rfl ?_
        refine x_iconst dX8_oneTick_39 rfl ?_
        refine x_istore (L' := [some _, some _, some _, some _, some _, some _, none]) dX8_oneTick_40 (by decide) rfl ?_
        refine x_iload_n dX8_oneTick_42 rfl rfl ?_
        refine x_if_eq (tgt := 66) dX8_oneTick_43 (by decide) (fun h43 => ?_) (fun h43 => ?_)
        · exact absurd h43 (by decide)
        · refine x_aload_n dX8_oneTick_46 rfl rfl ?_
          refine x_iconst dX8_oneTick_47 rfl ?_
          refine x_iconst dX8_oneTick_48 rfl ?_
          refine x_iload_n dX8_oneTick_49 rfl rfl ?_
          refine g_callN (vs := [_, _, _, _]) (d' := d - 1) rfl (s_X8_isTold (by omega) hT hw h10) dX8_oneTick_50 kX8_411 (by omega) (by decide) rfl (Nat.le_of_ble_eq_true rfl) (rcv_o (by first | assumption | exact hT.2.1) rfl) (fun M50 h50 => ?_)
          obtain ⟨g50, hM50, r50, q50⟩ := h50
          subst hM50
          refine x_aload_n dX8_oneTick_53 rfl rfl ?_
          refine x_iconst dX8_oneTick_54 rfl ?_
          refine g_callN (vs := [_, _]) (d' := d - 1) rfl (s_X8_isCaught (M := wI M g50) (by omega) hT r50 (Or.inl rfl)) dX8_oneTick_55 kX8_395 (by omega) (by decide) rfl (Nat.le_of_ble_eq_true rfl) (rcv_o (by first | assumption | exact hT.2.1) rfl) (fun M55 h55 => ?_)
          obtain ⟨g55, hM55, r55, q55⟩ := h55
          subst hM55
          refine x_aload_n dX8_oneTick_58 rfl rfl ?_
          refine x_iconst dX8_oneTick_59 rfl ?_
          refine g_callN (vs := [_, _]) (d' := d - 1) rfl (s_X8_isCaught (M := wI M g55) (by omega) hT r55 (Or.inr rfl)) dX8_oneTick_60 kX8_395 (by omega) (by decide) rfl (Nat.le_of_ble_eq_true rfl) (rcv_o (by first | assumption | exact hT.2.1) rfl) (fun M60 h60 => ?_)
          obtain ⟨g60, hM60, r60, q60⟩ := h60
          subst hM60
          refine x_goto (tgt := 91) dX8_oneTick_63 (by decide) ?_
          refine WP.mem (M1 := wI M g60) rfl (tail2 (-1) (-1) _ g60 r60 hm1 t9 t8 (by omega) (TF.trans (TF.trans q50.tf q55.tf) q60.tf) (q60.sk (q55.sk (q50.sk hsk))) ?_ ?_ (okA_tickA hv).1)
          · rw [hx, if_neg (by decide)]
            rfl
          · exact vP_c ⟨fun q => absurd q.1 (by decide), fun q => absurd q.1 (by decide)⟩
/-- so many ticks -/
noncomputable def goT (v : Vw) (dr : Prop) : Nat → Vw
  | 0 => v
  | t + 1 => tickV (goT v dr t) dr
noncomputable def cntT (v : Vw) (dr : Prop) : Nat → Int
  | 0 => 0
  | t + 1 => cntT v dr t + vP (trapsT (goT v dr t) dr)
theorem okA_goT {v : Vw} {dr : Prop} (h : okA v) (hL : lawOK v) : ∀ t : Nat, okA (goT v dr t) ∧ eqM v (goT v dr t) := by
  intro t
  induction t with
  | zero => exact ⟨h, eqM.refl v⟩
  | succ t ih => exact ⟨okA_tickV ih.1 (hL.eqM ih.2), ih.2.trans eqM_tickV⟩
theorem cntT_r (v : Vw) (dr : Prop) : ∀ t : Nat, 0 ≤ cntT v dr t ∧ cntT v dr t ≤ t := by
  intro t
  induction t with
  | zero => exact ⟨Int.le_refl 0, Int.le_refl 0⟩
  | succ t ih =>
    have := vP_nn (p := trapsT (goT v dr t) dr)
    show 0 ≤ cntT v dr t + vP (trapsT (goT v dr t) dr) ∧ cntT v dr t + vP (trapsT (goT v dr t) dr) ≤ ((t + 1 : Nat) : Int)
    omega
end X8
/-- all but the bench, traits and what computations leave behind is as it was -/
def TH (m : Int) (f g : Ci) : Prop := ∀ a k, ¬ a = m + 1 → ¬ a = m + 10 → ¬ scr m a k → g a k = f a k
theorem TH.trans {m : Int} {f g h : Ci} (a : TH m f g) (b : TH m g h) : TH m f h := fun x k p q r => (b x k p q r).trans (a x k p q r)
theorem TF.th {m : Int} {f g : Ci} (h : TF m f g) : TH m f g := fun a k p _ r => h a k p r
theorem TG.th {m : Int} {f g : Ci} (h : TG m f g) : TH m f g := fun a k _ q r => h a k r q
theorem TH.rfl {m : Int} {f : Ci} : TH m f f := fun _ _ _ _ _ => _root_.rfl
theorem KnOk.tf {m : Int} {f g l : Ci} (h : KnOk f l m) (hf : TF m f g) : KnOk g l m := fun p a b => (h p a b).imp id fun ⟨v', h1, h2, h3⟩ => ⟨v', h1, h2, (hf.t10 p).trans h3⟩
theorem KnOk.te {m : Int} {f g l : Ci} (h : KnOk f l m) (hf : TE m f g) : KnOk g l m := h.tf hf.tf
section X8
variable {G : GW} {d : Nat} {M : Mem} {m a b c p k i what n st pc op : Int} {v : Vw}
theorem s_X8_goesOn (hd : 20 ≤ d) (hT : TwS (msh M) (mcr M) m) (hw : mci M (m + 1) = v) (hv : okA v) (hL : lawOK v) (hK : KnOk (mci M) (mcl M) m) (hsk : sk01 (mci M) m) (hn : 0 ≤ n ∧ n ≤ 60) (hc : c = 0 ∨ c = 1) : CS G d mX8_goesOn [dR m, dI n, dI c] M (postI fun x M1 => x = cntT v (c = 0) n.toNat ∧ ∃ g l, M1 = wL M g l ∧ g (m + 1) = goT v (c = 0) n.toNat ∧ TH m (mci M) g ∧ TLl m (mcl M) l ∧ KnOk g l m ∧ TrOk g m v ∧ sk01 g m) := by
  have hT_ := hT; obtain ⟨p0, p1, ⟨c1, c2, c3, c4, c5, c6, c7, c8, c9, c10, c11, c12, c13, c14, c15⟩, ⟨t1, t2, t3, t4, t5, t6, t7, t8, t9, t10, t11, t12, t13, t14, t15⟩⟩ := hT_
  refine CS.mkQ (by decide) (Nat.le_of_ble_eq_true rfl) fun Q hQ => ?_
  have loop : ∀ (t : Nat) (k x : Int) (g l : Ci), (n - k).toNat = t → (0 ≤ k) → (k ≤ n) → (x = cntT v (c = 0) k.toNat) → (0 ≤ x ∧ x ≤ k) → (g (m + 1) = goT v (c = 0) k.toNat) → (TH m (mci M) g) → (TLl m (mcl M) l) → (KnOk g l m) → (TrOk g m v) → (sk01 g m) → WP G d mX8_goesOn 9 [some (dR m), some (dI n), some (dI c), some (dI x), some (dI k)] [] (wL M g l) Q := by
    intro t
    induction t using Nat.strongRecOn with
    | _ t ih =>
      intro k x g l ht k0 k1 hx hx0 hw hf hl hK hTr hs
      obtain ⟨ou, oM⟩ := okA_goT (dr := c = 0) hv hL k.toNat
      have hTu : TrOk g m (goT v (c = 0) k.toNat) := hTr.eqM hv.1 oM
      have hLu : lawOK (goT v (c = 0) k.toNat) := hL.eqM oM
      have es : goT v (c = 0) (k + 1).toNat = tickV (goT v (c = 0) k.toNat) (c = 0) := by rw [show (k + 1).toNat = k.toNat + 1 by omega]; rfl
      have ec : cntT v (c = 0) (k + 1).toNat = cntT v (c = 0) k.toNat + vP (trapsT (goT v (c = 0) k.toNat) (c = 0)) := by rw [show (k + 1).toNat = k.toNat + 1 by omega]; rfl
      have h7 := ou.1.2.2.2.2.2.2.2.1
      rw [← hx] at ec
      obtain ⟨u, hu⟩ : ∃ u, u = goT v (c = 0) k.toNat := ⟨_, rfl⟩
      rw [← hu] at hw ou oM es ec hTu hLu h7
      have nx : ∀ (y : Int) (g1 : Ci), y = vP (trapsT u (c = 0)) → g1 (m + 1) = tickV u (c = 0) → TF m g g1 → sk01 g1 m → k < n → WP G d mX8_goesOn 9 [some (dR m), some (dI n), some (dI c), some (dI (x + y)), some (dI (k + 1))] [] (wL M g1 l) Q := fun y g1 n1 n2 n3 n4 n5 => by
        have := vP_r (trapsT u (c = 0))
        exact ih _ (by omega) (k + 1) _ g1 l rfl (by omega) (by omega) (by rw [ec, n1]) (by omega) (by rw [es, n2]) (TH.trans hf n3.th) hl (hK.tf n3) (n3.tr hTr) n4
      have fin : ∀ (b : Int) (u' : Vw) (g' : Ci), (b = 0 ∨ b = 1) → g' (m + 1) = u' → okA u' → eqM u u' → TF m g g' → sk01 g' m → tick0 u' (b = 1) = tickV u (c = 0) → vP (b = 0 ∧ whatV u' ≤ 1) = vP (trapsT u (c = 0)) → k < n → WP G d mX8_goesOn 42 [some (dR m), some (dI n), some (dI c), some (dI x), some (dI k)] [dI b, dR m, dI x] (wL M g' l) Q := by
        intro b u' g' hb hw' ou' hM' hf' hs' e1 e2 hk
        refine g_callI (vs := [_, _]) (d' := d - 1) rfl (s_X8_oneTick (M := wL M g' l) (by omega) hT hw' ou' ((hf'.tr hTu).eqM ou.1 hM') (hLu.eqM hM') hs' hb) dX8_goesOn_42 kX8_429 (by omega) (by decide) rfl (Nat.le_of_ble_eq_true rfl) (rcv_o (by first | assumption | exact hT.2.1) rfl) (fun x42 M42 h42 => ?_)
        obtain ⟨e42, g42, hM42, r42, q42, z42⟩ := h42
        subst hM42
        rw [e42, e2]
        refine x_if_eq (tgt := 52) dX8_goesOn_45 (by decide) (fun h45 => ?_) (fun h45 => ?_)
        · try simp only [vP_0, vP_1, vP_n0, vP_n1, Classical.not_not] at h45
          refine x_iconst dX8_goesOn_52 rfl ?_
          first | refine x_iaddN dX8_goesOn_53 (by unfold i32; omega) ?_ | refine x_iadd dX8_goesOn_53 ?_
          refine x_istore_n (L' := [some _, some _, some _, some _, some _]) dX8_goesOn_54 rfl (by decide) rfl ?_
          first | refine x_iincN (L' := [some _, some _, some _, some _, some _]) dX8_goesOn_55 rfl (by decide) (by unfold i32; omega) rfl ?_ | refine x_iinc (L' := [some _, some _, some _, some _, some _]) dX8_goesOn_55 rfl (by decide) rfl ?_
          refine x_goto (tgt := 9) dX8_goesOn_58 (by decide) ?_
          first
          | exact WP.mem (M1 := wL M g42 l) rfl (nx 1 g42 (vP_t h45).symm (r42.trans e1) (TF.trans hf' q42) z42 hk)
          | exact WP.mem (M1 := wL M g42 l) rfl (nx 0 g42 (vP_f h45).symm (r42.trans e1) (TF.trans hf' q42) z42 hk)
        · try simp only [vP_0, vP_1, vP_n0, vP_n1, Classical.not_not] at h45
          refine x_iconst dX8_goesOn_48 rfl ?_
          refine x_goto (tgt := 53) dX8_goesOn_49 (by decide) ?_
          first | refine x_iaddN dX8_goesOn_53 (by unfold i32; omega) ?_ | refine x_iadd dX8_goesOn_53 ?_
          refine x_istore_n (L' := [some _, some _, some _, some _, some _]) dX8_goesOn_54 rfl (by decide) rfl ?_
          first | refine x_iincN (L' := [some _, some _, some _, some _, some _]) dX8_goesOn_55 rfl (by decide) (by unfold i32; omega) rfl ?_ | refine x_iinc (L' := [some _, some _, some _, some _, some _]) dX8_goesOn_55 rfl (by decide) rfl ?_
          refine x_goto (tgt := 9) dX8_goesOn_58 (by decide) ?_
          first
          | exact WP.mem (M1 := wL M g42 l) rfl (nx 1 g42 (vP_t h45).symm (r42.trans e1) (TF.trans hf' q42) z42 hk)
          | exact WP.mem (M1 := wL M g42 l) rfl (nx 0 g42 (vP_f h45).symm (r42.trans e1) (TF.trans hf' q42) z42 hk)
      rcases hc with rfl | rfl
      · have eD : drawnV u = us u 11 (seedV (u 11)) := rfl
        have e0 : ∀ p : Prop, tickV u ((0 : Int) = 0) = tick0 (drawnV u) (alarmV u) := fun _ => by
          unfold tickV
          rw [iV_t rfl]
        refine x_iload dX8_goesOn_9 rfl ?_
        refine x_iload_n dX8_goesOn_11 rfl rfl ?_
        refine x_icmp_ge (tgt := 61) dX8_goesOn_12 (by decide) (fun h12 => ?_) (fun h12 => ?_)
        · refine x_iload_n dX8_goesOn_61 rfl rfl ?_
          refine x_ireturn rfl dX8_goesOn_62 ?_
          refine hQ _ _ ⟨_, rfl, ?_, g, l, rfl, ?_, hf, hl, hK, hTr, hs⟩
          · rw [hx, show k = n by omega]
          · exact hw.trans (hu.trans (by rw [show k = n by omega]))
        · refine x_iload_n dX8_goesOn_15 rfl rfl ?_
          refine x_aload_n dX8_goesOn_16 rfl rfl ?_
          refine x_iload_n dX8_goesOn_17 rfl rfl ?_
          refine x_if_ne (tgt := 41) dX8_goesOn_18 (by decide) (fun h18 => ?_) (fun h18 => ?_)
          · exact absurd rfl h18
          · refine x_aload_n dX8_goesOn_21 rfl rfl ?_
            refine x_bipush dX8_goesOn_22 rfl ?_
            refine g_callI (vs := [_, _]) (d' := d - 1) rfl (s_X8_drawn (M := wL M g l) (by omega) hT hw (by omega)) dX8_goesOn_24 kX8_426 (by omega) (by decide) rfl (Nat.le_of_ble_eq_true rfl) (rcv_o (by first | assumption | exact hT.2.1) rfl) (fun x24 M24 h24 => ?_)
            obtain ⟨e24, f24⟩ := h24
            subst f24
            refine x_aload_n dX8_goesOn_27 rfl rfl ?_
            refine g_getR (kI := 1) rfl dX8_goesOn_28 fX8_13_8 (by first | assumption | exact hT.2.1) (by first | assumption | exact hT.2.1) ?_
            refine x_bipush dX8_goesOn_31 rfl ?_
            refine x_iald dX8_goesOn_33 (by first | assumption | exact hT.2.1) (by omega) (by omega) ?_
            try simp (disch := omega) only [rdI_e, rdI_n, rdC_i, rdC_o, rdW, rdR, rdU_e, rdU_n, rdLW, Int.add_zero, hw]
            refine x_icmp_ge (tgt := 41) dX8_goesOn_34 (by decide) (fun h34 => ?_) (fun h34 => ?_)
            · refine x_iconst dX8_goesOn_41 rfl ?_
              rw [e24] at h34
              have hu' : (up g (m + 1) 11 (seedV (u 11))) (m + 1) = drawnV u := mciIs (M := wL M g l) hw
              first
              | (refine WP.mem (M1 := wL M (up g (m + 1) 11 (seedV (u 11))) l) rfl (fin 0 (drawnV u) _ (Or.inl rfl) hu' (ou.us (Or.inr (Or.inr rfl))) eqM_drawn (fun a' k' q1 q2 => rdU_n (by omega)) ?_ ?_ ?_ (by omega))
                 · unfold sk01 at hs ⊢
                   rw [rdU_n (by omega)]; exact hs
                 · rw [e0 True]
                   exact congrArg _ (propext ⟨fun q => absurd q (by decide), fun (q : drawV (seedV (u 11)) % 100 < u 7) => by omega⟩)
                 · exact vP_c ⟨fun q => Or.inl ⟨rfl, fun (q : drawV (seedV (u 11)) % 100 < u 7) => by omega, q.2⟩, fun q => ⟨rfl, q.elim (fun q => q.2.2) fun q => absurd rfl q.1⟩⟩)
              | (refine WP.mem (M1 := wL M (up g (m + 1) 11 (seedV (u 11))) l) rfl (fin 1 (drawnV u) _ (Or.inr rfl) hu' (ou.us (Or.inr (Or.inr rfl))) eqM_drawn (fun a' k' q1 q2 => rdU_n (by omega)) ?_ ?_ ?_ (by omega))
                 · unfold sk01 at hs ⊢
                   rw [rdU_n (by omega)]; exact hs
                 · rw [e0 True]
                   exact congrArg _ (propext ⟨fun q => (show drawV (seedV (u 11)) % 100 < u 7 by omega), fun q => rfl⟩)
                 · exact vP_c ⟨fun q => absurd q.1 (by decide), fun q => q.elim (fun q => absurd (show drawV (seedV (u 11)) % 100 < u 7 by omega) q.2.1) fun q => absurd rfl q.1⟩)
            · refine x_iconst dX8_goesOn_37 rfl ?_
              refine x_goto (tgt := 42) dX8_goesOn_38 (by decide) ?_
              rw [e24] at h34
              have hu' : (up g (m + 1) 11 (seedV (u 11))) (m + 1) = drawnV u := mciIs (M := wL M g l) hw
              first
              | (refine WP.mem (M1 := wL M (up g (m + 1) 11 (seedV (u 11))) l) rfl (fin 0 (drawnV u) _ (Or.inl rfl) hu' (ou.us (Or.inr (Or.inr rfl))) eqM_drawn (fun a' k' q1 q2 => rdU_n (by omega)) ?_ ?_ ?_ (by omega))
                 · unfold sk01 at hs ⊢
                   rw [rdU_n (by omega)]; exact hs
                 · rw [e0 True]
                   exact congrArg _ (propext ⟨fun q => absurd q (by decide), fun (q : drawV (seedV (u 11)) % 100 < u 7) => by omega⟩)
                 · exact vP_c ⟨fun q => Or.inl ⟨rfl, fun (q : drawV (seedV (u 11)) % 100 < u 7) => by omega, q.2⟩, fun q => ⟨rfl, q.elim (fun q => q.2.2) fun q => absurd rfl q.1⟩⟩)
              | (refine WP.mem (M1 := wL M (up g (m + 1) 11 (seedV (u 11))) l) rfl (fin 1 (drawnV u) _ (Or.inr rfl) hu' (ou.us (Or.inr (Or.inr rfl))) eqM_drawn (fun a' k' q1 q2 => rdU_n (by omega)) ?_ ?_ ?_ (by omega))
                 · unfold sk01 at hs ⊢
                   rw [rdU_n (by omega)]; exact hs
                 · rw [e0 True]
                   exact congrArg _ (propext ⟨fun q => (show drawV (seedV (u 11)) % 100 < u 7 by omega), fun q => rfl⟩)
                 · exact vP_c ⟨fun q => absurd q.1 (by decide), fun q => q.elim (fun q => absurd (show drawV (seedV (u 11)) % 100 < u 7 by omega) q.2.1) fun q => absurd rfl q.1⟩)
      · have e0 : tickV u ((1 : Int) = 0) = tick0 u False := by
          unfold tickV
          rw [iV_f (by decide)]
        refine x_iload dX8_goesOn_9 rfl ?_
        refine x_iload_n dX8_goesOn_11 rfl rfl ?_
        refine x_icmp_ge (tgt := 61) dX8_goesOn_12 (by decide) (fun h12 => ?_) (fun h12 => ?_)
        · refine x_iload_n dX8_goesOn_61 rfl rfl ?_
          refine x_ireturn rfl dX8_goesOn_62 ?_
          refine hQ _ _ ⟨_, rfl, ?_, g, l, rfl, ?_, hf, hl, hK, hTr, hs⟩
          · rw [hx, show k = n by omega]
          · exact hw.trans (hu.trans (by rw [show k = n by omega]))
        · refine x_iload_n dX8_goesOn_15 rfl rfl ?_
          refine x_aload_n dX8_goesOn_16 rfl rfl ?_
          refine x_iload_n dX8_goesOn_17 rfl rfl ?_
          refine x_if_ne (tgt := 41) dX8_goesOn_18 (by decide) (fun h18 => ?_) (fun h18 => ?_)
          · refine x_iconst dX8_goesOn_41 rfl ?_
            refine fin 0 u g (Or.inl rfl) hw ou (eqM.refl u) TF.rfl hs ?_ ?_ (by omega)
            · rw [e0]
              exact congrArg _ (propext ⟨fun q => absurd q (by decide), fun q => q.elim⟩)
            · exact vP_c ⟨fun q => Or.inr ⟨by decide, q.2⟩, fun q => ⟨rfl, q.elim (fun q => absurd q.1 (by decide)) fun q => q.2⟩⟩
          · exact absurd h18 (by decide)
  refine x_aload_n dX8_goesOn_0 rfl rfl ?_
  refine g_callN (vs := [_]) (d' := d - 1) rfl (s_X8_laysTraits (by omega) hT hw hv.1 hK hsk) dX8_goesOn_1 kX8_423 (by omega) (by decide) rfl (Nat.le_of_ble_eq_true rfl) (rcv_o (by first | assumption | exact hT.2.1) rfl) (fun M1 h1 => ?_)
  obtain ⟨g1, l1, hM1, q1, y1, hK1, hTr1, hsk1⟩ := h1
  subst hM1
  refine x_iconst dX8_goesOn_4 rfl ?_
  refine x_istore_n (L' := [some _, some _, some _, some _, none]) dX8_goesOn_5 rfl (by decide) rfl ?_
  refine x_iconst dX8_goesOn_6 rfl ?_
  refine x_istore (L' := [some _, some _, some _, some _, some _]) dX8_goesOn_7 (by decide) rfl ?_
  exact loop _ 0 0 g1 l1 rfl (by omega) (by omega) rfl (by omega) (q1.w hw) q1.th y1 hK1 hTr1 hsk1
end X8

