/-! GuestViewLaw: its small methods, each of which calls one method of GuestView and lays what it answers into a cell -/
/-- a handler that lays what it caught aside, into the local i, in two bytes -/
theorem th_catchY {G : GW} {d : Nat} {j : MI} {pc : Nat} {L : LV} {M : Mem} {Q : Res → Mem → Prop} {a : Int} {E : String} {name : String} {pre suf : List (Nat × Nat × Nat × Nat)} {x : Nat × Nat × Nat × Nat} {n : Nat} (hsp : j.2.2.2.2 = pre ++ x :: suf) (hp : ∀ z ∈ pre, passH j.1.cls E pc z) (hx : covers ⟨x.1, x.2.1, x.2.2.1, x.2.2.2⟩ pc = true) (hx0 : x.2.2.2 ≠ 0) (hlk : Cond.classLink j.1.cls x.2.2.2 name ∈ lw_all) (hca : Cond.castable E name ∈ lw_tbl) (hd : decode j.2.1 x.2.2.1 = .ok (.astore n, 2)) (hn : n < j.2.2.1) (k : WP G d j (x.2.2.1 + 2) [] [] M Q) : ThW G d j pc L a E M Q := by
  obtain ⟨r, M', hq, k1, k2, k⟩ := k
  refine ⟨r, M', hq, k1, k2, fun p e R s m args below meth c H locs cells slots ls rest q ce F hs hR hl hL hc hk hqa hce hv hcl => ?_⟩
  have htab : c.exceptionTable.toList = tableOf pre ++ ⟨x.1, x.2.1, x.2.2.1, x.2.2.2⟩ :: tableOf suf := by
    rw [F.2.2.2.2.2.2.2.2.2.1, hsp]
    simp [tableOf]
  refine vx_catch F.own (tableOf pre) ⟨x.1, x.2.1, x.2.2.1, x.2.2.2⟩ (tableOf suf) htab (pass_ok F.W F.ts hp) hx hx0 (F.ts _ hlk) (va_Nw.use rfl (F.W.2.1 _ hca rfl)) hce hv hcl ?_
  exact lv_astore F.1 F.2.1 hd hL.1 hn rfl fun ls' h => k p e R s m args below meth c H locs cells slots ls' F hs hR hl ⟨⟨h.1, h.2.1, fun q hq => nomatch hq⟩, fun v hv => nomatch hv⟩ okS_nil hc hk
section X0
variable {G : GW} {d : Nat} {M : Mem}
theorem s_X0_bench {P : Int → Mem → Prop} {PX : Int → String → Mem → Prop} (hd : 60 ≤ d) (hs : msh M 0 = some (1, 0)) (hf : CS G (d - 1) mX1_bench [dR 0] M (orT (postI P) PX)) (hP : ∀ y M1, P y M1 → msh M1 760 = some (102, 1)) (hX : ∀ a E M1, PX a E M1 → E = "java/lang/IllegalArgumentException" ∨ E = "java/lang/UnsupportedOperationException") : CS G d mX0_bench [dR 0, dR 760] M (postI fun k M1 => (k = 0 ∧ ∃ y M', P y M' ∧ M1 = mL M' 760 0 y) ∨ (k = 1 ∧ ∃ a, PX a "java/lang/IllegalArgumentException" M1) ∨ (k = 2 ∧ ∃ a, PX a "java/lang/UnsupportedOperationException" M1)) := by
  refine CS.mkQ (by decide) (Nat.le_of_ble_eq_true rfl) fun Q hQ => ?_
  have c0 : ∀ (a : Int) (M1 : Mem), PX a "java/lang/IllegalArgumentException" M1 → WP G d mX0_bench 12 [] [] M1 Q := by
    intro a M1 hx
    refine x_iconst dX0_bench_12 rfl ?_
    refine x_ireturn rfl dX0_bench_13 ?_
    exact hQ _ _ ⟨_, rfl, Or.inr (Or.inl ⟨rfl, a, hx⟩)⟩
  have c1 : ∀ (a : Int) (M1 : Mem), PX a "java/lang/UnsupportedOperationException" M1 → WP G d mX0_bench 15 [] [] M1 Q := by
    intro a M1 hx
    refine x_iconst dX0_bench_15 rfl ?_
    refine x_ireturn rfl dX0_bench_16 ?_
    exact hQ _ _ ⟨_, rfl, Or.inr (Or.inr (⟨rfl, a, hx⟩))⟩
  refine x_aload_n dX0_bench_0 rfl rfl ?_
  refine x_iconst dX0_bench_1 rfl ?_
  refine x_aload_n dX0_bench_2 rfl rfl ?_
  refine g_callIX (vs := [_]) (d' := d - 1) rfl (hf) dX0_bench_3 kX0_7 (by omega) (by decide) rfl (Nat.le_of_ble_eq_true rfl) (rcv_o (by first | assumption | first | assumption | (simp (disch := omega) only [shI, shR, shL, shC, shD, shW, sh_V, shN_e, shN_n, crI, crL, crC, crW, crV, crR_e, crR_n, crN_e, crN_n, ciR, ciL, ciD, ciN_e, ciN_n, rdI_e, rdI_n, rdC_i, rdC_o, rdW, rdU_e, rdU_n, rdLW, clI, clR, clC, clD, clW, clV, clN_e, clN_n, clL_e, clL_n]; done) | (simp (disch := omega) only [shI, shR, shL, shC, shD, shW, sh_V, shN_e, shN_n, crI, crL, crC, crW, crV, crR_e, crR_n, crN_e, crN_n, ciR, ciL, ciD, ciN_e, ciN_n, rdI_e, rdI_n, rdC_i, rdC_o, rdW, rdU_e, rdU_n, rdLW, clI, clR, clC, clD, clW, clV, clN_e, clN_n, clL_e, clL_n] <;> first | assumption | rfl | omega)) rfl) (fun x3 M3 h3 => ?_) (fun a3 E3 M3 h3 => ?_)
  · have hsm : msh M3 760 = some (102, 1) := hP _ _ h3
    refine x_i2l dX0_bench_6 ?_
    refine x_last (by omega) dX0_bench_7 (by first | assumption | first | assumption | (simp (disch := omega) only [shI, shR, shL, shC, shD, shW, sh_V, shN_e, shN_n, crI, crL, crC, crW, crV, crR_e, crR_n, crN_e, crN_n, ciR, ciL, ciD, ciN_e, ciN_n, rdI_e, rdI_n, rdC_i, rdC_o, rdW, rdU_e, rdU_n, rdLW, clI, clR, clC, clD, clW, clV, clN_e, clN_n, clL_e, clL_n]; done) | (simp (disch := omega) only [shI, shR, shL, shC, shD, shW, sh_V, shN_e, shN_n, crI, crL, crC, crW, crV, crR_e, crR_n, crN_e, crN_n, ciR, ciL, ciD, ciN_e, ciN_n, rdI_e, rdI_n, rdC_i, rdC_o, rdW, rdU_e, rdU_n, rdLW, clI, clR, clC, clD, clW, clV, clN_e, clN_n, clL_e, clL_n] <;> first | assumption | rfl | omega)) (by omega) (by omega) ?_
    refine x_goto (tgt := 17) dX0_bench_8 (by decide) ?_
    refine x_iconst dX0_bench_17 rfl ?_
    refine x_ireturn rfl dX0_bench_18 ?_
    exact hQ _ _ ⟨_, rfl, Or.inl ⟨rfl, _, _, h3, rfl⟩⟩
  · rcases hX _ _ _ h3 with rfl | rfl
    · exact th_catchX (pre := []) (x := (0, 8, 11, 13)) (suf := [(0, 8, 14, 15)]) rfl (fun z hz => nomatch hz) rfl (by decide) q905 q1049 dX0_bench_11 (by decide) (c0 _ _ h3)
    · exact th_catchX (pre := [(0, 8, 11, 13)]) (x := (0, 8, 14, 15)) (suf := []) rfl (fun z hz => by simp only [List.mem_cons, List.not_mem_nil, or_false] at hz; subst hz; exact Or.inr ⟨by decide, _, q905, List.mem_of_getElem? (i := 0) rfl⟩) rfl (by decide) q906 q1073 dX0_bench_14 (by decide) (c1 _ _ h3)
theorem s_X0_law {P : Int → Mem → Prop} {PX : Int → String → Mem → Prop} (hd : 60 ≤ d) (hs : msh M 0 = some (1, 0)) (hf : CS G (d - 1) mX1_law [dR 0] M (orT (postI P) PX)) (hP : ∀ y M1, P y M1 → msh M1 760 = some (102, 1)) (hX : ∀ a E M1, PX a E M1 → E = "java/lang/IllegalArgumentException") : CS G d mX0_law [dR 0, dR 760] M (postI fun k M1 => (k = 0 ∧ ∃ y M', P y M' ∧ M1 = mL M' 760 0 y) ∨ (k = 1 ∧ ∃ a, PX a "java/lang/IllegalArgumentException" M1)) := by
  refine CS.mkQ (by decide) (Nat.le_of_ble_eq_true rfl) fun Q hQ => ?_
  have c0 : ∀ (a : Int) (M1 : Mem), PX a "java/lang/IllegalArgumentException" M1 → WP G d mX0_law 12 [] [] M1 Q := by
    intro a M1 hx
    refine x_iconst dX0_law_12 rfl ?_
    refine x_ireturn rfl dX0_law_13 ?_
    exact hQ _ _ ⟨_, rfl, Or.inr (⟨rfl, a, hx⟩)⟩
  refine x_aload_n dX0_law_0 rfl rfl ?_
  refine x_iconst dX0_law_1 rfl ?_
  refine x_aload_n dX0_law_2 rfl rfl ?_
  refine g_callIX (vs := [_]) (d' := d - 1) rfl (hf) dX0_law_3 kX0_17 (by omega) (by decide) rfl (Nat.le_of_ble_eq_true rfl) (rcv_o (by first | assumption | first | assumption | (simp (disch := omega) only [shI, shR, shL, shC, shD, shW, sh_V, shN_e, shN_n, crI, crL, crC, crW, crV, crR_e, crR_n, crN_e, crN_n, ciR, ciL, ciD, ciN_e, ciN_n, rdI_e, rdI_n, rdC_i, rdC_o, rdW, rdU_e, rdU_n, rdLW, clI, clR, clC, clD, clW, clV, clN_e, clN_n, clL_e, clL_n]; done) | (simp (disch := omega) only [shI, shR, shL, shC, shD, shW, sh_V, shN_e, shN_n, crI, crL, crC, crW, crV, crR_e, crR_n, crN_e, crN_n, ciR, ciL, ciD, ciN_e, ciN_n, rdI_e, rdI_n, rdC_i, rdC_o, rdW, rdU_e, rdU_n, rdLW, clI, clR, clC, clD, clW, clV, clN_e, clN_n, clL_e, clL_n] <;> first | assumption | rfl | omega)) rfl) (fun x3 M3 h3 => ?_) (fun a3 E3 M3 h3 => ?_)
  · have hsm : msh M3 760 = some (102, 1) := hP _ _ h3
    refine x_i2l dX0_law_6 ?_
    refine x_last (by omega) dX0_law_7 (by first | assumption | first | assumption | (simp (disch := omega) only [shI, shR, shL, shC, shD, shW, sh_V, shN_e, shN_n, crI, crL, crC, crW, crV, crR_e, crR_n, crN_e, crN_n, ciR, ciL, ciD, ciN_e, ciN_n, rdI_e, rdI_n, rdC_i, rdC_o, rdW, rdU_e, rdU_n, rdLW, clI, clR, clC, clD, clW, clV, clN_e, clN_n, clL_e, clL_n]; done) | (simp (disch := omega) only [shI, shR, shL, shC, shD, shW, sh_V, shN_e, shN_n, crI, crL, crC, crW, crV, crR_e, crR_n, crN_e, crN_n, ciR, ciL, ciD, ciN_e, ciN_n, rdI_e, rdI_n, rdC_i, rdC_o, rdW, rdU_e, rdU_n, rdLW, clI, clR, clC, clD, clW, clV, clN_e, clN_n, clL_e, clL_n] <;> first | assumption | rfl | omega)) (by omega) (by omega) ?_
    refine x_goto (tgt := 14) dX0_law_8 (by decide) ?_
    refine x_iconst dX0_law_14 rfl ?_
    refine x_ireturn rfl dX0_law_15 ?_
    exact hQ _ _ ⟨_, rfl, Or.inl ⟨rfl, _, _, h3, rfl⟩⟩
  · obtain rfl := hX _ _ _ h3
    exact th_catchX (pre := []) (x := (0, 8, 11, 13)) (suf := []) rfl (fun z hz => nomatch hz) rfl (by decide) q905 q1049 dX0_law_11 (by decide) (c0 _ _ h3)
theorem s_X0_op {x0 x1 : Int} {P : Int → Mem → Prop} {PX : Int → String → Mem → Prop} (hd : 60 ≤ d) (hs : msh M 0 = some (1, 0)) (hf : CS G (d - 1) mX1_op [dR 0, dI x0, dI x1] M (orT (postI P) PX)) (hP : ∀ y M1, P y M1 → msh M1 760 = some (102, 1)) (hX : ∀ a E M1, PX a E M1 → E = "java/lang/IndexOutOfBoundsException" ∨ E = "java/util/NoSuchElementException") : CS G d mX0_op [dR 0, dI x0, dI x1, dR 760] M (postI fun k M1 => (k = 0 ∧ ∃ y M', P y M' ∧ M1 = mL M' 760 0 y) ∨ (k = 1 ∧ ∃ a, PX a "java/lang/IndexOutOfBoundsException" M1) ∨ (k = 2 ∧ ∃ a, PX a "java/util/NoSuchElementException" M1)) := by
  refine CS.mkQ (by decide) (Nat.le_of_ble_eq_true rfl) fun Q hQ => ?_
  have c0 : ∀ (a : Int) (M1 : Mem), PX a "java/lang/IndexOutOfBoundsException" M1 → WP G d mX0_op 15 [] [] M1 Q := by
    intro a M1 hx
    refine x_iconst dX0_op_15 rfl ?_
    refine x_ireturn rfl dX0_op_16 ?_
    exact hQ _ _ ⟨_, rfl, Or.inr (Or.inl ⟨rfl, a, hx⟩)⟩
  have c1 : ∀ (a : Int) (M1 : Mem), PX a "java/util/NoSuchElementException" M1 → WP G d mX0_op 19 [] [] M1 Q := by
    intro a M1 hx
    refine x_iconst dX0_op_19 rfl ?_
    refine x_ireturn rfl dX0_op_20 ?_
    exact hQ _ _ ⟨_, rfl, Or.inr (Or.inr (⟨rfl, a, hx⟩))⟩
  refine x_aload_n dX0_op_0 rfl rfl ?_
  refine x_iconst dX0_op_1 rfl ?_
  refine x_aload_n dX0_op_2 rfl rfl ?_
  refine x_iload_n dX0_op_3 rfl rfl ?_
  refine x_iload_n dX0_op_4 rfl rfl ?_
  refine g_callIX (vs := [_, _, _]) (d' := d - 1) rfl (hf) dX0_op_5 kX0_20 (by omega) (by decide) rfl (Nat.le_of_ble_eq_true rfl) (rcv_o (by first | assumption | first | assumption | (simp (disch := omega) only [shI, shR, shL, shC, shD, shW, sh_V, shN_e, shN_n, crI, crL, crC, crW, crV, crR_e, crR_n, crN_e, crN_n, ciR, ciL, ciD, ciN_e, ciN_n, rdI_e, rdI_n, rdC_i, rdC_o, rdW, rdU_e, rdU_n, rdLW, clI, clR, clC, clD, clW, clV, clN_e, clN_n, clL_e, clL_n]; done) | (simp (disch := omega) only [shI, shR, shL, shC, shD, shW, sh_V, shN_e, shN_n, crI, crL, crC, crW, crV, crR_e, crR_n, crN_e, crN_n, ciR, ciL, ciD, ciN_e, ciN_n, rdI_e, rdI_n, rdC_i, rdC_o, rdW, rdU_e, rdU_n, rdLW, clI, clR, clC, clD, clW, clV, clN_e, clN_n, clL_e, clL_n] <;> first | assumption | rfl | omega)) rfl) (fun x5 M5 h5 => ?_) (fun a5 E5 M5 h5 => ?_)
  · have hsm : msh M5 760 = some (102, 1) := hP _ _ h5
    refine x_i2l dX0_op_8 ?_
    refine x_last (by omega) dX0_op_9 (by first | assumption | first | assumption | (simp (disch := omega) only [shI, shR, shL, shC, shD, shW, sh_V, shN_e, shN_n, crI, crL, crC, crW, crV, crR_e, crR_n, crN_e, crN_n, ciR, ciL, ciD, ciN_e, ciN_n, rdI_e, rdI_n, rdC_i, rdC_o, rdW, rdU_e, rdU_n, rdLW, clI, clR, clC, clD, clW, clV, clN_e, clN_n, clL_e, clL_n]; done) | (simp (disch := omega) only [shI, shR, shL, shC, shD, shW, sh_V, shN_e, shN_n, crI, crL, crC, crW, crV, crR_e, crR_n, crN_e, crN_n, ciR, ciL, ciD, ciN_e, ciN_n, rdI_e, rdI_n, rdC_i, rdC_o, rdW, rdU_e, rdU_n, rdLW, clI, clR, clC, clD, clW, clV, clN_e, clN_n, clL_e, clL_n] <;> first | assumption | rfl | omega)) (by omega) (by omega) ?_
    refine x_goto (tgt := 21) dX0_op_10 (by decide) ?_
    refine x_iconst dX0_op_21 rfl ?_
    refine x_ireturn rfl dX0_op_22 ?_
    exact hQ _ _ ⟨_, rfl, Or.inl ⟨rfl, _, _, h5, rfl⟩⟩
  · rcases hX _ _ _ h5 with rfl | rfl
    · exact th_catchY (pre := []) (x := (0, 10, 13, 24)) (suf := [(0, 10, 17, 26)]) rfl (fun z hz => nomatch hz) rfl (by decide) q1269 q1315 dX0_op_13 (by decide) (c0 _ _ h5)
    · exact th_catchY (pre := [(0, 10, 13, 24)]) (x := (0, 10, 17, 26)) (suf := []) rfl (fun z hz => by simp only [List.mem_cons, List.not_mem_nil, or_false] at hz; subst hz; exact Or.inr ⟨by decide, _, q1269, List.mem_of_getElem? (i := 1) rfl⟩) rfl (by decide) q1301 q1341 dX0_op_17 (by decide) (c1 _ _ h5)
theorem s_X0_micro {x0 x1 x2 : Int} {P : Int → Mem → Prop} {PX : Int → String → Mem → Prop} (hd : 60 ≤ d) (hs : msh M 0 = some (1, 0)) (hf : CS G (d - 1) mX1_micro [dR 0, dI x0, dI x1, dI x2] M (orT (postI P) PX)) (hP : ∀ y M1, P y M1 → msh M1 760 = some (102, 1)) (hX : ∀ a E M1, PX a E M1 → E = "java/lang/IndexOutOfBoundsException") : CS G d mX0_micro [dR 0, dI x0, dI x1, dI x2, dR 760] M (postI fun k M1 => (k = 0 ∧ ∃ y M', P y M' ∧ M1 = mL M' 760 0 y) ∨ (k = 1 ∧ ∃ a, PX a "java/lang/IndexOutOfBoundsException" M1)) := by
  refine CS.mkQ (by decide) (Nat.le_of_ble_eq_true rfl) fun Q hQ => ?_
  have c0 : ∀ (a : Int) (M1 : Mem), PX a "java/lang/IndexOutOfBoundsException" M1 → WP G d mX0_micro 17 [] [] M1 Q := by
    intro a M1 hx
    refine x_iconst dX0_micro_17 rfl ?_
    refine x_ireturn rfl dX0_micro_18 ?_
    exact hQ _ _ ⟨_, rfl, Or.inr (⟨rfl, a, hx⟩)⟩
  refine x_aload dX0_micro_0 rfl ?_
  refine x_iconst dX0_micro_2 rfl ?_
  refine x_aload_n dX0_micro_3 rfl rfl ?_
  refine x_iload_n dX0_micro_4 rfl rfl ?_
  refine x_iload_n dX0_micro_5 rfl rfl ?_
  refine x_iload_n dX0_micro_6 rfl rfl ?_
  refine g_callIX (vs := [_, _, _, _]) (d' := d - 1) rfl (hf) dX0_micro_7 kX0_28 (by omega) (by decide) rfl (Nat.le_of_ble_eq_true rfl) (rcv_o (by first | assumption | first | assumption | (simp (disch := omega) only [shI, shR, shL, shC, shD, shW, sh_V, shN_e, shN_n, crI, crL, crC, crW, crV, crR_e, crR_n, crN_e, crN_n, ciR, ciL, ciD, ciN_e, ciN_n, rdI_e, rdI_n, rdC_i, rdC_o, rdW, rdU_e, rdU_n, rdLW, clI, clR, clC, clD, clW, clV, clN_e, clN_n, clL_e, clL_n]; done) | (simp (disch := omega) only [shI, shR, shL, shC, shD, shW, sh_V, shN_e, shN_n, crI, crL, crC, crW, crV, crR_e, crR_n, crN_e, crN_n, ciR, ciL, ciD, ciN_e, ciN_n, rdI_e, rdI_n, rdC_i, rdC_o, rdW, rdU_e, rdU_n, rdLW, clI, clR, clC, clD, clW, clV, clN_e, clN_n, clL_e, clL_n] <;> first | assumption | rfl | omega)) rfl) (fun x7 M7 h7 => ?_) (fun a7 E7 M7 h7 => ?_)
  · have hsm : msh M7 760 = some (102, 1) := hP _ _ h7
    refine x_i2l dX0_micro_10 ?_
    refine x_last (by omega) dX0_micro_11 (by first | assumption | first | assumption | (simp (disch := omega) only [shI, shR, shL, shC, shD, shW, sh_V, shN_e, shN_n, crI, crL, crC, crW, crV, crR_e, crR_n, crN_e, crN_n, ciR, ciL, ciD, ciN_e, ciN_n, rdI_e, rdI_n, rdC_i, rdC_o, rdW, rdU_e, rdU_n, rdLW, clI, clR, clC, clD, clW, clV, clN_e, clN_n, clL_e, clL_n]; done) | (simp (disch := omega) only [shI, shR, shL, shC, shD, shW, sh_V, shN_e, shN_n, crI, crL, crC, crW, crV, crR_e, crR_n, crN_e, crN_n, ciR, ciL, ciD, ciN_e, ciN_n, rdI_e, rdI_n, rdC_i, rdC_o, rdW, rdU_e, rdU_n, rdLW, clI, clR, clC, clD, clW, clV, clN_e, clN_n, clL_e, clL_n] <;> first | assumption | rfl | omega)) (by omega) (by omega) ?_
    refine x_goto (tgt := 19) dX0_micro_12 (by decide) ?_
    refine x_iconst dX0_micro_19 rfl ?_
    refine x_ireturn rfl dX0_micro_20 ?_
    exact hQ _ _ ⟨_, rfl, Or.inl ⟨rfl, _, _, h7, rfl⟩⟩
  · obtain rfl := hX _ _ _ h7
    exact th_catchY (pre := []) (x := (0, 12, 15, 24)) (suf := []) rfl (fun z hz => nomatch hz) rfl (by decide) q1269 q1315 dX0_micro_15 (by decide) (c0 _ _ h7)
theorem s_X0_witness {x0 x1 : Int} {P : Int → Mem → Prop} {PX : Int → String → Mem → Prop} (hd : 60 ≤ d) (hs : msh M 0 = some (1, 0)) (hf : CS G (d - 1) mX1_witness [dR 0, dI x0, dI x1] M (orT (postI P) PX)) (hP : ∀ y M1, P y M1 → msh M1 760 = some (102, 1)) (hX : ∀ a E M1, PX a E M1 → E = "java/lang/IndexOutOfBoundsException" ∨ E = "java/util/NoSuchElementException") : CS G d mX0_witness [dR 0, dI x0, dI x1, dR 760] M (postI fun k M1 => (k = 0 ∧ ∃ y M', P y M' ∧ M1 = mL M' 760 0 y) ∨ (k = 1 ∧ ∃ a, PX a "java/lang/IndexOutOfBoundsException" M1) ∨ (k = 2 ∧ ∃ a, PX a "java/util/NoSuchElementException" M1)) := by
  refine CS.mkQ (by decide) (Nat.le_of_ble_eq_true rfl) fun Q hQ => ?_
  have c0 : ∀ (a : Int) (M1 : Mem), PX a "java/lang/IndexOutOfBoundsException" M1 → WP G d mX0_witness 15 [] [] M1 Q := by
    intro a M1 hx
    refine x_iconst dX0_witness_15 rfl ?_
    refine x_ireturn rfl dX0_witness_16 ?_
    exact hQ _ _ ⟨_, rfl, Or.inr (Or.inl ⟨rfl, a, hx⟩)⟩
  have c1 : ∀ (a : Int) (M1 : Mem), PX a "java/util/NoSuchElementException" M1 → WP G d mX0_witness 19 [] [] M1 Q := by
    intro a M1 hx
    refine x_iconst dX0_witness_19 rfl ?_
    refine x_ireturn rfl dX0_witness_20 ?_
    exact hQ _ _ ⟨_, rfl, Or.inr (Or.inr (⟨rfl, a, hx⟩))⟩
  refine x_aload_n dX0_witness_0 rfl rfl ?_
  refine x_iconst dX0_witness_1 rfl ?_
  refine x_aload_n dX0_witness_2 rfl rfl ?_
  refine x_iload_n dX0_witness_3 rfl rfl ?_
  refine x_iload_n dX0_witness_4 rfl rfl ?_
  refine g_callIX (vs := [_, _, _]) (d' := d - 1) rfl (hf) dX0_witness_5 kX0_32 (by omega) (by decide) rfl (Nat.le_of_ble_eq_true rfl) (rcv_o (by first | assumption | first | assumption | (simp (disch := omega) only [shI, shR, shL, shC, shD, shW, sh_V, shN_e, shN_n, crI, crL, crC, crW, crV, crR_e, crR_n, crN_e, crN_n, ciR, ciL, ciD, ciN_e, ciN_n, rdI_e, rdI_n, rdC_i, rdC_o, rdW, rdU_e, rdU_n, rdLW, clI, clR, clC, clD, clW, clV, clN_e, clN_n, clL_e, clL_n]; done) | (simp (disch := omega) only [shI, shR, shL, shC, shD, shW, sh_V, shN_e, shN_n, crI, crL, crC, crW, crV, crR_e, crR_n, crN_e, crN_n, ciR, ciL, ciD, ciN_e, ciN_n, rdI_e, rdI_n, rdC_i, rdC_o, rdW, rdU_e, rdU_n, rdLW, clI, clR, clC, clD, clW, clV, clN_e, clN_n, clL_e, clL_n] <;> first | assumption | rfl | omega)) rfl) (fun x5 M5 h5 => ?_) (fun a5 E5 M5 h5 => ?_)
  · have hsm : msh M5 760 = some (102, 1) := hP _ _ h5
    refine x_i2l dX0_witness_8 ?_
    refine x_last (by omega) dX0_witness_9 (by first | assumption | first | assumption | (simp (disch := omega) only [shI, shR, shL, shC, shD, shW, sh_V, shN_e, shN_n, crI, crL, crC, crW, crV, crR_e, crR_n, crN_e, crN_n, ciR, ciL, ciD, ciN_e, ciN_n, rdI_e, rdI_n, rdC_i, rdC_o, rdW, rdU_e, rdU_n, rdLW, clI, clR, clC, clD, clW, clV, clN_e, clN_n, clL_e, clL_n]; done) | (simp (disch := omega) only [shI, shR, shL, shC, shD, shW, sh_V, shN_e, shN_n, crI, crL, crC, crW, crV, crR_e, crR_n, crN_e, crN_n, ciR, ciL, ciD, ciN_e, ciN_n, rdI_e, rdI_n, rdC_i, rdC_o, rdW, rdU_e, rdU_n, rdLW, clI, clR, clC, clD, clW, clV, clN_e, clN_n, clL_e, clL_n] <;> first | assumption | rfl | omega)) (by omega) (by omega) ?_
    refine x_goto (tgt := 21) dX0_witness_10 (by decide) ?_
    refine x_iconst dX0_witness_21 rfl ?_
    refine x_ireturn rfl dX0_witness_22 ?_
    exact hQ _ _ ⟨_, rfl, Or.inl ⟨rfl, _, _, h5, rfl⟩⟩
  · rcases hX _ _ _ h5 with rfl | rfl
    · exact th_catchY (pre := []) (x := (0, 10, 13, 24)) (suf := [(0, 10, 17, 26)]) rfl (fun z hz => nomatch hz) rfl (by decide) q1269 q1315 dX0_witness_13 (by decide) (c0 _ _ h5)
    · exact th_catchY (pre := [(0, 10, 13, 24)]) (x := (0, 10, 17, 26)) (suf := []) rfl (fun z hz => by simp only [List.mem_cons, List.not_mem_nil, or_false] at hz; subst hz; exact Or.inr ⟨by decide, _, q1269, List.mem_of_getElem? (i := 1) rfl⟩) rfl (by decide) q1301 q1341 dX0_witness_17 (by decide) (c1 _ _ h5)
theorem s_X0_done {x0 x1 x2 : Int} {P : Int → Mem → Prop} {PX : Int → String → Mem → Prop} (hd : 60 ≤ d) (hs : msh M 0 = some (1, 0)) (hf : CS G (d - 1) mX1_done [dR 0, dI x0, dI x1, dI x2] M (orT (postI P) PX)) (hP : ∀ y M1, P y M1 → msh M1 760 = some (102, 1)) (hX : ∀ a E M1, PX a E M1 → E = "java/lang/IndexOutOfBoundsException" ∨ E = "java/lang/IllegalArgumentException" ∨ E = "java/util/NoSuchElementException") : CS G d mX0_done [dR 0, dI x0, dI x1, dI x2, dR 760] M (postI fun k M1 => (k = 0 ∧ ∃ y M', P y M' ∧ M1 = mL M' 760 0 y) ∨ (k = 1 ∧ ∃ a, PX a "java/lang/IndexOutOfBoundsException" M1) ∨ (k = 2 ∧ ∃ a, PX a "java/lang/IllegalArgumentException" M1) ∨ (k = 3 ∧ ∃ a, PX a "java/util/NoSuchElementException" M1)) := by
  refine CS.mkQ (by decide) (Nat.le_of_ble_eq_true rfl) fun Q hQ => ?_
  have c0 : ∀ (a : Int) (M1 : Mem), PX a "java/lang/IndexOutOfBoundsException" M1 → WP G d mX0_done 17 [] [] M1 Q := by
    intro a M1 hx
    refine x_iconst dX0_done_17 rfl ?_
    refine x_ireturn rfl dX0_done_18 ?_
    exact hQ _ _ ⟨_, rfl, Or.inr (Or.inl ⟨rfl, a, hx⟩)⟩
  have c1 : ∀ (a : Int) (M1 : Mem), PX a "java/lang/IllegalArgumentException" M1 → WP G d mX0_done 21 [] [] M1 Q := by
    intro a M1 hx
    refine x_iconst dX0_done_21 rfl ?_
    refine x_ireturn rfl dX0_done_22 ?_
    exact hQ _ _ ⟨_, rfl, Or.inr (Or.inr (Or.inl ⟨rfl, a, hx⟩))⟩
  have c2 : ∀ (a : Int) (M1 : Mem), PX a "java/util/NoSuchElementException" M1 → WP G d mX0_done 25 [] [] M1 Q := by
    intro a M1 hx
    refine x_iconst dX0_done_25 rfl ?_
    refine x_ireturn rfl dX0_done_26 ?_
    exact hQ _ _ ⟨_, rfl, Or.inr (Or.inr (Or.inr (⟨rfl, a, hx⟩)))⟩
  refine x_aload dX0_done_0 rfl ?_
  refine x_iconst dX0_done_2 rfl ?_
  refine x_aload_n dX0_done_3 rfl rfl ?_
  refine x_iload_n dX0_done_4 rfl rfl ?_
  refine x_iload_n dX0_done_5 rfl rfl ?_
  refine x_iload_n dX0_done_6 rfl rfl ?_
  refine g_callIX (vs := [_, _, _, _]) (d' := d - 1) rfl (hf) dX0_done_7 kX0_35 (by omega) (by decide) rfl (Nat.le_of_ble_eq_true rfl) (rcv_o (by first | assumption | first | assumption | (simp (disch := omega) only [shI, shR, shL, shC, shD, shW, sh_V, shN_e, shN_n, crI, crL, crC, crW, crV, crR_e, crR_n, crN_e, crN_n, ciR, ciL, ciD, ciN_e, ciN_n, rdI_e, rdI_n, rdC_i, rdC_o, rdW, rdU_e, rdU_n, rdLW, clI, clR, clC, clD, clW, clV, clN_e, clN_n, clL_e, clL_n]; done) | (simp (disch := omega) only [shI, shR, shL, shC, shD, shW, sh_V, shN_e, shN_n, crI, crL, crC, crW, crV, crR_e, crR_n, crN_e, crN_n, ciR, ciL, ciD, ciN_e, ciN_n, rdI_e, rdI_n, rdC_i, rdC_o, rdW, rdU_e, rdU_n, rdLW, clI, clR, clC, clD, clW, clV, clN_e, clN_n, clL_e, clL_n] <;> first | assumption | rfl | omega)) rfl) (fun x7 M7 h7 => ?_) (fun a7 E7 M7 h7 => ?_)
  · have hsm : msh M7 760 = some (102, 1) := hP _ _ h7
    refine x_i2l dX0_done_10 ?_
    refine x_last (by omega) dX0_done_11 (by first | assumption | first | assumption | (simp (disch := omega) only [shI, shR, shL, shC, shD, shW, sh_V, shN_e, shN_n, crI, crL, crC, crW, crV, crR_e, crR_n, crN_e, crN_n, ciR, ciL, ciD, ciN_e, ciN_n, rdI_e, rdI_n, rdC_i, rdC_o, rdW, rdU_e, rdU_n, rdLW, clI, clR, clC, clD, clW, clV, clN_e, clN_n, clL_e, clL_n]; done) | (simp (disch := omega) only [shI, shR, shL, shC, shD, shW, sh_V, shN_e, shN_n, crI, crL, crC, crW, crV, crR_e, crR_n, crN_e, crN_n, ciR, ciL, ciD, ciN_e, ciN_n, rdI_e, rdI_n, rdC_i, rdC_o, rdW, rdU_e, rdU_n, rdLW, clI, clR, clC, clD, clW, clV, clN_e, clN_n, clL_e, clL_n] <;> first | assumption | rfl | omega)) (by omega) (by omega) ?_
    refine x_goto (tgt := 27) dX0_done_12 (by decide) ?_
    refine x_iconst dX0_done_27 rfl ?_
    refine x_ireturn rfl dX0_done_28 ?_
    exact hQ _ _ ⟨_, rfl, Or.inl ⟨rfl, _, _, h7, rfl⟩⟩
  · rcases hX _ _ _ h7 with rfl | rfl | rfl
    · exact th_catchY (pre := []) (x := (0, 12, 15, 24)) (suf := [(0, 12, 19, 13), (0, 12, 23, 26)]) rfl (fun z hz => nomatch hz) rfl (by decide) q1269 q1315 dX0_done_15 (by decide) (c0 _ _ h7)
    · exact th_catchY (pre := [(0, 12, 15, 24)]) (x := (0, 12, 19, 13)) (suf := [(0, 12, 23, 26)]) rfl (fun z hz => by simp only [List.mem_cons, List.not_mem_nil, or_false] at hz; subst hz; exact Or.inr ⟨by decide, _, q1269, List.mem_of_getElem? (i := 2) rfl⟩) rfl (by decide) q905 q1049 dX0_done_19 (by decide) (c1 _ _ h7)
    · exact th_catchY (pre := [(0, 12, 15, 24), (0, 12, 19, 13)]) (x := (0, 12, 23, 26)) (suf := []) rfl (fun z hz => by simp only [List.mem_cons, List.not_mem_nil, or_false] at hz; rcases hz with rfl | rfl <;> first | exact Or.inr ⟨by decide, _, q1269, List.mem_of_getElem? (i := 1) rfl⟩ | exact Or.inr ⟨by decide, _, q905, List.mem_of_getElem? (i := 3) rfl⟩) rfl (by decide) q1301 q1341 dX0_done_23 (by decide) (c2 _ _ h7)
theorem s_X0_cell {x0 : Int} {P : Int → Mem → Prop} {PX : Int → String → Mem → Prop} (hd : 60 ≤ d) (hs : msh M 0 = some (1, 0)) (hf : CS G (d - 1) mX1_cell [dR 0, dI x0] M (orT (postI P) PX)) (hP : ∀ y M1, P y M1 → msh M1 760 = some (102, 1)) (hX : ∀ a E M1, PX a E M1 → E = "java/lang/IndexOutOfBoundsException") : CS G d mX0_cell [dR 0, dI x0, dR 760] M (postI fun k M1 => (k = 0 ∧ ∃ y M', P y M' ∧ M1 = mL M' 760 0 y) ∨ (k = 1 ∧ ∃ a, PX a "java/lang/IndexOutOfBoundsException" M1)) := by
  refine CS.mkQ (by decide) (Nat.le_of_ble_eq_true rfl) fun Q hQ => ?_
  have c0 : ∀ (a : Int) (M1 : Mem), PX a "java/lang/IndexOutOfBoundsException" M1 → WP G d mX0_cell 13 [] [] M1 Q := by
    intro a M1 hx
    refine x_iconst dX0_cell_13 rfl ?_
    refine x_ireturn rfl dX0_cell_14 ?_
    exact hQ _ _ ⟨_, rfl, Or.inr (⟨rfl, a, hx⟩)⟩
  refine x_aload_n dX0_cell_0 rfl rfl ?_
  refine x_iconst dX0_cell_1 rfl ?_
  refine x_aload_n dX0_cell_2 rfl rfl ?_
  refine x_iload_n dX0_cell_3 rfl rfl ?_
  refine g_callIX (vs := [_, _]) (d' := d - 1) rfl (hf) dX0_cell_4 kX0_39 (by omega) (by decide) rfl (Nat.le_of_ble_eq_true rfl) (rcv_o (by first | assumption | first | assumption | (simp (disch := omega) only [shI, shR, shL, shC, shD, shW, sh_V, shN_e, shN_n, crI, crL, crC, crW, crV, crR_e, crR_n, crN_e, crN_n, ciR, ciL, ciD, ciN_e, ciN_n, rdI_e, rdI_n, rdC_i, rdC_o, rdW, rdU_e, rdU_n, rdLW, clI, clR, clC, clD, clW, clV, clN_e, clN_n, clL_e, clL_n]; done) | (simp (disch := omega) only [shI, shR, shL, shC, shD, shW, sh_V, shN_e, shN_n, crI, crL, crC, crW, crV, crR_e, crR_n, crN_e, crN_n, ciR, ciL, ciD, ciN_e, ciN_n, rdI_e, rdI_n, rdC_i, rdC_o, rdW, rdU_e, rdU_n, rdLW, clI, clR, clC, clD, clW, clV, clN_e, clN_n, clL_e, clL_n] <;> first | assumption | rfl | omega)) rfl) (fun x4 M4 h4 => ?_) (fun a4 E4 M4 h4 => ?_)
  · have hsm : msh M4 760 = some (102, 1) := hP _ _ h4
    refine x_i2l dX0_cell_7 ?_
    refine x_last (by omega) dX0_cell_8 (by first | assumption | first | assumption | (simp (disch := omega) only [shI, shR, shL, shC, shD, shW, sh_V, shN_e, shN_n, crI, crL, crC, crW, crV, crR_e, crR_n, crN_e, crN_n, ciR, ciL, ciD, ciN_e, ciN_n, rdI_e, rdI_n, rdC_i, rdC_o, rdW, rdU_e, rdU_n, rdLW, clI, clR, clC, clD, clW, clV, clN_e, clN_n, clL_e, clL_n]; done) | (simp (disch := omega) only [shI, shR, shL, shC, shD, shW, sh_V, shN_e, shN_n, crI, crL, crC, crW, crV, crR_e, crR_n, crN_e, crN_n, ciR, ciL, ciD, ciN_e, ciN_n, rdI_e, rdI_n, rdC_i, rdC_o, rdW, rdU_e, rdU_n, rdLW, clI, clR, clC, clD, clW, clV, clN_e, clN_n, clL_e, clL_n] <;> first | assumption | rfl | omega)) (by omega) (by omega) ?_
    refine x_goto (tgt := 15) dX0_cell_9 (by decide) ?_
    refine x_iconst dX0_cell_15 rfl ?_
    refine x_ireturn rfl dX0_cell_16 ?_
    exact hQ _ _ ⟨_, rfl, Or.inl ⟨rfl, _, _, h4, rfl⟩⟩
  · obtain rfl := hX _ _ _ h4
    exact th_catchX (pre := []) (x := (0, 9, 12, 24)) (suf := []) rfl (fun z hz => nomatch hz) rfl (by decide) q1269 q1315 dX0_cell_12 (by decide) (c0 _ _ h4)
theorem s_X0_guest {x0 x1 : Int} {P : Int → Mem → Prop} {PX : Int → String → Mem → Prop} (hd : 60 ≤ d) (hs : msh M 0 = some (1, 0)) (hf : CS G (d - 1) mX1_guest [dR 0, dI x0, dI x1] M (orT (postI P) PX)) (hP : ∀ y M1, P y M1 → msh M1 760 = some (102, 1)) (hX : ∀ a E M1, PX a E M1 → E = "java/util/NoSuchElementException") : CS G d mX0_guest [dR 0, dI x0, dI x1, dR 760] M (postI fun k M1 => (k = 0 ∧ ∃ y M', P y M' ∧ M1 = mL M' 760 0 y) ∨ (k = 1 ∧ ∃ a, PX a "java/util/NoSuchElementException" M1)) := by
  refine CS.mkQ (by decide) (Nat.le_of_ble_eq_true rfl) fun Q hQ => ?_
  have c0 : ∀ (a : Int) (M1 : Mem), PX a "java/util/NoSuchElementException" M1 → WP G d mX0_guest 15 [] [] M1 Q := by
    intro a M1 hx
    refine x_iconst dX0_guest_15 rfl ?_
    refine x_ireturn rfl dX0_guest_16 ?_
    exact hQ _ _ ⟨_, rfl, Or.inr (⟨rfl, a, hx⟩)⟩
  refine x_aload_n dX0_guest_0 rfl rfl ?_
  refine x_iconst dX0_guest_1 rfl ?_
  refine x_aload_n dX0_guest_2 rfl rfl ?_
  refine x_iload_n dX0_guest_3 rfl rfl ?_
  refine x_iload_n dX0_guest_4 rfl rfl ?_
  refine g_callIX (vs := [_, _, _]) (d' := d - 1) rfl (hf) dX0_guest_5 kX0_43 (by omega) (by decide) rfl (Nat.le_of_ble_eq_true rfl) (rcv_o (by first | assumption | first | assumption | (simp (disch := omega) only [shI, shR, shL, shC, shD, shW, sh_V, shN_e, shN_n, crI, crL, crC, crW, crV, crR_e, crR_n, crN_e, crN_n, ciR, ciL, ciD, ciN_e, ciN_n, rdI_e, rdI_n, rdC_i, rdC_o, rdW, rdU_e, rdU_n, rdLW, clI, clR, clC, clD, clW, clV, clN_e, clN_n, clL_e, clL_n]; done) | (simp (disch := omega) only [shI, shR, shL, shC, shD, shW, sh_V, shN_e, shN_n, crI, crL, crC, crW, crV, crR_e, crR_n, crN_e, crN_n, ciR, ciL, ciD, ciN_e, ciN_n, rdI_e, rdI_n, rdC_i, rdC_o, rdW, rdU_e, rdU_n, rdLW, clI, clR, clC, clD, clW, clV, clN_e, clN_n, clL_e, clL_n] <;> first | assumption | rfl | omega)) rfl) (fun x5 M5 h5 => ?_) (fun a5 E5 M5 h5 => ?_)
  · have hsm : msh M5 760 = some (102, 1) := hP _ _ h5
    refine x_i2l dX0_guest_8 ?_
    refine x_last (by omega) dX0_guest_9 (by first | assumption | first | assumption | (simp (disch := omega) only [shI, shR, shL, shC, shD, shW, sh_V, shN_e, shN_n, crI, crL, crC, crW, crV, crR_e, crR_n, crN_e, crN_n, ciR, ciL, ciD, ciN_e, ciN_n, rdI_e, rdI_n, rdC_i, rdC_o, rdW, rdU_e, rdU_n, rdLW, clI, clR, clC, clD, clW, clV, clN_e, clN_n, clL_e, clL_n]; done) | (simp (disch := omega) only [shI, shR, shL, shC, shD, shW, sh_V, shN_e, shN_n, crI, crL, crC, crW, crV, crR_e, crR_n, crN_e, crN_n, ciR, ciL, ciD, ciN_e, ciN_n, rdI_e, rdI_n, rdC_i, rdC_o, rdW, rdU_e, rdU_n, rdLW, clI, clR, clC, clD, clW, clV, clN_e, clN_n, clL_e, clL_n] <;> first | assumption | rfl | omega)) (by omega) (by omega) ?_
    refine x_goto (tgt := 17) dX0_guest_10 (by decide) ?_
    refine x_iconst dX0_guest_17 rfl ?_
    refine x_ireturn rfl dX0_guest_18 ?_
    exact hQ _ _ ⟨_, rfl, Or.inl ⟨rfl, _, _, h5, rfl⟩⟩
  · obtain rfl := hX _ _ _ h5
    exact th_catchY (pre := []) (x := (0, 10, 13, 26)) (suf := []) rfl (fun z hz => nomatch hz) rfl (by decide) q1301 q1341 dX0_guest_13 (by decide) (c0 _ _ h5)
theorem s_X0_ticks {x0 : Int} {P : Int → Mem → Prop} {PX : Int → String → Mem → Prop} (hd : 60 ≤ d) (hs : msh M 0 = some (1, 0)) (hf : CS G (d - 1) mX1_ticks [dR 0, dI x0] M (orT (postI P) PX)) (hP : ∀ y M1, P y M1 → msh M1 760 = some (102, 1)) (hX : ∀ a E M1, PX a E M1 → E = "java/lang/IllegalArgumentException") : CS G d mX0_ticks [dR 0, dI x0, dR 760] M (postI fun k M1 => (k = 0 ∧ ∃ y M', P y M' ∧ M1 = mL M' 760 0 y) ∨ (k = 1 ∧ ∃ a, PX a "java/lang/IllegalArgumentException" M1)) := by
  refine CS.mkQ (by decide) (Nat.le_of_ble_eq_true rfl) fun Q hQ => ?_
  have c0 : ∀ (a : Int) (M1 : Mem), PX a "java/lang/IllegalArgumentException" M1 → WP G d mX0_ticks 13 [] [] M1 Q := by
    intro a M1 hx
    refine x_iconst dX0_ticks_13 rfl ?_
    refine x_ireturn rfl dX0_ticks_14 ?_
    exact hQ _ _ ⟨_, rfl, Or.inr (⟨rfl, a, hx⟩)⟩
  refine x_aload_n dX0_ticks_0 rfl rfl ?_
  refine x_iconst dX0_ticks_1 rfl ?_
  refine x_aload_n dX0_ticks_2 rfl rfl ?_
  refine x_iload_n dX0_ticks_3 rfl rfl ?_
  refine g_callIX (vs := [_, _]) (d' := d - 1) rfl (hf) dX0_ticks_4 kX0_47 (by omega) (by decide) rfl (Nat.le_of_ble_eq_true rfl) (rcv_o (by first | assumption | first | assumption | (simp (disch := omega) only [shI, shR, shL, shC, shD, shW, sh_V, shN_e, shN_n, crI, crL, crC, crW, crV, crR_e, crR_n, crN_e, crN_n, ciR, ciL, ciD, ciN_e, ciN_n, rdI_e, rdI_n, rdC_i, rdC_o, rdW, rdU_e, rdU_n, rdLW, clI, clR, clC, clD, clW, clV, clN_e, clN_n, clL_e, clL_n]; done) | (simp (disch := omega) only [shI, shR, shL, shC, shD, shW, sh_V, shN_e, shN_n, crI, crL, crC, crW, crV, crR_e, crR_n, crN_e, crN_n, ciR, ciL, ciD, ciN_e, ciN_n, rdI_e, rdI_n, rdC_i, rdC_o, rdW, rdU_e, rdU_n, rdLW, clI, clR, clC, clD, clW, clV, clN_e, clN_n, clL_e, clL_n] <;> first | assumption | rfl | omega)) rfl) (fun x4 M4 h4 => ?_) (fun a4 E4 M4 h4 => ?_)
  · have hsm : msh M4 760 = some (102, 1) := hP _ _ h4
    refine x_i2l dX0_ticks_7 ?_
    refine x_last (by omega) dX0_ticks_8 (by first | assumption | first | assumption | (simp (disch := omega) only [shI, shR, shL, shC, shD, shW, sh_V, shN_e, shN_n, crI, crL, crC, crW, crV, crR_e, crR_n, crN_e, crN_n, ciR, ciL, ciD, ciN_e, ciN_n, rdI_e, rdI_n, rdC_i, rdC_o, rdW, rdU_e, rdU_n, rdLW, clI, clR, clC, clD, clW, clV, clN_e, clN_n, clL_e, clL_n]; done) | (simp (disch := omega) only [shI, shR, shL, shC, shD, shW, sh_V, shN_e, shN_n, crI, crL, crC, crW, crV, crR_e, crR_n, crN_e, crN_n, ciR, ciL, ciD, ciN_e, ciN_n, rdI_e, rdI_n, rdC_i, rdC_o, rdW, rdU_e, rdU_n, rdLW, clI, clR, clC, clD, clW, clV, clN_e, clN_n, clL_e, clL_n] <;> first | assumption | rfl | omega)) (by omega) (by omega) ?_
    refine x_goto (tgt := 15) dX0_ticks_9 (by decide) ?_
    refine x_iconst dX0_ticks_15 rfl ?_
    refine x_ireturn rfl dX0_ticks_16 ?_
    exact hQ _ _ ⟨_, rfl, Or.inl ⟨rfl, _, _, h4, rfl⟩⟩
  · obtain rfl := hX _ _ _ h4
    exact th_catchX (pre := []) (x := (0, 9, 12, 13)) (suf := []) rfl (fun z hz => nomatch hz) rfl (by decide) q905 q1049 dX0_ticks_12 (by decide) (c0 _ _ h4)
theorem s_X0_patch {x0 x1 : Int} {P : Int → Mem → Prop} {PX : Int → String → Mem → Prop} (hd : 60 ≤ d) (hs : msh M 0 = some (1, 0)) (hf : CS G (d - 1) mX1_patch [dR 0, dI x0, dI x1] M (orT (postI P) PX)) (hP : ∀ y M1, P y M1 → msh M1 760 = some (102, 1) ∧ (y = 0 ∨ y = 1)) (hX : ∀ a E M1, PX a E M1 → E = "java/lang/IndexOutOfBoundsException") : CS G d mX0_patch [dR 0, dI x0, dI x1, dR 760] M (postI fun k M1 => (k = 0 ∧ ∃ y M', P y M' ∧ M1 = mL M' 760 0 y) ∨ (k = 1 ∧ ∃ a, PX a "java/lang/IndexOutOfBoundsException" M1)) := by
  refine CS.mkQ (by decide) (Nat.le_of_ble_eq_true rfl) fun Q hQ => ?_
  have c0 : ∀ (a : Int) (M1 : Mem), PX a "java/lang/IndexOutOfBoundsException" M1 → WP G d mX0_patch 22 [] [] M1 Q := by
    intro a M1 hx
    refine x_iconst dX0_patch_22 rfl ?_
    refine x_ireturn rfl dX0_patch_23 ?_
    exact hQ _ _ ⟨_, rfl, Or.inr (⟨rfl, a, hx⟩)⟩
  refine x_aload_n dX0_patch_0 rfl rfl ?_
  refine x_iconst dX0_patch_1 rfl ?_
  refine x_aload_n dX0_patch_2 rfl rfl ?_
  refine x_iload_n dX0_patch_3 rfl rfl ?_
  refine x_iload_n dX0_patch_4 rfl rfl ?_
  refine g_callIX (vs := [_, _, _]) (d' := d - 1) rfl (hf) dX0_patch_5 kX0_50 (by omega) (by decide) rfl (Nat.le_of_ble_eq_true rfl) (rcv_o (by first | assumption | first | assumption | (simp (disch := omega) only [shI, shR, shL, shC, shD, shW, sh_V, shN_e, shN_n, crI, crL, crC, crW, crV, crR_e, crR_n, crN_e, crN_n, ciR, ciL, ciD, ciN_e, ciN_n, rdI_e, rdI_n, rdC_i, rdC_o, rdW, rdU_e, rdU_n, rdLW, clI, clR, clC, clD, clW, clV, clN_e, clN_n, clL_e, clL_n]; done) | (simp (disch := omega) only [shI, shR, shL, shC, shD, shW, sh_V, shN_e, shN_n, crI, crL, crC, crW, crV, crR_e, crR_n, crN_e, crN_n, ciR, ciL, ciD, ciN_e, ciN_n, rdI_e, rdI_n, rdC_i, rdC_o, rdW, rdU_e, rdU_n, rdLW, clI, clR, clC, clD, clW, clV, clN_e, clN_n, clL_e, clL_n] <;> first | assumption | rfl | omega)) rfl) (fun x5 M5 h5 => ?_) (fun a5 E5 M5 h5 => ?_)
  · have hsm : msh M5 760 = some (102, 1) := (hP _ _ h5).1
    refine x_if_eq (tgt := 15) dX0_patch_8 (by decide) (fun q1 => ?_) (fun q1 => ?_)
    · refine x_lconst (z := 0) dX0_patch_15 rfl ?_
      refine x_last (by omega) dX0_patch_16 (by first | assumption | first | assumption | (simp (disch := omega) only [shI, shR, shL, shC, shD, shW, sh_V, shN_e, shN_n, crI, crL, crC, crW, crV, crR_e, crR_n, crN_e, crN_n, ciR, ciL, ciD, ciN_e, ciN_n, rdI_e, rdI_n, rdC_i, rdC_o, rdW, rdU_e, rdU_n, rdLW, clI, clR, clC, clD, clW, clV, clN_e, clN_n, clL_e, clL_n]; done) | (simp (disch := omega) only [shI, shR, shL, shC, shD, shW, sh_V, shN_e, shN_n, crI, crL, crC, crW, crV, crR_e, crR_n, crN_e, crN_n, ciR, ciL, ciD, ciN_e, ciN_n, rdI_e, rdI_n, rdC_i, rdC_o, rdW, rdU_e, rdU_n, rdLW, clI, clR, clC, clD, clW, clV, clN_e, clN_n, clL_e, clL_n] <;> first | assumption | rfl | omega)) (by omega) (by omega) ?_
      refine x_goto (tgt := 24) dX0_patch_17 (by decide) ?_
      refine x_iconst dX0_patch_24 rfl ?_
      refine x_ireturn rfl dX0_patch_25 ?_
      have e := (hP _ _ h5).2
      refine hQ _ _ ⟨_, rfl, Or.inl ⟨rfl, _, _, h5, ?_⟩⟩
      first
        | (rw [show x5 = 0 from q1])
        | (rw [show x5 = 1 from by omega])
    · refine x_lconst (z := 1) dX0_patch_11 rfl ?_
      refine x_goto (tgt := 16) dX0_patch_12 (by decide) ?_
      refine x_last (by omega) dX0_patch_16 (by first | assumption | first | assumption | (simp (disch := omega) only [shI, shR, shL, shC, shD, shW, sh_V, shN_e, shN_n, crI, crL, crC, crW, crV, crR_e, crR_n, crN_e, crN_n, ciR, ciL, ciD, ciN_e, ciN_n, rdI_e, rdI_n, rdC_i, rdC_o, rdW, rdU_e, rdU_n, rdLW, clI, clR, clC, clD, clW, clV, clN_e, clN_n, clL_e, clL_n]; done) | (simp (disch := omega) only [shI, shR, shL, shC, shD, shW, sh_V, shN_e, shN_n, crI, crL, crC, crW, crV, crR_e, crR_n, crN_e, crN_n, ciR, ciL, ciD, ciN_e, ciN_n, rdI_e, rdI_n, rdC_i, rdC_o, rdW, rdU_e, rdU_n, rdLW, clI, clR, clC, clD, clW, clV, clN_e, clN_n, clL_e, clL_n] <;> first | assumption | rfl | omega)) (by omega) (by omega) ?_
      refine x_goto (tgt := 24) dX0_patch_17 (by decide) ?_
      refine x_iconst dX0_patch_24 rfl ?_
      refine x_ireturn rfl dX0_patch_25 ?_
      have e := (hP _ _ h5).2
      refine hQ _ _ ⟨_, rfl, Or.inl ⟨rfl, _, _, h5, ?_⟩⟩
      first
        | (rw [show x5 = 0 from q1])
        | (rw [show x5 = 1 from by omega])
  · obtain rfl := hX _ _ _ h5
    exact th_catchY (pre := []) (x := (0, 17, 20, 24)) (suf := []) rfl (fun z hz => nomatch hz) rfl (by decide) q1269 q1315 dX0_patch_20 (by decide) (c0 _ _ h5)
theorem s_X0_guard {x0 x1 : Int} {P : Int → Mem → Prop} {PX : Int → String → Mem → Prop} (hd : 60 ≤ d) (hs : msh M 0 = some (1, 0)) (hf : CS G (d - 1) mX1_guard [dR 0, dI x0, dI x1] M (orT (postI P) PX)) (hP : ∀ y M1, P y M1 → msh M1 760 = some (102, 1) ∧ (y = 0 ∨ y = 1)) (hX : ∀ a E M1, PX a E M1 → E = "java/lang/IndexOutOfBoundsException") : CS G d mX0_guard [dR 0, dI x0, dI x1, dR 760] M (postI fun k M1 => (k = 0 ∧ ∃ y M', P y M' ∧ M1 = mL M' 760 0 y) ∨ (k = 1 ∧ ∃ a, PX a "java/lang/IndexOutOfBoundsException" M1)) := by
  refine CS.mkQ (by decide) (Nat.le_of_ble_eq_true rfl) fun Q hQ => ?_
  have c0 : ∀ (a : Int) (M1 : Mem), PX a "java/lang/IndexOutOfBoundsException" M1 → WP G d mX0_guard 22 [] [] M1 Q := by
    intro a M1 hx
    refine x_iconst dX0_guard_22 rfl ?_
    refine x_ireturn rfl dX0_guard_23 ?_
    exact hQ _ _ ⟨_, rfl, Or.inr (⟨rfl, a, hx⟩)⟩
  refine x_aload_n dX0_guard_0 rfl rfl ?_
  refine x_iconst dX0_guard_1 rfl ?_
  refine x_aload_n dX0_guard_2 rfl rfl ?_
  refine x_iload_n dX0_guard_3 rfl rfl ?_
  refine x_iload_n dX0_guard_4 rfl rfl ?_
  refine g_callIX (vs := [_, _, _]) (d' := d - 1) rfl (hf) dX0_guard_5 kX0_54 (by omega) (by decide) rfl (Nat.le_of_ble_eq_true rfl) (rcv_o (by first | assumption | first | assumption | (simp (disch := omega) only [shI, shR, shL, shC, shD, shW, sh_V, shN_e, shN_n, crI, crL, crC, crW, crV, crR_e, crR_n, crN_e, crN_n, ciR, ciL, ciD, ciN_e, ciN_n, rdI_e, rdI_n, rdC_i, rdC_o, rdW, rdU_e, rdU_n, rdLW, clI, clR, clC, clD, clW, clV, clN_e, clN_n, clL_e, clL_n]; done) | (simp (disch := omega) only [shI, shR, shL, shC, shD, shW, sh_V, shN_e, shN_n, crI, crL, crC, crW, crV, crR_e, crR_n, crN_e, crN_n, ciR, ciL, ciD, ciN_e, ciN_n, rdI_e, rdI_n, rdC_i, rdC_o, rdW, rdU_e, rdU_n, rdLW, clI, clR, clC, clD, clW, clV, clN_e, clN_n, clL_e, clL_n] <;> first | assumption | rfl | omega)) rfl) (fun x5 M5 h5 => ?_) (fun a5 E5 M5 h5 => ?_)
  · have hsm : msh M5 760 = some (102, 1) := (hP _ _ h5).1
    refine x_if_eq (tgt := 15) dX0_guard_8 (by decide) (fun q1 => ?_) (fun q1 => ?_)
    · refine x_lconst (z := 0) dX0_guard_15 rfl ?_
      refine x_last (by omega) dX0_guard_16 (by first | assumption | first | assumption | (simp (disch := omega) only [shI, shR, shL, shC, shD, shW, sh_V, shN_e, shN_n, crI, crL, crC, crW, crV, crR_e, crR_n, crN_e, crN_n, ciR, ciL, ciD, ciN_e, ciN_n, rdI_e, rdI_n, rdC_i, rdC_o, rdW, rdU_e, rdU_n, rdLW, clI, clR, clC, clD, clW, clV, clN_e, clN_n, clL_e, clL_n]; done) | (simp (disch := omega) only [shI, shR, shL, shC, shD, shW, sh_V, shN_e, shN_n, crI, crL, crC, crW, crV, crR_e, crR_n, crN_e, crN_n, ciR, ciL, ciD, ciN_e, ciN_n, rdI_e, rdI_n, rdC_i, rdC_o, rdW, rdU_e, rdU_n, rdLW, clI, clR, clC, clD, clW, clV, clN_e, clN_n, clL_e, clL_n] <;> first | assumption | rfl | omega)) (by omega) (by omega) ?_
      refine x_goto (tgt := 24) dX0_guard_17 (by decide) ?_
      refine x_iconst dX0_guard_24 rfl ?_
      refine x_ireturn rfl dX0_guard_25 ?_
      have e := (hP _ _ h5).2
      refine hQ _ _ ⟨_, rfl, Or.inl ⟨rfl, _, _, h5, ?_⟩⟩
      first
        | (rw [show x5 = 0 from q1])
        | (rw [show x5 = 1 from by omega])
    · refine x_lconst (z := 1) dX0_guard_11 rfl ?_
      refine x_goto (tgt := 16) dX0_guard_12 (by decide) ?_
      refine x_last (by omega) dX0_guard_16 (by first | assumption | first | assumption | (simp (disch := omega) only [shI, shR, shL, shC, shD, shW, sh_V, shN_e, shN_n, crI, crL, crC, crW, crV, crR_e, crR_n, crN_e, crN_n, ciR, ciL, ciD, ciN_e, ciN_n, rdI_e, rdI_n, rdC_i, rdC_o, rdW, rdU_e, rdU_n, rdLW, clI, clR, clC, clD, clW, clV, clN_e, clN_n, clL_e, clL_n]; done) | (simp (disch := omega) only [shI, shR, shL, shC, shD, shW, sh_V, shN_e, shN_n, crI, crL, crC, crW, crV, crR_e, crR_n, crN_e, crN_n, ciR, ciL, ciD, ciN_e, ciN_n, rdI_e, rdI_n, rdC_i, rdC_o, rdW, rdU_e, rdU_n, rdLW, clI, clR, clC, clD, clW, clV, clN_e, clN_n, clL_e, clL_n] <;> first | assumption | rfl | omega)) (by omega) (by omega) ?_
      refine x_goto (tgt := 24) dX0_guard_17 (by decide) ?_
      refine x_iconst dX0_guard_24 rfl ?_
      refine x_ireturn rfl dX0_guard_25 ?_
      have e := (hP _ _ h5).2
      refine hQ _ _ ⟨_, rfl, Or.inl ⟨rfl, _, _, h5, ?_⟩⟩
      first
        | (rw [show x5 = 0 from q1])
        | (rw [show x5 = 1 from by omega])
  · obtain rfl := hX _ _ _ h5
    exact th_catchY (pre := []) (x := (0, 17, 20, 24)) (suf := []) rfl (fun z hz => nomatch hz) rfl (by decide) q1269 q1315 dX0_guard_20 (by decide) (c0 _ _ h5)
theorem s_X0_put {x0 x1 : Int} {P : Int → Mem → Prop} {PX : Int → String → Mem → Prop} (hd : 60 ≤ d) (hs : msh M 0 = some (1, 0)) (hf : CS G (d - 1) mX1_put [dR 0, dI x0, dI x1] M (orT (postI P) PX)) (hP : ∀ y M1, P y M1 → msh M1 760 = some (102, 1)) (hX : ∀ a E M1, PX a E M1 → E = "java/lang/IndexOutOfBoundsException") : CS G d mX0_put [dR 0, dI x0, dI x1, dR 760] M (postI fun k M1 => (k = 0 ∧ ∃ y M', P y M' ∧ M1 = mL M' 760 0 y) ∨ (k = 1 ∧ ∃ a, PX a "java/lang/IndexOutOfBoundsException" M1)) := by
  refine CS.mkQ (by decide) (Nat.le_of_ble_eq_true rfl) fun Q hQ => ?_
  have c0 : ∀ (a : Int) (M1 : Mem), PX a "java/lang/IndexOutOfBoundsException" M1 → WP G d mX0_put 15 [] [] M1 Q := by
    intro a M1 hx
    refine x_iconst dX0_put_15 rfl ?_
    refine x_ireturn rfl dX0_put_16 ?_
    exact hQ _ _ ⟨_, rfl, Or.inr (⟨rfl, a, hx⟩)⟩
  refine x_aload_n dX0_put_0 rfl rfl ?_
  refine x_iconst dX0_put_1 rfl ?_
  refine x_aload_n dX0_put_2 rfl rfl ?_
  refine x_iload_n dX0_put_3 rfl rfl ?_
  refine x_iload_n dX0_put_4 rfl rfl ?_
  refine g_callIX (vs := [_, _, _]) (d' := d - 1) rfl (hf) dX0_put_5 kX0_57 (by omega) (by decide) rfl (Nat.le_of_ble_eq_true rfl) (rcv_o (by first | assumption | first | assumption | (simp (disch := omega) only [shI, shR, shL, shC, shD, shW, sh_V, shN_e, shN_n, crI, crL, crC, crW, crV, crR_e, crR_n, crN_e, crN_n, ciR, ciL, ciD, ciN_e, ciN_n, rdI_e, rdI_n, rdC_i, rdC_o, rdW, rdU_e, rdU_n, rdLW, clI, clR, clC, clD, clW, clV, clN_e, clN_n, clL_e, clL_n]; done) | (simp (disch := omega) only [shI, shR, shL, shC, shD, shW, sh_V, shN_e, shN_n, crI, crL, crC, crW, crV, crR_e, crR_n, crN_e, crN_n, ciR, ciL, ciD, ciN_e, ciN_n, rdI_e, rdI_n, rdC_i, rdC_o, rdW, rdU_e, rdU_n, rdLW, clI, clR, clC, clD, clW, clV, clN_e, clN_n, clL_e, clL_n] <;> first | assumption | rfl | omega)) rfl) (fun x5 M5 h5 => ?_) (fun a5 E5 M5 h5 => ?_)
  · have hsm : msh M5 760 = some (102, 1) := hP _ _ h5
    refine x_i2l dX0_put_8 ?_
    refine x_last (by omega) dX0_put_9 (by first | assumption | first | assumption | (simp (disch := omega) only [shI, shR, shL, shC, shD, shW, sh_V, shN_e, shN_n, crI, crL, crC, crW, crV, crR_e, crR_n, crN_e, crN_n, ciR, ciL, ciD, ciN_e, ciN_n, rdI_e, rdI_n, rdC_i, rdC_o, rdW, rdU_e, rdU_n, rdLW, clI, clR, clC, clD, clW, clV, clN_e, clN_n, clL_e, clL_n]; done) | (simp (disch := omega) only [shI, shR, shL, shC, shD, shW, sh_V, shN_e, shN_n, crI, crL, crC, crW, crV, crR_e, crR_n, crN_e, crN_n, ciR, ciL, ciD, ciN_e, ciN_n, rdI_e, rdI_n, rdC_i, rdC_o, rdW, rdU_e, rdU_n, rdLW, clI, clR, clC, clD, clW, clV, clN_e, clN_n, clL_e, clL_n] <;> first | assumption | rfl | omega)) (by omega) (by omega) ?_
    refine x_goto (tgt := 17) dX0_put_10 (by decide) ?_
    refine x_iconst dX0_put_17 rfl ?_
    refine x_ireturn rfl dX0_put_18 ?_
    exact hQ _ _ ⟨_, rfl, Or.inl ⟨rfl, _, _, h5, rfl⟩⟩
  · obtain rfl := hX _ _ _ h5
    exact th_catchY (pre := []) (x := (0, 10, 13, 24)) (suf := []) rfl (fun z hz => nomatch hz) rfl (by decide) q1269 q1315 dX0_put_13 (by decide) (c0 _ _ h5)
theorem s_X0_store {x0 x1 : Int} {P : Int → Mem → Prop} {PX : Int → String → Mem → Prop} (hd : 60 ≤ d) (hs : msh M 0 = some (1, 0)) (hf : CS G (d - 1) mX1_store [dR 0, dI x0, dI x1] M (orT (postI P) PX)) (hP : ∀ y M1, P y M1 → msh M1 760 = some (102, 1)) (hX : ∀ a E M1, PX a E M1 → E = "java/lang/IndexOutOfBoundsException" ∨ E = "java/lang/IllegalArgumentException") : CS G d mX0_store [dR 0, dI x0, dI x1, dR 760] M (postI fun k M1 => (k = 0 ∧ ∃ y M', P y M' ∧ M1 = mL M' 760 0 y) ∨ (k = 1 ∧ ∃ a, PX a "java/lang/IndexOutOfBoundsException" M1) ∨ (k = 2 ∧ ∃ a, PX a "java/lang/IllegalArgumentException" M1)) := by
  refine CS.mkQ (by decide) (Nat.le_of_ble_eq_true rfl) fun Q hQ => ?_
  have c0 : ∀ (a : Int) (M1 : Mem), PX a "java/lang/IndexOutOfBoundsException" M1 → WP G d mX0_store 15 [] [] M1 Q := by
    intro a M1 hx
    refine x_iconst dX0_store_15 rfl ?_
    refine x_ireturn rfl dX0_store_16 ?_
    exact hQ _ _ ⟨_, rfl, Or.inr (Or.inl ⟨rfl, a, hx⟩)⟩
  have c1 : ∀ (a : Int) (M1 : Mem), PX a "java/lang/IllegalArgumentException" M1 → WP G d mX0_store 19 [] [] M1 Q := by
    intro a M1 hx
    refine x_iconst dX0_store_19 rfl ?_
    refine x_ireturn rfl dX0_store_20 ?_
    exact hQ _ _ ⟨_, rfl, Or.inr (Or.inr (⟨rfl, a, hx⟩))⟩
  refine x_aload_n dX0_store_0 rfl rfl ?_
  refine x_iconst dX0_store_1 rfl ?_
  refine x_aload_n dX0_store_2 rfl rfl ?_
  refine x_iload_n dX0_store_3 rfl rfl ?_
  refine x_iload_n dX0_store_4 rfl rfl ?_
  refine g_callIX (vs := [_, _, _]) (d' := d - 1) rfl (hf) dX0_store_5 kX0_60 (by omega) (by decide) rfl (Nat.le_of_ble_eq_true rfl) (rcv_o (by first | assumption | first | assumption | (simp (disch := omega) only [shI, shR, shL, shC, shD, shW, sh_V, shN_e, shN_n, crI, crL, crC, crW, crV, crR_e, crR_n, crN_e, crN_n, ciR, ciL, ciD, ciN_e, ciN_n, rdI_e, rdI_n, rdC_i, rdC_o, rdW, rdU_e, rdU_n, rdLW, clI, clR, clC, clD, clW, clV, clN_e, clN_n, clL_e, clL_n]; done) | (simp (disch := omega) only [shI, shR, shL, shC, shD, shW, sh_V, shN_e, shN_n, crI, crL, crC, crW, crV, crR_e, crR_n, crN_e, crN_n, ciR, ciL, ciD, ciN_e, ciN_n, rdI_e, rdI_n, rdC_i, rdC_o, rdW, rdU_e, rdU_n, rdLW, clI, clR, clC, clD, clW, clV, clN_e, clN_n, clL_e, clL_n] <;> first | assumption | rfl | omega)) rfl) (fun x5 M5 h5 => ?_) (fun a5 E5 M5 h5 => ?_)
  · have hsm : msh M5 760 = some (102, 1) := hP _ _ h5
    refine x_i2l dX0_store_8 ?_
    refine x_last (by omega) dX0_store_9 (by first | assumption | first | assumption | (simp (disch := omega) only [shI, shR, shL, shC, shD, shW, sh_V, shN_e, shN_n, crI, crL, crC, crW, crV, crR_e, crR_n, crN_e, crN_n, ciR, ciL, ciD, ciN_e, ciN_n, rdI_e, rdI_n, rdC_i, rdC_o, rdW, rdU_e, rdU_n, rdLW, clI, clR, clC, clD, clW, clV, clN_e, clN_n, clL_e, clL_n]; done) | (simp (disch := omega) only [shI, shR, shL, shC, shD, shW, sh_V, shN_e, shN_n, crI, crL, crC, crW, crV, crR_e, crR_n, crN_e, crN_n, ciR, ciL, ciD, ciN_e, ciN_n, rdI_e, rdI_n, rdC_i, rdC_o, rdW, rdU_e, rdU_n, rdLW, clI, clR, clC, clD, clW, clV, clN_e, clN_n, clL_e, clL_n] <;> first | assumption | rfl | omega)) (by omega) (by omega) ?_
    refine x_goto (tgt := 21) dX0_store_10 (by decide) ?_
    refine x_iconst dX0_store_21 rfl ?_
    refine x_ireturn rfl dX0_store_22 ?_
    exact hQ _ _ ⟨_, rfl, Or.inl ⟨rfl, _, _, h5, rfl⟩⟩
  · rcases hX _ _ _ h5 with rfl | rfl
    · exact th_catchY (pre := []) (x := (0, 10, 13, 24)) (suf := [(0, 10, 17, 13)]) rfl (fun z hz => nomatch hz) rfl (by decide) q1269 q1315 dX0_store_13 (by decide) (c0 _ _ h5)
    · exact th_catchY (pre := [(0, 10, 13, 24)]) (x := (0, 10, 17, 13)) (suf := []) rfl (fun z hz => by simp only [List.mem_cons, List.not_mem_nil, or_false] at hz; subst hz; exact Or.inr ⟨by decide, _, q1269, List.mem_of_getElem? (i := 2) rfl⟩) rfl (by decide) q905 q1049 dX0_store_17 (by decide) (c1 _ _ h5)
theorem s_X0_vector {x0 : Int} {P : Int → Mem → Prop} {PX : Int → String → Mem → Prop} (hd : 60 ≤ d) (hs : msh M 0 = some (1, 0)) (hf : CS G (d - 1) mX1_vector [dR 0, dI x0] M (orT (postI P) PX)) (hP : ∀ y M1, P y M1 → msh M1 760 = some (102, 1)) (hX : ∀ a E M1, PX a E M1 → E = "java/lang/IllegalArgumentException") : CS G d mX0_vector [dR 0, dI x0, dR 760] M (postI fun k M1 => (k = 0 ∧ ∃ y M', P y M' ∧ M1 = mL M' 760 0 y) ∨ (k = 1 ∧ ∃ a, PX a "java/lang/IllegalArgumentException" M1)) := by
  refine CS.mkQ (by decide) (Nat.le_of_ble_eq_true rfl) fun Q hQ => ?_
  have c0 : ∀ (a : Int) (M1 : Mem), PX a "java/lang/IllegalArgumentException" M1 → WP G d mX0_vector 13 [] [] M1 Q := by
    intro a M1 hx
    refine x_iconst dX0_vector_13 rfl ?_
    refine x_ireturn rfl dX0_vector_14 ?_
    exact hQ _ _ ⟨_, rfl, Or.inr (⟨rfl, a, hx⟩)⟩
  refine x_aload_n dX0_vector_0 rfl rfl ?_
  refine x_iconst dX0_vector_1 rfl ?_
  refine x_aload_n dX0_vector_2 rfl rfl ?_
  refine x_iload_n dX0_vector_3 rfl rfl ?_
  refine g_callIX (vs := [_, _]) (d' := d - 1) rfl (hf) dX0_vector_4 kX0_63 (by omega) (by decide) rfl (Nat.le_of_ble_eq_true rfl) (rcv_o (by first | assumption | first | assumption | (simp (disch := omega) only [shI, shR, shL, shC, shD, shW, sh_V, shN_e, shN_n, crI, crL, crC, crW, crV, crR_e, crR_n, crN_e, crN_n, ciR, ciL, ciD, ciN_e, ciN_n, rdI_e, rdI_n, rdC_i, rdC_o, rdW, rdU_e, rdU_n, rdLW, clI, clR, clC, clD, clW, clV, clN_e, clN_n, clL_e, clL_n]; done) | (simp (disch := omega) only [shI, shR, shL, shC, shD, shW, sh_V, shN_e, shN_n, crI, crL, crC, crW, crV, crR_e, crR_n, crN_e, crN_n, ciR, ciL, ciD, ciN_e, ciN_n, rdI_e, rdI_n, rdC_i, rdC_o, rdW, rdU_e, rdU_n, rdLW, clI, clR, clC, clD, clW, clV, clN_e, clN_n, clL_e, clL_n] <;> first | assumption | rfl | omega)) rfl) (fun x4 M4 h4 => ?_) (fun a4 E4 M4 h4 => ?_)
  · have hsm : msh M4 760 = some (102, 1) := hP _ _ h4
    refine x_i2l dX0_vector_7 ?_
    refine x_last (by omega) dX0_vector_8 (by first | assumption | first | assumption | (simp (disch := omega) only [shI, shR, shL, shC, shD, shW, sh_V, shN_e, shN_n, crI, crL, crC, crW, crV, crR_e, crR_n, crN_e, crN_n, ciR, ciL, ciD, ciN_e, ciN_n, rdI_e, rdI_n, rdC_i, rdC_o, rdW, rdU_e, rdU_n, rdLW, clI, clR, clC, clD, clW, clV, clN_e, clN_n, clL_e, clL_n]; done) | (simp (disch := omega) only [shI, shR, shL, shC, shD, shW, sh_V, shN_e, shN_n, crI, crL, crC, crW, crV, crR_e, crR_n, crN_e, crN_n, ciR, ciL, ciD, ciN_e, ciN_n, rdI_e, rdI_n, rdC_i, rdC_o, rdW, rdU_e, rdU_n, rdLW, clI, clR, clC, clD, clW, clV, clN_e, clN_n, clL_e, clL_n] <;> first | assumption | rfl | omega)) (by omega) (by omega) ?_
    refine x_goto (tgt := 15) dX0_vector_9 (by decide) ?_
    refine x_iconst dX0_vector_15 rfl ?_
    refine x_ireturn rfl dX0_vector_16 ?_
    exact hQ _ _ ⟨_, rfl, Or.inl ⟨rfl, _, _, h4, rfl⟩⟩
  · obtain rfl := hX _ _ _ h4
    exact th_catchX (pre := []) (x := (0, 9, 12, 13)) (suf := []) rfl (fun z hz => nomatch hz) rfl (by decide) q905 q1049 dX0_vector_12 (by decide) (c0 _ _ h4)
theorem s_X0_shift {x0 : Int} {P : Int → Mem → Prop} {PX : Int → String → Mem → Prop} (hd : 60 ≤ d) (hs : msh M 0 = some (1, 0)) (hf : CS G (d - 1) mX1_shift [dR 0, dI x0] M (orT (postI P) PX)) (hP : ∀ y M1, P y M1 → msh M1 760 = some (102, 1)) (hX : ∀ a E M1, PX a E M1 → E = "java/lang/IllegalArgumentException") : CS G d mX0_shift [dR 0, dI x0, dR 760] M (postI fun k M1 => (k = 0 ∧ ∃ y M', P y M' ∧ M1 = mL M' 760 0 y) ∨ (k = 1 ∧ ∃ a, PX a "java/lang/IllegalArgumentException" M1)) := by
  refine CS.mkQ (by decide) (Nat.le_of_ble_eq_true rfl) fun Q hQ => ?_
  have c0 : ∀ (a : Int) (M1 : Mem), PX a "java/lang/IllegalArgumentException" M1 → WP G d mX0_shift 13 [] [] M1 Q := by
    intro a M1 hx
    refine x_iconst dX0_shift_13 rfl ?_
    refine x_ireturn rfl dX0_shift_14 ?_
    exact hQ _ _ ⟨_, rfl, Or.inr (⟨rfl, a, hx⟩)⟩
  refine x_aload_n dX0_shift_0 rfl rfl ?_
  refine x_iconst dX0_shift_1 rfl ?_
  refine x_aload_n dX0_shift_2 rfl rfl ?_
  refine x_iload_n dX0_shift_3 rfl rfl ?_
  refine g_callIX (vs := [_, _]) (d' := d - 1) rfl (hf) dX0_shift_4 kX0_66 (by omega) (by decide) rfl (Nat.le_of_ble_eq_true rfl) (rcv_o (by first | assumption | first | assumption | (simp (disch := omega) only [shI, shR, shL, shC, shD, shW, sh_V, shN_e, shN_n, crI, crL, crC, crW, crV, crR_e, crR_n, crN_e, crN_n, ciR, ciL, ciD, ciN_e, ciN_n, rdI_e, rdI_n, rdC_i, rdC_o, rdW, rdU_e, rdU_n, rdLW, clI, clR, clC, clD, clW, clV, clN_e, clN_n, clL_e, clL_n]; done) | (simp (disch := omega) only [shI, shR, shL, shC, shD, shW, sh_V, shN_e, shN_n, crI, crL, crC, crW, crV, crR_e, crR_n, crN_e, crN_n, ciR, ciL, ciD, ciN_e, ciN_n, rdI_e, rdI_n, rdC_i, rdC_o, rdW, rdU_e, rdU_n, rdLW, clI, clR, clC, clD, clW, clV, clN_e, clN_n, clL_e, clL_n] <;> first | assumption | rfl | omega)) rfl) (fun x4 M4 h4 => ?_) (fun a4 E4 M4 h4 => ?_)
  · have hsm : msh M4 760 = some (102, 1) := hP _ _ h4
    refine x_i2l dX0_shift_7 ?_
    refine x_last (by omega) dX0_shift_8 (by first | assumption | first | assumption | (simp (disch := omega) only [shI, shR, shL, shC, shD, shW, sh_V, shN_e, shN_n, crI, crL, crC, crW, crV, crR_e, crR_n, crN_e, crN_n, ciR, ciL, ciD, ciN_e, ciN_n, rdI_e, rdI_n, rdC_i, rdC_o, rdW, rdU_e, rdU_n, rdLW, clI, clR, clC, clD, clW, clV, clN_e, clN_n, clL_e, clL_n]; done) | (simp (disch := omega) only [shI, shR, shL, shC, shD, shW, sh_V, shN_e, shN_n, crI, crL, crC, crW, crV, crR_e, crR_n, crN_e, crN_n, ciR, ciL, ciD, ciN_e, ciN_n, rdI_e, rdI_n, rdC_i, rdC_o, rdW, rdU_e, rdU_n, rdLW, clI, clR, clC, clD, clW, clV, clN_e, clN_n, clL_e, clL_n] <;> first | assumption | rfl | omega)) (by omega) (by omega) ?_
    refine x_goto (tgt := 15) dX0_shift_9 (by decide) ?_
    refine x_iconst dX0_shift_15 rfl ?_
    refine x_ireturn rfl dX0_shift_16 ?_
    exact hQ _ _ ⟨_, rfl, Or.inl ⟨rfl, _, _, h4, rfl⟩⟩
  · obtain rfl := hX _ _ _ h4
    exact th_catchX (pre := []) (x := (0, 9, 12, 13)) (suf := []) rfl (fun z hz => nomatch hz) rfl (by decide) q905 q1049 dX0_shift_12 (by decide) (c0 _ _ h4)
theorem s_X0_cost {x0 : Int} {P : Int → Mem → Prop} {PX : Int → String → Mem → Prop} (hd : 60 ≤ d) (hs : msh M 0 = some (1, 0)) (hf : CS G (d - 1) mX1_cost [dR 0, dI x0] M (orT (postI P) PX)) (hP : ∀ y M1, P y M1 → msh M1 760 = some (102, 1)) (hX : ∀ a E M1, PX a E M1 → E = "java/lang/IllegalArgumentException") : CS G d mX0_cost [dR 0, dI x0, dR 760] M (postI fun k M1 => (k = 0 ∧ ∃ y M', P y M' ∧ M1 = mL M' 760 0 y) ∨ (k = 1 ∧ ∃ a, PX a "java/lang/IllegalArgumentException" M1)) := by
  refine CS.mkQ (by decide) (Nat.le_of_ble_eq_true rfl) fun Q hQ => ?_
  have c0 : ∀ (a : Int) (M1 : Mem), PX a "java/lang/IllegalArgumentException" M1 → WP G d mX0_cost 13 [] [] M1 Q := by
    intro a M1 hx
    refine x_iconst dX0_cost_13 rfl ?_
    refine x_ireturn rfl dX0_cost_14 ?_
    exact hQ _ _ ⟨_, rfl, Or.inr (⟨rfl, a, hx⟩)⟩
  refine x_aload_n dX0_cost_0 rfl rfl ?_
  refine x_iconst dX0_cost_1 rfl ?_
  refine x_aload_n dX0_cost_2 rfl rfl ?_
  refine x_iload_n dX0_cost_3 rfl rfl ?_
  refine g_callIX (vs := [_, _]) (d' := d - 1) rfl (hf) dX0_cost_4 kX0_69 (by omega) (by decide) rfl (Nat.le_of_ble_eq_true rfl) (rcv_o (by first | assumption | first | assumption | (simp (disch := omega) only [shI, shR, shL, shC, shD, shW, sh_V, shN_e, shN_n, crI, crL, crC, crW, crV, crR_e, crR_n, crN_e, crN_n, ciR, ciL, ciD, ciN_e, ciN_n, rdI_e, rdI_n, rdC_i, rdC_o, rdW, rdU_e, rdU_n, rdLW, clI, clR, clC, clD, clW, clV, clN_e, clN_n, clL_e, clL_n]; done) | (simp (disch := omega) only [shI, shR, shL, shC, shD, shW, sh_V, shN_e, shN_n, crI, crL, crC, crW, crV, crR_e, crR_n, crN_e, crN_n, ciR, ciL, ciD, ciN_e, ciN_n, rdI_e, rdI_n, rdC_i, rdC_o, rdW, rdU_e, rdU_n, rdLW, clI, clR, clC, clD, clW, clV, clN_e, clN_n, clL_e, clL_n] <;> first | assumption | rfl | omega)) rfl) (fun x4 M4 h4 => ?_) (fun a4 E4 M4 h4 => ?_)
  · have hsm : msh M4 760 = some (102, 1) := hP _ _ h4
    refine x_i2l dX0_cost_7 ?_
    refine x_last (by omega) dX0_cost_8 (by first | assumption | first | assumption | (simp (disch := omega) only [shI, shR, shL, shC, shD, shW, sh_V, shN_e, shN_n, crI, crL, crC, crW, crV, crR_e, crR_n, crN_e, crN_n, ciR, ciL, ciD, ciN_e, ciN_n, rdI_e, rdI_n, rdC_i, rdC_o, rdW, rdU_e, rdU_n, rdLW, clI, clR, clC, clD, clW, clV, clN_e, clN_n, clL_e, clL_n]; done) | (simp (disch := omega) only [shI, shR, shL, shC, shD, shW, sh_V, shN_e, shN_n, crI, crL, crC, crW, crV, crR_e, crR_n, crN_e, crN_n, ciR, ciL, ciD, ciN_e, ciN_n, rdI_e, rdI_n, rdC_i, rdC_o, rdW, rdU_e, rdU_n, rdLW, clI, clR, clC, clD, clW, clV, clN_e, clN_n, clL_e, clL_n] <;> first | assumption | rfl | omega)) (by omega) (by omega) ?_
    refine x_goto (tgt := 15) dX0_cost_9 (by decide) ?_
    refine x_iconst dX0_cost_15 rfl ?_
    refine x_ireturn rfl dX0_cost_16 ?_
    exact hQ _ _ ⟨_, rfl, Or.inl ⟨rfl, _, _, h4, rfl⟩⟩
  · obtain rfl := hX _ _ _ h4
    exact th_catchX (pre := []) (x := (0, 9, 12, 13)) (suf := []) rfl (fun z hz => nomatch hz) rfl (by decide) q905 q1049 dX0_cost_12 (by decide) (c0 _ _ h4)
theorem s_X0_alarm {x0 : Int} {P : Int → Mem → Prop} {PX : Int → String → Mem → Prop} (hd : 60 ≤ d) (hs : msh M 0 = some (1, 0)) (hf : CS G (d - 1) mX1_alarm [dR 0, dI x0] M (orT (postI P) PX)) (hP : ∀ y M1, P y M1 → msh M1 760 = some (102, 1)) (hX : ∀ a E M1, PX a E M1 → E = "java/lang/IllegalArgumentException") : CS G d mX0_alarm [dR 0, dI x0, dR 760] M (postI fun k M1 => (k = 0 ∧ ∃ y M', P y M' ∧ M1 = mL M' 760 0 y) ∨ (k = 1 ∧ ∃ a, PX a "java/lang/IllegalArgumentException" M1)) := by
  refine CS.mkQ (by decide) (Nat.le_of_ble_eq_true rfl) fun Q hQ => ?_
  have c0 : ∀ (a : Int) (M1 : Mem), PX a "java/lang/IllegalArgumentException" M1 → WP G d mX0_alarm 13 [] [] M1 Q := by
    intro a M1 hx
    refine x_iconst dX0_alarm_13 rfl ?_
    refine x_ireturn rfl dX0_alarm_14 ?_
    exact hQ _ _ ⟨_, rfl, Or.inr (⟨rfl, a, hx⟩)⟩
  refine x_aload_n dX0_alarm_0 rfl rfl ?_
  refine x_iconst dX0_alarm_1 rfl ?_
  refine x_aload_n dX0_alarm_2 rfl rfl ?_
  refine x_iload_n dX0_alarm_3 rfl rfl ?_
  refine g_callIX (vs := [_, _]) (d' := d - 1) rfl (hf) dX0_alarm_4 kX0_72 (by omega) (by decide) rfl (Nat.le_of_ble_eq_true rfl) (rcv_o (by first | assumption | first | assumption | (simp (disch := omega) only [shI, shR, shL, shC, shD, shW, sh_V, shN_e, shN_n, crI, crL, crC, crW, crV, crR_e, crR_n, crN_e, crN_n, ciR, ciL, ciD, ciN_e, ciN_n, rdI_e, rdI_n, rdC_i, rdC_o, rdW, rdU_e, rdU_n, rdLW, clI, clR, clC, clD, clW, clV, clN_e, clN_n, clL_e, clL_n]; done) | (simp (disch := omega) only [shI, shR, shL, shC, shD, shW, sh_V, shN_e, shN_n, crI, crL, crC, crW, crV, crR_e, crR_n, crN_e, crN_n, ciR, ciL, ciD, ciN_e, ciN_n, rdI_e, rdI_n, rdC_i, rdC_o, rdW, rdU_e, rdU_n, rdLW, clI, clR, clC, clD, clW, clV, clN_e, clN_n, clL_e, clL_n] <;> first | assumption | rfl | omega)) rfl) (fun x4 M4 h4 => ?_) (fun a4 E4 M4 h4 => ?_)
  · have hsm : msh M4 760 = some (102, 1) := hP _ _ h4
    refine x_i2l dX0_alarm_7 ?_
    refine x_last (by omega) dX0_alarm_8 (by first | assumption | first | assumption | (simp (disch := omega) only [shI, shR, shL, shC, shD, shW, sh_V, shN_e, shN_n, crI, crL, crC, crW, crV, crR_e, crR_n, crN_e, crN_n, ciR, ciL, ciD, ciN_e, ciN_n, rdI_e, rdI_n, rdC_i, rdC_o, rdW, rdU_e, rdU_n, rdLW, clI, clR, clC, clD, clW, clV, clN_e, clN_n, clL_e, clL_n]; done) | (simp (disch := omega) only [shI, shR, shL, shC, shD, shW, sh_V, shN_e, shN_n, crI, crL, crC, crW, crV, crR_e, crR_n, crN_e, crN_n, ciR, ciL, ciD, ciN_e, ciN_n, rdI_e, rdI_n, rdC_i, rdC_o, rdW, rdU_e, rdU_n, rdLW, clI, clR, clC, clD, clW, clV, clN_e, clN_n, clL_e, clL_n] <;> first | assumption | rfl | omega)) (by omega) (by omega) ?_
    refine x_goto (tgt := 15) dX0_alarm_9 (by decide) ?_
    refine x_iconst dX0_alarm_15 rfl ?_
    refine x_ireturn rfl dX0_alarm_16 ?_
    exact hQ _ _ ⟨_, rfl, Or.inl ⟨rfl, _, _, h4, rfl⟩⟩
  · obtain rfl := hX _ _ _ h4
    exact th_catchX (pre := []) (x := (0, 9, 12, 13)) (suf := []) rfl (fun z hz => nomatch hz) rfl (by decide) q905 q1049 dX0_alarm_12 (by decide) (c0 _ _ h4)
theorem s_X0_traps {x0 : Int} {P : Int → Mem → Prop} {PX : Int → String → Mem → Prop} (hd : 60 ≤ d) (hs : msh M 0 = some (1, 0)) (hf : CS G (d - 1) mX1_traps [dR 0, dI x0] M (orT (postI P) PX)) (hP : ∀ y M1, P y M1 → msh M1 760 = some (102, 1)) (hX : ∀ a E M1, PX a E M1 → E = "java/lang/IllegalArgumentException") : CS G d mX0_traps [dR 0, dI x0, dR 760] M (postI fun k M1 => (k = 0 ∧ ∃ y M', P y M' ∧ M1 = mL M' 760 0 y) ∨ (k = 1 ∧ ∃ a, PX a "java/lang/IllegalArgumentException" M1)) := by
  refine CS.mkQ (by decide) (Nat.le_of_ble_eq_true rfl) fun Q hQ => ?_
  have c0 : ∀ (a : Int) (M1 : Mem), PX a "java/lang/IllegalArgumentException" M1 → WP G d mX0_traps 13 [] [] M1 Q := by
    intro a M1 hx
    refine x_iconst dX0_traps_13 rfl ?_
    refine x_ireturn rfl dX0_traps_14 ?_
    exact hQ _ _ ⟨_, rfl, Or.inr (⟨rfl, a, hx⟩)⟩
  refine x_aload_n dX0_traps_0 rfl rfl ?_
  refine x_iconst dX0_traps_1 rfl ?_
  refine x_aload_n dX0_traps_2 rfl rfl ?_
  refine x_iload_n dX0_traps_3 rfl rfl ?_
  refine g_callIX (vs := [_, _]) (d' := d - 1) rfl (hf) dX0_traps_4 kX0_75 (by omega) (by decide) rfl (Nat.le_of_ble_eq_true rfl) (rcv_o (by first | assumption | first | assumption | (simp (disch := omega) only [shI, shR, shL, shC, shD, shW, sh_V, shN_e, shN_n, crI, crL, crC, crW, crV, crR_e, crR_n, crN_e, crN_n, ciR, ciL, ciD, ciN_e, ciN_n, rdI_e, rdI_n, rdC_i, rdC_o, rdW, rdU_e, rdU_n, rdLW, clI, clR, clC, clD, clW, clV, clN_e, clN_n, clL_e, clL_n]; done) | (simp (disch := omega) only [shI, shR, shL, shC, shD, shW, sh_V, shN_e, shN_n, crI, crL, crC, crW, crV, crR_e, crR_n, crN_e, crN_n, ciR, ciL, ciD, ciN_e, ciN_n, rdI_e, rdI_n, rdC_i, rdC_o, rdW, rdU_e, rdU_n, rdLW, clI, clR, clC, clD, clW, clV, clN_e, clN_n, clL_e, clL_n] <;> first | assumption | rfl | omega)) rfl) (fun x4 M4 h4 => ?_) (fun a4 E4 M4 h4 => ?_)
  · have hsm : msh M4 760 = some (102, 1) := hP _ _ h4
    refine x_i2l dX0_traps_7 ?_
    refine x_last (by omega) dX0_traps_8 (by first | assumption | first | assumption | (simp (disch := omega) only [shI, shR, shL, shC, shD, shW, sh_V, shN_e, shN_n, crI, crL, crC, crW, crV, crR_e, crR_n, crN_e, crN_n, ciR, ciL, ciD, ciN_e, ciN_n, rdI_e, rdI_n, rdC_i, rdC_o, rdW, rdU_e, rdU_n, rdLW, clI, clR, clC, clD, clW, clV, clN_e, clN_n, clL_e, clL_n]; done) | (simp (disch := omega) only [shI, shR, shL, shC, shD, shW, sh_V, shN_e, shN_n, crI, crL, crC, crW, crV, crR_e, crR_n, crN_e, crN_n, ciR, ciL, ciD, ciN_e, ciN_n, rdI_e, rdI_n, rdC_i, rdC_o, rdW, rdU_e, rdU_n, rdLW, clI, clR, clC, clD, clW, clV, clN_e, clN_n, clL_e, clL_n] <;> first | assumption | rfl | omega)) (by omega) (by omega) ?_
    refine x_goto (tgt := 15) dX0_traps_9 (by decide) ?_
    refine x_iconst dX0_traps_15 rfl ?_
    refine x_ireturn rfl dX0_traps_16 ?_
    exact hQ _ _ ⟨_, rfl, Or.inl ⟨rfl, _, _, h4, rfl⟩⟩
  · obtain rfl := hX _ _ _ h4
    exact th_catchX (pre := []) (x := (0, 9, 12, 13)) (suf := []) rfl (fun z hz => nomatch hz) rfl (by decide) q905 q1049 dX0_traps_12 (by decide) (c0 _ _ h4)
theorem s_X0_depth {x0 x1 : Int} {P : Int → Mem → Prop} {PX : Int → String → Mem → Prop} (hd : 60 ≤ d) (hs : msh M 0 = some (1, 0)) (hf : CS G (d - 1) mX1_depth [dR 0, dI x0, dI x1] M (orT (postI P) PX)) (hP : ∀ y M1, P y M1 → msh M1 760 = some (102, 1)) (hX : ∀ a E M1, PX a E M1 → E = "java/lang/IllegalArgumentException") : CS G d mX0_depth [dR 0, dI x0, dI x1, dR 760] M (postI fun k M1 => (k = 0 ∧ ∃ y M', P y M' ∧ M1 = mL M' 760 0 y) ∨ (k = 1 ∧ ∃ a, PX a "java/lang/IllegalArgumentException" M1)) := by
  refine CS.mkQ (by decide) (Nat.le_of_ble_eq_true rfl) fun Q hQ => ?_
  have c0 : ∀ (a : Int) (M1 : Mem), PX a "java/lang/IllegalArgumentException" M1 → WP G d mX0_depth 15 [] [] M1 Q := by
    intro a M1 hx
    refine x_iconst dX0_depth_15 rfl ?_
    refine x_ireturn rfl dX0_depth_16 ?_
    exact hQ _ _ ⟨_, rfl, Or.inr (⟨rfl, a, hx⟩)⟩
  refine x_aload_n dX0_depth_0 rfl rfl ?_
  refine x_iconst dX0_depth_1 rfl ?_
  refine x_aload_n dX0_depth_2 rfl rfl ?_
  refine x_iload_n dX0_depth_3 rfl rfl ?_
  refine x_iload_n dX0_depth_4 rfl rfl ?_
  refine g_callIX (vs := [_, _, _]) (d' := d - 1) rfl (hf) dX0_depth_5 kX0_78 (by omega) (by decide) rfl (Nat.le_of_ble_eq_true rfl) (rcv_o (by first | assumption | first | assumption | (simp (disch := omega) only [shI, shR, shL, shC, shD, shW, sh_V, shN_e, shN_n, crI, crL, crC, crW, crV, crR_e, crR_n, crN_e, crN_n, ciR, ciL, ciD, ciN_e, ciN_n, rdI_e, rdI_n, rdC_i, rdC_o, rdW, rdU_e, rdU_n, rdLW, clI, clR, clC, clD, clW, clV, clN_e, clN_n, clL_e, clL_n]; done) | (simp (disch := omega) only [shI, shR, shL, shC, shD, shW, sh_V, shN_e, shN_n, crI, crL, crC, crW, crV, crR_e, crR_n, crN_e, crN_n, ciR, ciL, ciD, ciN_e, ciN_n, rdI_e, rdI_n, rdC_i, rdC_o, rdW, rdU_e, rdU_n, rdLW, clI, clR, clC, clD, clW, clV, clN_e, clN_n, clL_e, clL_n] <;> first | assumption | rfl | omega)) rfl) (fun x5 M5 h5 => ?_) (fun a5 E5 M5 h5 => ?_)
  · have hsm : msh M5 760 = some (102, 1) := hP _ _ h5
    refine x_i2l dX0_depth_8 ?_
    refine x_last (by omega) dX0_depth_9 (by first | assumption | first | assumption | (simp (disch := omega) only [shI, shR, shL, shC, shD, shW, sh_V, shN_e, shN_n, crI, crL, crC, crW, crV, crR_e, crR_n, crN_e, crN_n, ciR, ciL, ciD, ciN_e, ciN_n, rdI_e, rdI_n, rdC_i, rdC_o, rdW, rdU_e, rdU_n, rdLW, clI, clR, clC, clD, clW, clV, clN_e, clN_n, clL_e, clL_n]; done) | (simp (disch := omega) only [shI, shR, shL, shC, shD, shW, sh_V, shN_e, shN_n, crI, crL, crC, crW, crV, crR_e, crR_n, crN_e, crN_n, ciR, ciL, ciD, ciN_e, ciN_n, rdI_e, rdI_n, rdC_i, rdC_o, rdW, rdU_e, rdU_n, rdLW, clI, clR, clC, clD, clW, clV, clN_e, clN_n, clL_e, clL_n] <;> first | assumption | rfl | omega)) (by omega) (by omega) ?_
    refine x_goto (tgt := 17) dX0_depth_10 (by decide) ?_
    refine x_iconst dX0_depth_17 rfl ?_
    refine x_ireturn rfl dX0_depth_18 ?_
    exact hQ _ _ ⟨_, rfl, Or.inl ⟨rfl, _, _, h5, rfl⟩⟩
  · obtain rfl := hX _ _ _ h5
    exact th_catchY (pre := []) (x := (0, 10, 13, 13)) (suf := []) rfl (fun z hz => nomatch hz) rfl (by decide) q905 q1049 dX0_depth_13 (by decide) (c0 _ _ h5)
theorem s_X0_clash {x0 x1 : Int} {P : Int → Mem → Prop} {PX : Int → String → Mem → Prop} (hd : 60 ≤ d) (hs : msh M 0 = some (1, 0)) (hf : CS G (d - 1) mX1_clash [dR 0, dI x0, dI x1] M (orT (postI P) PX)) (hP : ∀ y M1, P y M1 → msh M1 760 = some (102, 1) ∧ (y = 0 ∨ y = 1)) (hX : ∀ a E M1, PX a E M1 → E = "java/lang/IndexOutOfBoundsException" ∨ E = "java/lang/IllegalArgumentException") : CS G d mX0_clash [dR 0, dI x0, dI x1, dR 760] M (postI fun k M1 => (k = 0 ∧ ∃ y M', P y M' ∧ M1 = mL M' 760 0 y) ∨ (k = 1 ∧ ∃ a, PX a "java/lang/IndexOutOfBoundsException" M1) ∨ (k = 2 ∧ ∃ a, PX a "java/lang/IllegalArgumentException" M1)) := by
  refine CS.mkQ (by decide) (Nat.le_of_ble_eq_true rfl) fun Q hQ => ?_
  have c0 : ∀ (a : Int) (M1 : Mem), PX a "java/lang/IndexOutOfBoundsException" M1 → WP G d mX0_clash 22 [] [] M1 Q := by
    intro a M1 hx
    refine x_iconst dX0_clash_22 rfl ?_
    refine x_ireturn rfl dX0_clash_23 ?_
    exact hQ _ _ ⟨_, rfl, Or.inr (Or.inl ⟨rfl, a, hx⟩)⟩
  have c1 : ∀ (a : Int) (M1 : Mem), PX a "java/lang/IllegalArgumentException" M1 → WP G d mX0_clash 26 [] [] M1 Q := by
    intro a M1 hx
    refine x_iconst dX0_clash_26 rfl ?_
    refine x_ireturn rfl dX0_clash_27 ?_
    exact hQ _ _ ⟨_, rfl, Or.inr (Or.inr (⟨rfl, a, hx⟩))⟩
  refine x_aload_n dX0_clash_0 rfl rfl ?_
  refine x_iconst dX0_clash_1 rfl ?_
  refine x_aload_n dX0_clash_2 rfl rfl ?_
  refine x_iload_n dX0_clash_3 rfl rfl ?_
  refine x_iload_n dX0_clash_4 rfl rfl ?_
  refine g_callIX (vs := [_, _, _]) (d' := d - 1) rfl (hf) dX0_clash_5 kX0_81 (by omega) (by decide) rfl (Nat.le_of_ble_eq_true rfl) (rcv_o (by first | assumption | first | assumption | (simp (disch := omega) only [shI, shR, shL, shC, shD, shW, sh_V, shN_e, shN_n, crI, crL, crC, crW, crV, crR_e, crR_n, crN_e, crN_n, ciR, ciL, ciD, ciN_e, ciN_n, rdI_e, rdI_n, rdC_i, rdC_o, rdW, rdU_e, rdU_n, rdLW, clI, clR, clC, clD, clW, clV, clN_e, clN_n, clL_e, clL_n]; done) | (simp (disch := omega) only [shI, shR, shL, shC, shD, shW, sh_V, shN_e, shN_n, crI, crL, crC, crW, crV, crR_e, crR_n, crN_e, crN_n, ciR, ciL, ciD, ciN_e, ciN_n, rdI_e, rdI_n, rdC_i, rdC_o, rdW, rdU_e, rdU_n, rdLW, clI, clR, clC, clD, clW, clV, clN_e, clN_n, clL_e, clL_n] <;> first | assumption | rfl | omega)) rfl) (fun x5 M5 h5 => ?_) (fun a5 E5 M5 h5 => ?_)
  · have hsm : msh M5 760 = some (102, 1) := (hP _ _ h5).1
    refine x_if_eq (tgt := 15) dX0_clash_8 (by decide) (fun q1 => ?_) (fun q1 => ?_)
    · refine x_lconst (z := 0) dX0_clash_15 rfl ?_
      refine x_last (by omega) dX0_clash_16 (by first | assumption | first | assumption | (simp (disch := omega) only [shI, shR, shL, shC, shD, shW, sh_V, shN_e, shN_n, crI, crL, crC, crW, crV, crR_e, crR_n, crN_e, crN_n, ciR, ciL, ciD, ciN_e, ciN_n, rdI_e, rdI_n, rdC_i, rdC_o, rdW, rdU_e, rdU_n, rdLW, clI, clR, clC, clD, clW, clV, clN_e, clN_n, clL_e, clL_n]; done) | (simp (disch := omega) only [shI, shR, shL, shC, shD, shW, sh_V, shN_e, shN_n, crI, crL, crC, crW, crV, crR_e, crR_n, crN_e, crN_n, ciR, ciL, ciD, ciN_e, ciN_n, rdI_e, rdI_n, rdC_i, rdC_o, rdW, rdU_e, rdU_n, rdLW, clI, clR, clC, clD, clW, clV, clN_e, clN_n, clL_e, clL_n] <;> first | assumption | rfl | omega)) (by omega) (by omega) ?_
      refine x_goto (tgt := 28) dX0_clash_17 (by decide) ?_
      refine x_iconst dX0_clash_28 rfl ?_
      refine x_ireturn rfl dX0_clash_29 ?_
      have e := (hP _ _ h5).2
      refine hQ _ _ ⟨_, rfl, Or.inl ⟨rfl, _, _, h5, ?_⟩⟩
      first
        | (rw [show x5 = 0 from q1])
        | (rw [show x5 = 1 from by omega])
    · refine x_lconst (z := 1) dX0_clash_11 rfl ?_
      refine x_goto (tgt := 16) dX0_clash_12 (by decide) ?_
      refine x_last (by omega) dX0_clash_16 (by first | assumption | first | assumption | (simp (disch := omega) only [shI, shR, shL, shC, shD, shW, sh_V, shN_e, shN_n, crI, crL, crC, crW, crV, crR_e, crR_n, crN_e, crN_n, ciR, ciL, ciD, ciN_e, ciN_n, rdI_e, rdI_n, rdC_i, rdC_o, rdW, rdU_e, rdU_n, rdLW, clI, clR, clC, clD, clW, clV, clN_e, clN_n, clL_e, clL_n]; done) | (simp (disch := omega) only [shI, shR, shL, shC, shD, shW, sh_V, shN_e, shN_n, crI, crL, crC, crW, crV, crR_e, crR_n, crN_e, crN_n, ciR, ciL, ciD, ciN_e, ciN_n, rdI_e, rdI_n, rdC_i, rdC_o, rdW, rdU_e, rdU_n, rdLW, clI, clR, clC, clD, clW, clV, clN_e, clN_n, clL_e, clL_n] <;> first | assumption | rfl | omega)) (by omega) (by omega) ?_
      refine x_goto (tgt := 28) dX0_clash_17 (by decide) ?_
      refine x_iconst dX0_clash_28 rfl ?_
      refine x_ireturn rfl dX0_clash_29 ?_
      have e := (hP _ _ h5).2
      refine hQ _ _ ⟨_, rfl, Or.inl ⟨rfl, _, _, h5, ?_⟩⟩
      first
        | (rw [show x5 = 0 from q1])
        | (rw [show x5 = 1 from by omega])
  · rcases hX _ _ _ h5 with rfl | rfl
    · exact th_catchY (pre := []) (x := (0, 17, 20, 24)) (suf := [(0, 17, 24, 13)]) rfl (fun z hz => nomatch hz) rfl (by decide) q1269 q1315 dX0_clash_20 (by decide) (c0 _ _ h5)
    · exact th_catchY (pre := [(0, 17, 20, 24)]) (x := (0, 17, 24, 13)) (suf := []) rfl (fun z hz => by simp only [List.mem_cons, List.not_mem_nil, or_false] at hz; subst hz; exact Or.inr ⟨by decide, _, q1269, List.mem_of_getElem? (i := 2) rfl⟩) rfl (by decide) q905 q1049 dX0_clash_24 (by decide) (c1 _ _ h5)
theorem s_X0_which {P : Int → Mem → Prop} {PX : Int → String → Mem → Prop} (hd : 60 ≤ d) (hs : msh M 0 = some (1, 0)) (hf : CS G (d - 1) mX1_which [dR 0] M (orT (postI P) PX)) (hP : ∀ y M1, P y M1 → msh M1 760 = some (102, 1)) (hX : ∀ a E M1, PX a E M1 → E = "java/lang/IllegalArgumentException") : CS G d mX0_which [dR 0, dR 760] M (postI fun k M1 => (k = 0 ∧ ∃ y M', P y M' ∧ M1 = mL M' 760 0 y) ∨ (k = 1 ∧ ∃ a, PX a "java/lang/IllegalArgumentException" M1)) := by
  refine CS.mkQ (by decide) (Nat.le_of_ble_eq_true rfl) fun Q hQ => ?_
  have c0 : ∀ (a : Int) (M1 : Mem), PX a "java/lang/IllegalArgumentException" M1 → WP G d mX0_which 12 [] [] M1 Q := by
    intro a M1 hx
    refine x_iconst dX0_which_12 rfl ?_
    refine x_ireturn rfl dX0_which_13 ?_
    exact hQ _ _ ⟨_, rfl, Or.inr (⟨rfl, a, hx⟩)⟩
  refine x_aload_n dX0_which_0 rfl rfl ?_
  refine x_iconst dX0_which_1 rfl ?_
  refine x_aload_n dX0_which_2 rfl rfl ?_
  refine g_callIX (vs := [_]) (d' := d - 1) rfl (hf) dX0_which_3 kX0_85 (by omega) (by decide) rfl (Nat.le_of_ble_eq_true rfl) (rcv_o (by first | assumption | first | assumption | (simp (disch := omega) only [shI, shR, shL, shC, shD, shW, sh_V, shN_e, shN_n, crI, crL, crC, crW, crV, crR_e, crR_n, crN_e, crN_n, ciR, ciL, ciD, ciN_e, ciN_n, rdI_e, rdI_n, rdC_i, rdC_o, rdW, rdU_e, rdU_n, rdLW, clI, clR, clC, clD, clW, clV, clN_e, clN_n, clL_e, clL_n]; done) | (simp (disch := omega) only [shI, shR, shL, shC, shD, shW, sh_V, shN_e, shN_n, crI, crL, crC, crW, crV, crR_e, crR_n, crN_e, crN_n, ciR, ciL, ciD, ciN_e, ciN_n, rdI_e, rdI_n, rdC_i, rdC_o, rdW, rdU_e, rdU_n, rdLW, clI, clR, clC, clD, clW, clV, clN_e, clN_n, clL_e, clL_n] <;> first | assumption | rfl | omega)) rfl) (fun x3 M3 h3 => ?_) (fun a3 E3 M3 h3 => ?_)
  · have hsm : msh M3 760 = some (102, 1) := hP _ _ h3
    refine x_i2l dX0_which_6 ?_
    refine x_last (by omega) dX0_which_7 (by first | assumption | first | assumption | (simp (disch := omega) only [shI, shR, shL, shC, shD, shW, sh_V, shN_e, shN_n, crI, crL, crC, crW, crV, crR_e, crR_n, crN_e, crN_n, ciR, ciL, ciD, ciN_e, ciN_n, rdI_e, rdI_n, rdC_i, rdC_o, rdW, rdU_e, rdU_n, rdLW, clI, clR, clC, clD, clW, clV, clN_e, clN_n, clL_e, clL_n]; done) | (simp (disch := omega) only [shI, shR, shL, shC, shD, shW, sh_V, shN_e, shN_n, crI, crL, crC, crW, crV, crR_e, crR_n, crN_e, crN_n, ciR, ciL, ciD, ciN_e, ciN_n, rdI_e, rdI_n, rdC_i, rdC_o, rdW, rdU_e, rdU_n, rdLW, clI, clR, clC, clD, clW, clV, clN_e, clN_n, clL_e, clL_n] <;> first | assumption | rfl | omega)) (by omega) (by omega) ?_
    refine x_goto (tgt := 14) dX0_which_8 (by decide) ?_
    refine x_iconst dX0_which_14 rfl ?_
    refine x_ireturn rfl dX0_which_15 ?_
    exact hQ _ _ ⟨_, rfl, Or.inl ⟨rfl, _, _, h3, rfl⟩⟩
  · obtain rfl := hX _ _ _ h3
    exact th_catchX (pre := []) (x := (0, 8, 11, 13)) (suf := []) rfl (fun z hz => nomatch hz) rfl (by decide) q905 q1049 dX0_which_11 (by decide) (c0 _ _ h3)
theorem s_X0_likely {P : Int → Mem → Prop} {PX : Int → String → Mem → Prop} (hd : 60 ≤ d) (hs : msh M 0 = some (1, 0)) (hf : CS G (d - 1) mX1_likely [dR 0] M (orT (postI P) PX)) (hP : ∀ y M1, P y M1 → msh M1 760 = some (102, 1)) (hX : ∀ a E M1, PX a E M1 → E = "java/lang/IllegalArgumentException") : CS G d mX0_likely [dR 0, dR 760] M (postI fun k M1 => (k = 0 ∧ ∃ y M', P y M' ∧ M1 = mL M' 760 0 y) ∨ (k = 1 ∧ ∃ a, PX a "java/lang/IllegalArgumentException" M1)) := by
  refine CS.mkQ (by decide) (Nat.le_of_ble_eq_true rfl) fun Q hQ => ?_
  have c0 : ∀ (a : Int) (M1 : Mem), PX a "java/lang/IllegalArgumentException" M1 → WP G d mX0_likely 12 [] [] M1 Q := by
    intro a M1 hx
    refine x_iconst dX0_likely_12 rfl ?_
    refine x_ireturn rfl dX0_likely_13 ?_
    exact hQ _ _ ⟨_, rfl, Or.inr (⟨rfl, a, hx⟩)⟩
  refine x_aload_n dX0_likely_0 rfl rfl ?_
  refine x_iconst dX0_likely_1 rfl ?_
  refine x_aload_n dX0_likely_2 rfl rfl ?_
  refine g_callIX (vs := [_]) (d' := d - 1) rfl (hf) dX0_likely_3 kX0_88 (by omega) (by decide) rfl (Nat.le_of_ble_eq_true rfl) (rcv_o (by first | assumption | first | assumption | (simp (disch := omega) only [shI, shR, shL, shC, shD, shW, sh_V, shN_e, shN_n, crI, crL, crC, crW, crV, crR_e, crR_n, crN_e, crN_n, ciR, ciL, ciD, ciN_e, ciN_n, rdI_e, rdI_n, rdC_i, rdC_o, rdW, rdU_e, rdU_n, rdLW, clI, clR, clC, clD, clW, clV, clN_e, clN_n, clL_e, clL_n]; done) | (simp (disch := omega) only [shI, shR, shL, shC, shD, shW, sh_V, shN_e, shN_n, crI, crL, crC, crW, crV, crR_e, crR_n, crN_e, crN_n, ciR, ciL, ciD, ciN_e, ciN_n, rdI_e, rdI_n, rdC_i, rdC_o, rdW, rdU_e, rdU_n, rdLW, clI, clR, clC, clD, clW, clV, clN_e, clN_n, clL_e, clL_n] <;> first | assumption | rfl | omega)) rfl) (fun x3 M3 h3 => ?_) (fun a3 E3 M3 h3 => ?_)
  · have hsm : msh M3 760 = some (102, 1) := hP _ _ h3
    refine x_i2l dX0_likely_6 ?_
    refine x_last (by omega) dX0_likely_7 (by first | assumption | first | assumption | (simp (disch := omega) only [shI, shR, shL, shC, shD, shW, sh_V, shN_e, shN_n, crI, crL, crC, crW, crV, crR_e, crR_n, crN_e, crN_n, ciR, ciL, ciD, ciN_e, ciN_n, rdI_e, rdI_n, rdC_i, rdC_o, rdW, rdU_e, rdU_n, rdLW, clI, clR, clC, clD, clW, clV, clN_e, clN_n, clL_e, clL_n]; done) | (simp (disch := omega) only [shI, shR, shL, shC, shD, shW, sh_V, shN_e, shN_n, crI, crL, crC, crW, crV, crR_e, crR_n, crN_e, crN_n, ciR, ciL, ciD, ciN_e, ciN_n, rdI_e, rdI_n, rdC_i, rdC_o, rdW, rdU_e, rdU_n, rdLW, clI, clR, clC, clD, clW, clV, clN_e, clN_n, clL_e, clL_n] <;> first | assumption | rfl | omega)) (by omega) (by omega) ?_
    refine x_goto (tgt := 14) dX0_likely_8 (by decide) ?_
    refine x_iconst dX0_likely_14 rfl ?_
    refine x_ireturn rfl dX0_likely_15 ?_
    exact hQ _ _ ⟨_, rfl, Or.inl ⟨rfl, _, _, h3, rfl⟩⟩
  · obtain rfl := hX _ _ _ h3
    exact th_catchX (pre := []) (x := (0, 8, 11, 13)) (suf := []) rfl (fun z hz => nomatch hz) rfl (by decide) q905 q1049 dX0_likely_11 (by decide) (c0 _ _ h3)
theorem s_X0_ask {P : Int → Mem → Prop} {PX : Int → String → Mem → Prop} (hd : 60 ≤ d) (hs : msh M 0 = some (1, 0)) (hf : CS G (d - 1) mX1_ask [dR 0] M (orT (postI P) PX)) (hP : ∀ y M1, P y M1 → msh M1 760 = some (102, 1)) (hX : ∀ a E M1, PX a E M1 → E = "java/lang/IllegalArgumentException") : CS G d mX0_ask [dR 0, dR 760] M (postI fun k M1 => (k = 0 ∧ ∃ y M', P y M' ∧ M1 = mL M' 760 0 y) ∨ (k = 1 ∧ ∃ a, PX a "java/lang/IllegalArgumentException" M1)) := by
  refine CS.mkQ (by decide) (Nat.le_of_ble_eq_true rfl) fun Q hQ => ?_
  have c0 : ∀ (a : Int) (M1 : Mem), PX a "java/lang/IllegalArgumentException" M1 → WP G d mX0_ask 12 [] [] M1 Q := by
    intro a M1 hx
    refine x_iconst dX0_ask_12 rfl ?_
    refine x_ireturn rfl dX0_ask_13 ?_
    exact hQ _ _ ⟨_, rfl, Or.inr (⟨rfl, a, hx⟩)⟩
  refine x_aload_n dX0_ask_0 rfl rfl ?_
  refine x_iconst dX0_ask_1 rfl ?_
  refine x_aload_n dX0_ask_2 rfl rfl ?_
  refine g_callIX (vs := [_]) (d' := d - 1) rfl (hf) dX0_ask_3 kX0_91 (by omega) (by decide) rfl (Nat.le_of_ble_eq_true rfl) (rcv_o (by first | assumption | first | assumption | (simp (disch := omega) only [shI, shR, shL, shC, shD, shW, sh_V, shN_e, shN_n, crI, crL, crC, crW, crV, crR_e, crR_n, crN_e, crN_n, ciR, ciL, ciD, ciN_e, ciN_n, rdI_e, rdI_n, rdC_i, rdC_o, rdW, rdU_e, rdU_n, rdLW, clI, clR, clC, clD, clW, clV, clN_e, clN_n, clL_e, clL_n]; done) | (simp (disch := omega) only [shI, shR, shL, shC, shD, shW, sh_V, shN_e, shN_n, crI, crL, crC, crW, crV, crR_e, crR_n, crN_e, crN_n, ciR, ciL, ciD, ciN_e, ciN_n, rdI_e, rdI_n, rdC_i, rdC_o, rdW, rdU_e, rdU_n, rdLW, clI, clR, clC, clD, clW, clV, clN_e, clN_n, clL_e, clL_n] <;> first | assumption | rfl | omega)) rfl) (fun x3 M3 h3 => ?_) (fun a3 E3 M3 h3 => ?_)
  · have hsm : msh M3 760 = some (102, 1) := hP _ _ h3
    refine x_i2l dX0_ask_6 ?_
    refine x_last (by omega) dX0_ask_7 (by first | assumption | first | assumption | (simp (disch := omega) only [shI, shR, shL, shC, shD, shW, sh_V, shN_e, shN_n, crI, crL, crC, crW, crV, crR_e, crR_n, crN_e, crN_n, ciR, ciL, ciD, ciN_e, ciN_n, rdI_e, rdI_n, rdC_i, rdC_o, rdW, rdU_e, rdU_n, rdLW, clI, clR, clC, clD, clW, clV, clN_e, clN_n, clL_e, clL_n]; done) | (simp (disch := omega) only [shI, shR, shL, shC, shD, shW, sh_V, shN_e, shN_n, crI, crL, crC, crW, crV, crR_e, crR_n, crN_e, crN_n, ciR, ciL, ciD, ciN_e, ciN_n, rdI_e, rdI_n, rdC_i, rdC_o, rdW, rdU_e, rdU_n, rdLW, clI, clR, clC, clD, clW, clV, clN_e, clN_n, clL_e, clL_n] <;> first | assumption | rfl | omega)) (by omega) (by omega) ?_
    refine x_goto (tgt := 14) dX0_ask_8 (by decide) ?_
    refine x_iconst dX0_ask_14 rfl ?_
    refine x_ireturn rfl dX0_ask_15 ?_
    exact hQ _ _ ⟨_, rfl, Or.inl ⟨rfl, _, _, h3, rfl⟩⟩
  · obtain rfl := hX _ _ _ h3
    exact th_catchX (pre := []) (x := (0, 8, 11, 13)) (suf := []) rfl (fun z hz => nomatch hz) rfl (by decide) q905 q1049 dX0_ask_11 (by decide) (c0 _ _ h3)
theorem s_X0_pairs {x0 : Int} {P : Int → Mem → Prop} {PX : Int → String → Mem → Prop} (hd : 60 ≤ d) (hs : msh M 0 = some (1, 0)) (hf : CS G (d - 1) mX1_pairs [dR 0, dI x0] M (orT (postI P) PX)) (hP : ∀ y M1, P y M1 → msh M1 760 = some (102, 1)) (hX : ∀ a E M1, PX a E M1 → E = "java/lang/IndexOutOfBoundsException") : CS G d mX0_pairs [dR 0, dI x0, dR 760] M (postI fun k M1 => (k = 0 ∧ ∃ y M', P y M' ∧ M1 = mL M' 760 0 y) ∨ (k = 1 ∧ ∃ a, PX a "java/lang/IndexOutOfBoundsException" M1)) := by
  refine CS.mkQ (by decide) (Nat.le_of_ble_eq_true rfl) fun Q hQ => ?_
  have c0 : ∀ (a : Int) (M1 : Mem), PX a "java/lang/IndexOutOfBoundsException" M1 → WP G d mX0_pairs 13 [] [] M1 Q := by
    intro a M1 hx
    refine x_iconst dX0_pairs_13 rfl ?_
    refine x_ireturn rfl dX0_pairs_14 ?_
    exact hQ _ _ ⟨_, rfl, Or.inr (⟨rfl, a, hx⟩)⟩
  refine x_aload_n dX0_pairs_0 rfl rfl ?_
  refine x_iconst dX0_pairs_1 rfl ?_
  refine x_aload_n dX0_pairs_2 rfl rfl ?_
  refine x_iload_n dX0_pairs_3 rfl rfl ?_
  refine g_callIX (vs := [_, _]) (d' := d - 1) rfl (hf) dX0_pairs_4 kX0_94 (by omega) (by decide) rfl (Nat.le_of_ble_eq_true rfl) (rcv_o (by first | assumption | first | assumption | (simp (disch := omega) only [shI, shR, shL, shC, shD, shW, sh_V, shN_e, shN_n, crI, crL, crC, crW, crV, crR_e, crR_n, crN_e, crN_n, ciR, ciL, ciD, ciN_e, ciN_n, rdI_e, rdI_n, rdC_i, rdC_o, rdW, rdU_e, rdU_n, rdLW, clI, clR, clC, clD, clW, clV, clN_e, clN_n, clL_e, clL_n]; done) | (simp (disch := omega) only [shI, shR, shL, shC, shD, shW, sh_V, shN_e, shN_n, crI, crL, crC, crW, crV, crR_e, crR_n, crN_e, crN_n, ciR, ciL, ciD, ciN_e, ciN_n, rdI_e, rdI_n, rdC_i, rdC_o, rdW, rdU_e, rdU_n, rdLW, clI, clR, clC, clD, clW, clV, clN_e, clN_n, clL_e, clL_n] <;> first | assumption | rfl | omega)) rfl) (fun x4 M4 h4 => ?_) (fun a4 E4 M4 h4 => ?_)
  · have hsm : msh M4 760 = some (102, 1) := hP _ _ h4
    refine x_i2l dX0_pairs_7 ?_
    refine x_last (by omega) dX0_pairs_8 (by first | assumption | first | assumption | (simp (disch := omega) only [shI, shR, shL, shC, shD, shW, sh_V, shN_e, shN_n, crI, crL, crC, crW, crV, crR_e, crR_n, crN_e, crN_n, ciR, ciL, ciD, ciN_e, ciN_n, rdI_e, rdI_n, rdC_i, rdC_o, rdW, rdU_e, rdU_n, rdLW, clI, clR, clC, clD, clW, clV, clN_e, clN_n, clL_e, clL_n]; done) | (simp (disch := omega) only [shI, shR, shL, shC, shD, shW, sh_V, shN_e, shN_n, crI, crL, crC, crW, crV, crR_e, crR_n, crN_e, crN_n, ciR, ciL, ciD, ciN_e, ciN_n, rdI_e, rdI_n, rdC_i, rdC_o, rdW, rdU_e, rdU_n, rdLW, clI, clR, clC, clD, clW, clV, clN_e, clN_n, clL_e, clL_n] <;> first | assumption | rfl | omega)) (by omega) (by omega) ?_
    refine x_goto (tgt := 15) dX0_pairs_9 (by decide) ?_
    refine x_iconst dX0_pairs_15 rfl ?_
    refine x_ireturn rfl dX0_pairs_16 ?_
    exact hQ _ _ ⟨_, rfl, Or.inl ⟨rfl, _, _, h4, rfl⟩⟩
  · obtain rfl := hX _ _ _ h4
    exact th_catchX (pre := []) (x := (0, 9, 12, 24)) (suf := []) rfl (fun z hz => nomatch hz) rfl (by decide) q1269 q1315 dX0_pairs_12 (by decide) (c0 _ _ h4)
theorem s_X0_rests {x0 : Int} {P : Int → Mem → Prop} {PX : Int → String → Mem → Prop} (hd : 60 ≤ d) (hs : msh M 0 = some (1, 0)) (hf : CS G (d - 1) mX1_rests [dR 0, dI x0] M (orT (postI P) PX)) (hP : ∀ y M1, P y M1 → msh M1 760 = some (102, 1)) (hX : ∀ a E M1, PX a E M1 → E = "java/lang/IndexOutOfBoundsException") : CS G d mX0_rests [dR 0, dI x0, dR 760] M (postI fun k M1 => (k = 0 ∧ ∃ y M', P y M' ∧ M1 = mL M' 760 0 y) ∨ (k = 1 ∧ ∃ a, PX a "java/lang/IndexOutOfBoundsException" M1)) := by
  refine CS.mkQ (by decide) (Nat.le_of_ble_eq_true rfl) fun Q hQ => ?_
  have c0 : ∀ (a : Int) (M1 : Mem), PX a "java/lang/IndexOutOfBoundsException" M1 → WP G d mX0_rests 13 [] [] M1 Q := by
    intro a M1 hx
    refine x_iconst dX0_rests_13 rfl ?_
    refine x_ireturn rfl dX0_rests_14 ?_
    exact hQ _ _ ⟨_, rfl, Or.inr (⟨rfl, a, hx⟩)⟩
  refine x_aload_n dX0_rests_0 rfl rfl ?_
  refine x_iconst dX0_rests_1 rfl ?_
  refine x_aload_n dX0_rests_2 rfl rfl ?_
  refine x_iload_n dX0_rests_3 rfl rfl ?_
  refine g_callIX (vs := [_, _]) (d' := d - 1) rfl (hf) dX0_rests_4 kX0_97 (by omega) (by decide) rfl (Nat.le_of_ble_eq_true rfl) (rcv_o (by first | assumption | first | assumption | (simp (disch := omega) only [shI, shR, shL, shC, shD, shW, sh_V, shN_e, shN_n, crI, crL, crC, crW, crV, crR_e, crR_n, crN_e, crN_n, ciR, ciL, ciD, ciN_e, ciN_n, rdI_e, rdI_n, rdC_i, rdC_o, rdW, rdU_e, rdU_n, rdLW, clI, clR, clC, clD, clW, clV, clN_e, clN_n, clL_e, clL_n]; done) | (simp (disch := omega) only [shI, shR, shL, shC, shD, shW, sh_V, shN_e, shN_n, crI, crL, crC, crW, crV, crR_e, crR_n, crN_e, crN_n, ciR, ciL, ciD, ciN_e, ciN_n, rdI_e, rdI_n, rdC_i, rdC_o, rdW, rdU_e, rdU_n, rdLW, clI, clR, clC, clD, clW, clV, clN_e, clN_n, clL_e, clL_n] <;> first | assumption | rfl | omega)) rfl) (fun x4 M4 h4 => ?_) (fun a4 E4 M4 h4 => ?_)
  · have hsm : msh M4 760 = some (102, 1) := hP _ _ h4
    refine x_i2l dX0_rests_7 ?_
    refine x_last (by omega) dX0_rests_8 (by first | assumption | first | assumption | (simp (disch := omega) only [shI, shR, shL, shC, shD, shW, sh_V, shN_e, shN_n, crI, crL, crC, crW, crV, crR_e, crR_n, crN_e, crN_n, ciR, ciL, ciD, ciN_e, ciN_n, rdI_e, rdI_n, rdC_i, rdC_o, rdW, rdU_e, rdU_n, rdLW, clI, clR, clC, clD, clW, clV, clN_e, clN_n, clL_e, clL_n]; done) | (simp (disch := omega) only [shI, shR, shL, shC, shD, shW, sh_V, shN_e, shN_n, crI, crL, crC, crW, crV, crR_e, crR_n, crN_e, crN_n, ciR, ciL, ciD, ciN_e, ciN_n, rdI_e, rdI_n, rdC_i, rdC_o, rdW, rdU_e, rdU_n, rdLW, clI, clR, clC, clD, clW, clV, clN_e, clN_n, clL_e, clL_n] <;> first | assumption | rfl | omega)) (by omega) (by omega) ?_
    refine x_goto (tgt := 15) dX0_rests_9 (by decide) ?_
    refine x_iconst dX0_rests_15 rfl ?_
    refine x_ireturn rfl dX0_rests_16 ?_
    exact hQ _ _ ⟨_, rfl, Or.inl ⟨rfl, _, _, h4, rfl⟩⟩
  · obtain rfl := hX _ _ _ h4
    exact th_catchX (pre := []) (x := (0, 9, 12, 24)) (suf := []) rfl (fun z hz => nomatch hz) rfl (by decide) q1269 q1315 dX0_rests_12 (by decide) (c0 _ _ h4)
theorem s_X0_odds {x0 x1 : Int} {P : Int → Mem → Prop} {PX : Int → String → Mem → Prop} (hd : 60 ≤ d) (hs : msh M 0 = some (1, 0)) (hf : CS G (d - 1) mX1_odds [dR 0, dI x0, dI x1] M (orT (postI P) PX)) (hP : ∀ y M1, P y M1 → msh M1 760 = some (102, 1)) (hX : ∀ a E M1, PX a E M1 → E = "java/lang/IllegalArgumentException") : CS G d mX0_odds [dR 0, dI x0, dI x1, dR 760] M (postI fun k M1 => (k = 0 ∧ ∃ y M', P y M' ∧ M1 = mL M' 760 0 y) ∨ (k = 1 ∧ ∃ a, PX a "java/lang/IllegalArgumentException" M1)) := by
  refine CS.mkQ (by decide) (Nat.le_of_ble_eq_true rfl) fun Q hQ => ?_
  have c0 : ∀ (a : Int) (M1 : Mem), PX a "java/lang/IllegalArgumentException" M1 → WP G d mX0_odds 15 [] [] M1 Q := by
    intro a M1 hx
    refine x_iconst dX0_odds_15 rfl ?_
    refine x_ireturn rfl dX0_odds_16 ?_
    exact hQ _ _ ⟨_, rfl, Or.inr (⟨rfl, a, hx⟩)⟩
  refine x_aload_n dX0_odds_0 rfl rfl ?_
  refine x_iconst dX0_odds_1 rfl ?_
  refine x_aload_n dX0_odds_2 rfl rfl ?_
  refine x_iload_n dX0_odds_3 rfl rfl ?_
  refine x_iload_n dX0_odds_4 rfl rfl ?_
  refine g_callIX (vs := [_, _, _]) (d' := d - 1) rfl (hf) dX0_odds_5 kX0_100 (by omega) (by decide) rfl (Nat.le_of_ble_eq_true rfl) (rcv_o (by first | assumption | first | assumption | (simp (disch := omega) only [shI, shR, shL, shC, shD, shW, sh_V, shN_e, shN_n, crI, crL, crC, crW, crV, crR_e, crR_n, crN_e, crN_n, ciR, ciL, ciD, ciN_e, ciN_n, rdI_e, rdI_n, rdC_i, rdC_o, rdW, rdU_e, rdU_n, rdLW, clI, clR, clC, clD, clW, clV, clN_e, clN_n, clL_e, clL_n]; done) | (simp (disch := omega) only [shI, shR, shL, shC, shD, shW, sh_V, shN_e, shN_n, crI, crL, crC, crW, crV, crR_e, crR_n, crN_e, crN_n, ciR, ciL, ciD, ciN_e, ciN_n, rdI_e, rdI_n, rdC_i, rdC_o, rdW, rdU_e, rdU_n, rdLW, clI, clR, clC, clD, clW, clV, clN_e, clN_n, clL_e, clL_n] <;> first | assumption | rfl | omega)) rfl) (fun x5 M5 h5 => ?_) (fun a5 E5 M5 h5 => ?_)
  · have hsm : msh M5 760 = some (102, 1) := hP _ _ h5
    refine x_i2l dX0_odds_8 ?_
    refine x_last (by omega) dX0_odds_9 (by first | assumption | first | assumption | (simp (disch := omega) only [shI, shR, shL, shC, shD, shW, sh_V, shN_e, shN_n, crI, crL, crC, crW, crV, crR_e, crR_n, crN_e, crN_n, ciR, ciL, ciD, ciN_e, ciN_n, rdI_e, rdI_n, rdC_i, rdC_o, rdW, rdU_e, rdU_n, rdLW, clI, clR, clC, clD, clW, clV, clN_e, clN_n, clL_e, clL_n]; done) | (simp (disch := omega) only [shI, shR, shL, shC, shD, shW, sh_V, shN_e, shN_n, crI, crL, crC, crW, crV, crR_e, crR_n, crN_e, crN_n, ciR, ciL, ciD, ciN_e, ciN_n, rdI_e, rdI_n, rdC_i, rdC_o, rdW, rdU_e, rdU_n, rdLW, clI, clR, clC, clD, clW, clV, clN_e, clN_n, clL_e, clL_n] <;> first | assumption | rfl | omega)) (by omega) (by omega) ?_
    refine x_goto (tgt := 17) dX0_odds_10 (by decide) ?_
    refine x_iconst dX0_odds_17 rfl ?_
    refine x_ireturn rfl dX0_odds_18 ?_
    exact hQ _ _ ⟨_, rfl, Or.inl ⟨rfl, _, _, h5, rfl⟩⟩
  · obtain rfl := hX _ _ _ h5
    exact th_catchY (pre := []) (x := (0, 10, 13, 13)) (suf := []) rfl (fun z hz => nomatch hz) rfl (by decide) q905 q1049 dX0_odds_13 (by decide) (c0 _ _ h5)
theorem s_X0_most {x0 : Int} {P : Int → Mem → Prop} {PX : Int → String → Mem → Prop} (hd : 60 ≤ d) (hs : msh M 0 = some (1, 0)) (hf : CS G (d - 1) mX1_most [dR 0, dI x0] M (orT (postI P) PX)) (hP : ∀ y M1, P y M1 → msh M1 760 = some (102, 1)) (hX : ∀ a E M1, PX a E M1 → E = "java/util/NoSuchElementException") : CS G d mX0_most [dR 0, dI x0, dR 760] M (postI fun k M1 => (k = 0 ∧ ∃ y M', P y M' ∧ M1 = mL M' 760 0 y) ∨ (k = 1 ∧ ∃ a, PX a "java/util/NoSuchElementException" M1)) := by
  refine CS.mkQ (by decide) (Nat.le_of_ble_eq_true rfl) fun Q hQ => ?_
  have c0 : ∀ (a : Int) (M1 : Mem), PX a "java/util/NoSuchElementException" M1 → WP G d mX0_most 13 [] [] M1 Q := by
    intro a M1 hx
    refine x_iconst dX0_most_13 rfl ?_
    refine x_ireturn rfl dX0_most_14 ?_
    exact hQ _ _ ⟨_, rfl, Or.inr (⟨rfl, a, hx⟩)⟩
  refine x_aload_n dX0_most_0 rfl rfl ?_
  refine x_iconst dX0_most_1 rfl ?_
  refine x_aload_n dX0_most_2 rfl rfl ?_
  refine x_iload_n dX0_most_3 rfl rfl ?_
  refine g_callIX (vs := [_, _]) (d' := d - 1) rfl (hf) dX0_most_4 kX0_103 (by omega) (by decide) rfl (Nat.le_of_ble_eq_true rfl) (rcv_o (by first | assumption | first | assumption | (simp (disch := omega) only [shI, shR, shL, shC, shD, shW, sh_V, shN_e, shN_n, crI, crL, crC, crW, crV, crR_e, crR_n, crN_e, crN_n, ciR, ciL, ciD, ciN_e, ciN_n, rdI_e, rdI_n, rdC_i, rdC_o, rdW, rdU_e, rdU_n, rdLW, clI, clR, clC, clD, clW, clV, clN_e, clN_n, clL_e, clL_n]; done) | (simp (disch := omega) only [shI, shR, shL, shC, shD, shW, sh_V, shN_e, shN_n, crI, crL, crC, crW, crV, crR_e, crR_n, crN_e, crN_n, ciR, ciL, ciD, ciN_e, ciN_n, rdI_e, rdI_n, rdC_i, rdC_o, rdW, rdU_e, rdU_n, rdLW, clI, clR, clC, clD, clW, clV, clN_e, clN_n, clL_e, clL_n] <;> first | assumption | rfl | omega)) rfl) (fun x4 M4 h4 => ?_) (fun a4 E4 M4 h4 => ?_)
  · have hsm : msh M4 760 = some (102, 1) := hP _ _ h4
    refine x_i2l dX0_most_7 ?_
    refine x_last (by omega) dX0_most_8 (by first | assumption | first | assumption | (simp (disch := omega) only [shI, shR, shL, shC, shD, shW, sh_V, shN_e, shN_n, crI, crL, crC, crW, crV, crR_e, crR_n, crN_e, crN_n, ciR, ciL, ciD, ciN_e, ciN_n, rdI_e, rdI_n, rdC_i, rdC_o, rdW, rdU_e, rdU_n, rdLW, clI, clR, clC, clD, clW, clV, clN_e, clN_n, clL_e, clL_n]; done) | (simp (disch := omega) only [shI, shR, shL, shC, shD, shW, sh_V, shN_e, shN_n, crI, crL, crC, crW, crV, crR_e, crR_n, crN_e, crN_n, ciR, ciL, ciD, ciN_e, ciN_n, rdI_e, rdI_n, rdC_i, rdC_o, rdW, rdU_e, rdU_n, rdLW, clI, clR, clC, clD, clW, clV, clN_e, clN_n, clL_e, clL_n] <;> first | assumption | rfl | omega)) (by omega) (by omega) ?_
    refine x_goto (tgt := 15) dX0_most_9 (by decide) ?_
    refine x_iconst dX0_most_15 rfl ?_
    refine x_ireturn rfl dX0_most_16 ?_
    exact hQ _ _ ⟨_, rfl, Or.inl ⟨rfl, _, _, h4, rfl⟩⟩
  · obtain rfl := hX _ _ _ h4
    exact th_catchX (pre := []) (x := (0, 9, 12, 26)) (suf := []) rfl (fun z hz => nomatch hz) rfl (by decide) q1301 q1341 dX0_most_12 (by decide) (c0 _ _ h4)
theorem s_X0_ahead {x0 x1 : Int} {P : Int → Mem → Prop} {PX : Int → String → Mem → Prop} (hd : 60 ≤ d) (hs : msh M 0 = some (1, 0)) (hf : CS G (d - 1) mX1_ahead [dR 0, dI x0, dI x1] M (orT (postI P) PX)) (hP : ∀ y M1, P y M1 → msh M1 760 = some (102, 1)) (hX : ∀ a E M1, PX a E M1 → E = "java/lang/IllegalArgumentException") : CS G d mX0_ahead [dR 0, dI x0, dI x1, dR 760] M (postI fun k M1 => (k = 0 ∧ ∃ y M', P y M' ∧ M1 = mL M' 760 0 y) ∨ (k = 1 ∧ ∃ a, PX a "java/lang/IllegalArgumentException" M1)) := by
  refine CS.mkQ (by decide) (Nat.le_of_ble_eq_true rfl) fun Q hQ => ?_
  have c0 : ∀ (a : Int) (M1 : Mem), PX a "java/lang/IllegalArgumentException" M1 → WP G d mX0_ahead 15 [] [] M1 Q := by
    intro a M1 hx
    refine x_iconst dX0_ahead_15 rfl ?_
    refine x_ireturn rfl dX0_ahead_16 ?_
    exact hQ _ _ ⟨_, rfl, Or.inr (⟨rfl, a, hx⟩)⟩
  refine x_aload_n dX0_ahead_0 rfl rfl ?_
  refine x_iconst dX0_ahead_1 rfl ?_
  refine x_aload_n dX0_ahead_2 rfl rfl ?_
  refine x_iload_n dX0_ahead_3 rfl rfl ?_
  refine x_iload_n dX0_ahead_4 rfl rfl ?_
  refine g_callIX (vs := [_, _, _]) (d' := d - 1) rfl (hf) dX0_ahead_5 kX0_106 (by omega) (by decide) rfl (Nat.le_of_ble_eq_true rfl) (rcv_o (by first | assumption | first | assumption | (simp (disch := omega) only [shI, shR, shL, shC, shD, shW, sh_V, shN_e, shN_n, crI, crL, crC, crW, crV, crR_e, crR_n, crN_e, crN_n, ciR, ciL, ciD, ciN_e, ciN_n, rdI_e, rdI_n, rdC_i, rdC_o, rdW, rdU_e, rdU_n, rdLW, clI, clR, clC, clD, clW, clV, clN_e, clN_n, clL_e, clL_n]; done) | (simp (disch := omega) only [shI, shR, shL, shC, shD, shW, sh_V, shN_e, shN_n, crI, crL, crC, crW, crV, crR_e, crR_n, crN_e, crN_n, ciR, ciL, ciD, ciN_e, ciN_n, rdI_e, rdI_n, rdC_i, rdC_o, rdW, rdU_e, rdU_n, rdLW, clI, clR, clC, clD, clW, clV, clN_e, clN_n, clL_e, clL_n] <;> first | assumption | rfl | omega)) rfl) (fun x5 M5 h5 => ?_) (fun a5 E5 M5 h5 => ?_)
  · have hsm : msh M5 760 = some (102, 1) := hP _ _ h5
    refine x_i2l dX0_ahead_8 ?_
    refine x_last (by omega) dX0_ahead_9 (by first | assumption | first | assumption | (simp (disch := omega) only [shI, shR, shL, shC, shD, shW, sh_V, shN_e, shN_n, crI, crL, crC, crW, crV, crR_e, crR_n, crN_e, crN_n, ciR, ciL, ciD, ciN_e, ciN_n, rdI_e, rdI_n, rdC_i, rdC_o, rdW, rdU_e, rdU_n, rdLW, clI, clR, clC, clD, clW, clV, clN_e, clN_n, clL_e, clL_n]; done) | (simp (disch := omega) only [shI, shR, shL, shC, shD, shW, sh_V, shN_e, shN_n, crI, crL, crC, crW, crV, crR_e, crR_n, crN_e, crN_n, ciR, ciL, ciD, ciN_e, ciN_n, rdI_e, rdI_n, rdC_i, rdC_o, rdW, rdU_e, rdU_n, rdLW, clI, clR, clC, clD, clW, clV, clN_e, clN_n, clL_e, clL_n] <;> first | assumption | rfl | omega)) (by omega) (by omega) ?_
    refine x_goto (tgt := 17) dX0_ahead_10 (by decide) ?_
    refine x_iconst dX0_ahead_17 rfl ?_
    refine x_ireturn rfl dX0_ahead_18 ?_
    exact hQ _ _ ⟨_, rfl, Or.inl ⟨rfl, _, _, h5, rfl⟩⟩
  · obtain rfl := hX _ _ _ h5
    exact th_catchY (pre := []) (x := (0, 10, 13, 13)) (suf := []) rfl (fun z hz => nomatch hz) rfl (by decide) q905 q1049 dX0_ahead_13 (by decide) (c0 _ _ h5)
theorem s_X0_trial {x0 x1 : Int} {P : Int → Mem → Prop} {PX : Int → String → Mem → Prop} (hd : 60 ≤ d) (hs : msh M 0 = some (1, 0)) (hf : CS G (d - 1) mX1_trial [dR 0, dI x0, dI x1] M (orT (postI P) PX)) (hP : ∀ y M1, P y M1 → msh M1 760 = some (102, 1)) (hX : ∀ a E M1, PX a E M1 → E = "java/lang/IllegalArgumentException") : CS G d mX0_trial [dR 0, dI x0, dI x1, dR 760] M (postI fun k M1 => (k = 0 ∧ ∃ y M', P y M' ∧ M1 = mL M' 760 0 y) ∨ (k = 1 ∧ ∃ a, PX a "java/lang/IllegalArgumentException" M1)) := by
  refine CS.mkQ (by decide) (Nat.le_of_ble_eq_true rfl) fun Q hQ => ?_
  have c0 : ∀ (a : Int) (M1 : Mem), PX a "java/lang/IllegalArgumentException" M1 → WP G d mX0_trial 15 [] [] M1 Q := by
    intro a M1 hx
    refine x_iconst dX0_trial_15 rfl ?_
    refine x_ireturn rfl dX0_trial_16 ?_
    exact hQ _ _ ⟨_, rfl, Or.inr (⟨rfl, a, hx⟩)⟩
  refine x_aload_n dX0_trial_0 rfl rfl ?_
  refine x_iconst dX0_trial_1 rfl ?_
  refine x_aload_n dX0_trial_2 rfl rfl ?_
  refine x_iload_n dX0_trial_3 rfl rfl ?_
  refine x_iload_n dX0_trial_4 rfl rfl ?_
  refine g_callIX (vs := [_, _, _]) (d' := d - 1) rfl (hf) dX0_trial_5 kX0_110 (by omega) (by decide) rfl (Nat.le_of_ble_eq_true rfl) (rcv_o (by first | assumption | first | assumption | (simp (disch := omega) only [shI, shR, shL, shC, shD, shW, sh_V, shN_e, shN_n, crI, crL, crC, crW, crV, crR_e, crR_n, crN_e, crN_n, ciR, ciL, ciD, ciN_e, ciN_n, rdI_e, rdI_n, rdC_i, rdC_o, rdW, rdU_e, rdU_n, rdLW, clI, clR, clC, clD, clW, clV, clN_e, clN_n, clL_e, clL_n]; done) | (simp (disch := omega) only [shI, shR, shL, shC, shD, shW, sh_V, shN_e, shN_n, crI, crL, crC, crW, crV, crR_e, crR_n, crN_e, crN_n, ciR, ciL, ciD, ciN_e, ciN_n, rdI_e, rdI_n, rdC_i, rdC_o, rdW, rdU_e, rdU_n, rdLW, clI, clR, clC, clD, clW, clV, clN_e, clN_n, clL_e, clL_n] <;> first | assumption | rfl | omega)) rfl) (fun x5 M5 h5 => ?_) (fun a5 E5 M5 h5 => ?_)
  · have hsm : msh M5 760 = some (102, 1) := hP _ _ h5
    refine x_i2l dX0_trial_8 ?_
    refine x_last (by omega) dX0_trial_9 (by first | assumption | first | assumption | (simp (disch := omega) only [shI, shR, shL, shC, shD, shW, sh_V, shN_e, shN_n, crI, crL, crC, crW, crV, crR_e, crR_n, crN_e, crN_n, ciR, ciL, ciD, ciN_e, ciN_n, rdI_e, rdI_n, rdC_i, rdC_o, rdW, rdU_e, rdU_n, rdLW, clI, clR, clC, clD, clW, clV, clN_e, clN_n, clL_e, clL_n]; done) | (simp (disch := omega) only [shI, shR, shL, shC, shD, shW, sh_V, shN_e, shN_n, crI, crL, crC, crW, crV, crR_e, crR_n, crN_e, crN_n, ciR, ciL, ciD, ciN_e, ciN_n, rdI_e, rdI_n, rdC_i, rdC_o, rdW, rdU_e, rdU_n, rdLW, clI, clR, clC, clD, clW, clV, clN_e, clN_n, clL_e, clL_n] <;> first | assumption | rfl | omega)) (by omega) (by omega) ?_
    refine x_goto (tgt := 17) dX0_trial_10 (by decide) ?_
    refine x_iconst dX0_trial_17 rfl ?_
    refine x_ireturn rfl dX0_trial_18 ?_
    exact hQ _ _ ⟨_, rfl, Or.inl ⟨rfl, _, _, h5, rfl⟩⟩
  · obtain rfl := hX _ _ _ h5
    exact th_catchY (pre := []) (x := (0, 10, 13, 13)) (suf := []) rfl (fun z hz => nomatch hz) rfl (by decide) q905 q1049 dX0_trial_13 (by decide) (c0 _ _ h5)
theorem s_X0_span {x0 x1 : Int} {P : Int → Mem → Prop} {PX : Int → String → Mem → Prop} (hd : 60 ≤ d) (hs : msh M 0 = some (1, 0)) (hf : CS G (d - 1) mX1_span [dR 0, dI x0, dI x1] M (orT (postI P) PX)) (hP : ∀ y M1, P y M1 → msh M1 760 = some (102, 1)) (hX : ∀ a E M1, PX a E M1 → E = "java/lang/IllegalArgumentException") : CS G d mX0_span [dR 0, dI x0, dI x1, dR 760] M (postI fun k M1 => (k = 0 ∧ ∃ y M', P y M' ∧ M1 = mL M' 760 0 y) ∨ (k = 1 ∧ ∃ a, PX a "java/lang/IllegalArgumentException" M1)) := by
  refine CS.mkQ (by decide) (Nat.le_of_ble_eq_true rfl) fun Q hQ => ?_
  have c0 : ∀ (a : Int) (M1 : Mem), PX a "java/lang/IllegalArgumentException" M1 → WP G d mX0_span 15 [] [] M1 Q := by
    intro a M1 hx
    refine x_iconst dX0_span_15 rfl ?_
    refine x_ireturn rfl dX0_span_16 ?_
    exact hQ _ _ ⟨_, rfl, Or.inr (⟨rfl, a, hx⟩)⟩
  refine x_aload_n dX0_span_0 rfl rfl ?_
  refine x_iconst dX0_span_1 rfl ?_
  refine x_aload_n dX0_span_2 rfl rfl ?_
  refine x_iload_n dX0_span_3 rfl rfl ?_
  refine x_iload_n dX0_span_4 rfl rfl ?_
  refine g_callIX (vs := [_, _, _]) (d' := d - 1) rfl (hf) dX0_span_5 kX0_113 (by omega) (by decide) rfl (Nat.le_of_ble_eq_true rfl) (rcv_o (by first | assumption | first | assumption | (simp (disch := omega) only [shI, shR, shL, shC, shD, shW, sh_V, shN_e, shN_n, crI, crL, crC, crW, crV, crR_e, crR_n, crN_e, crN_n, ciR, ciL, ciD, ciN_e, ciN_n, rdI_e, rdI_n, rdC_i, rdC_o, rdW, rdU_e, rdU_n, rdLW, clI, clR, clC, clD, clW, clV, clN_e, clN_n, clL_e, clL_n]; done) | (simp (disch := omega) only [shI, shR, shL, shC, shD, shW, sh_V, shN_e, shN_n, crI, crL, crC, crW, crV, crR_e, crR_n, crN_e, crN_n, ciR, ciL, ciD, ciN_e, ciN_n, rdI_e, rdI_n, rdC_i, rdC_o, rdW, rdU_e, rdU_n, rdLW, clI, clR, clC, clD, clW, clV, clN_e, clN_n, clL_e, clL_n] <;> first | assumption | rfl | omega)) rfl) (fun x5 M5 h5 => ?_) (fun a5 E5 M5 h5 => ?_)
  · have hsm : msh M5 760 = some (102, 1) := hP _ _ h5
    refine x_i2l dX0_span_8 ?_
    refine x_last (by omega) dX0_span_9 (by first | assumption | first | assumption | (simp (disch := omega) only [shI, shR, shL, shC, shD, shW, sh_V, shN_e, shN_n, crI, crL, crC, crW, crV, crR_e, crR_n, crN_e, crN_n, ciR, ciL, ciD, ciN_e, ciN_n, rdI_e, rdI_n, rdC_i, rdC_o, rdW, rdU_e, rdU_n, rdLW, clI, clR, clC, clD, clW, clV, clN_e, clN_n, clL_e, clL_n]; done) | (simp (disch := omega) only [shI, shR, shL, shC, shD, shW, sh_V, shN_e, shN_n, crI, crL, crC, crW, crV, crR_e, crR_n, crN_e, crN_n, ciR, ciL, ciD, ciN_e, ciN_n, rdI_e, rdI_n, rdC_i, rdC_o, rdW, rdU_e, rdU_n, rdLW, clI, clR, clC, clD, clW, clV, clN_e, clN_n, clL_e, clL_n] <;> first | assumption | rfl | omega)) (by omega) (by omega) ?_
    refine x_goto (tgt := 17) dX0_span_10 (by decide) ?_
    refine x_iconst dX0_span_17 rfl ?_
    refine x_ireturn rfl dX0_span_18 ?_
    exact hQ _ _ ⟨_, rfl, Or.inl ⟨rfl, _, _, h5, rfl⟩⟩
  · obtain rfl := hX _ _ _ h5
    exact th_catchY (pre := []) (x := (0, 10, 13, 13)) (suf := []) rfl (fun z hz => nomatch hz) rfl (by decide) q905 q1049 dX0_span_13 (by decide) (c0 _ _ h5)
theorem s_X0_led {x0 x1 : Int} {P : Int → Mem → Prop} {PX : Int → String → Mem → Prop} (hd : 60 ≤ d) (hs : msh M 0 = some (1, 0)) (hf : CS G (d - 1) mX1_led [dR 0, dI x0, dI x1] M (orT (postI P) PX)) (hP : ∀ y M1, P y M1 → msh M1 760 = some (102, 1)) (hX : ∀ a E M1, PX a E M1 → E = "java/lang/IndexOutOfBoundsException") : CS G d mX0_led [dR 0, dI x0, dI x1, dR 760] M (postI fun k M1 => (k = 0 ∧ ∃ y M', P y M' ∧ M1 = mL M' 760 0 y) ∨ (k = 1 ∧ ∃ a, PX a "java/lang/IndexOutOfBoundsException" M1)) := by
  refine CS.mkQ (by decide) (Nat.le_of_ble_eq_true rfl) fun Q hQ => ?_
  have c0 : ∀ (a : Int) (M1 : Mem), PX a "java/lang/IndexOutOfBoundsException" M1 → WP G d mX0_led 15 [] [] M1 Q := by
    intro a M1 hx
    refine x_iconst dX0_led_15 rfl ?_
    refine x_ireturn rfl dX0_led_16 ?_
    exact hQ _ _ ⟨_, rfl, Or.inr (⟨rfl, a, hx⟩)⟩
  refine x_aload_n dX0_led_0 rfl rfl ?_
  refine x_iconst dX0_led_1 rfl ?_
  refine x_aload_n dX0_led_2 rfl rfl ?_
  refine x_iload_n dX0_led_3 rfl rfl ?_
  refine x_iload_n dX0_led_4 rfl rfl ?_
  refine g_callIX (vs := [_, _, _]) (d' := d - 1) rfl (hf) dX0_led_5 kX0_116 (by omega) (by decide) rfl (Nat.le_of_ble_eq_true rfl) (rcv_o (by first | assumption | first | assumption | (simp (disch := omega) only [shI, shR, shL, shC, shD, shW, sh_V, shN_e, shN_n, crI, crL, crC, crW, crV, crR_e, crR_n, crN_e, crN_n, ciR, ciL, ciD, ciN_e, ciN_n, rdI_e, rdI_n, rdC_i, rdC_o, rdW, rdU_e, rdU_n, rdLW, clI, clR, clC, clD, clW, clV, clN_e, clN_n, clL_e, clL_n]; done) | (simp (disch := omega) only [shI, shR, shL, shC, shD, shW, sh_V, shN_e, shN_n, crI, crL, crC, crW, crV, crR_e, crR_n, crN_e, crN_n, ciR, ciL, ciD, ciN_e, ciN_n, rdI_e, rdI_n, rdC_i, rdC_o, rdW, rdU_e, rdU_n, rdLW, clI, clR, clC, clD, clW, clV, clN_e, clN_n, clL_e, clL_n] <;> first | assumption | rfl | omega)) rfl) (fun x5 M5 h5 => ?_) (fun a5 E5 M5 h5 => ?_)
  · have hsm : msh M5 760 = some (102, 1) := hP _ _ h5
    refine x_i2l dX0_led_8 ?_
    refine x_last (by omega) dX0_led_9 (by first | assumption | first | assumption | (simp (disch := omega) only [shI, shR, shL, shC, shD, shW, sh_V, shN_e, shN_n, crI, crL, crC, crW, crV, crR_e, crR_n, crN_e, crN_n, ciR, ciL, ciD, ciN_e, ciN_n, rdI_e, rdI_n, rdC_i, rdC_o, rdW, rdU_e, rdU_n, rdLW, clI, clR, clC, clD, clW, clV, clN_e, clN_n, clL_e, clL_n]; done) | (simp (disch := omega) only [shI, shR, shL, shC, shD, shW, sh_V, shN_e, shN_n, crI, crL, crC, crW, crV, crR_e, crR_n, crN_e, crN_n, ciR, ciL, ciD, ciN_e, ciN_n, rdI_e, rdI_n, rdC_i, rdC_o, rdW, rdU_e, rdU_n, rdLW, clI, clR, clC, clD, clW, clV, clN_e, clN_n, clL_e, clL_n] <;> first | assumption | rfl | omega)) (by omega) (by omega) ?_
    refine x_goto (tgt := 17) dX0_led_10 (by decide) ?_
    refine x_iconst dX0_led_17 rfl ?_
    refine x_ireturn rfl dX0_led_18 ?_
    exact hQ _ _ ⟨_, rfl, Or.inl ⟨rfl, _, _, h5, rfl⟩⟩
  · obtain rfl := hX _ _ _ h5
    exact th_catchY (pre := []) (x := (0, 10, 13, 24)) (suf := []) rfl (fun z hz => nomatch hz) rfl (by decide) q1269 q1315 dX0_led_13 (by decide) (c0 _ _ h5)
theorem s_X0_log {x0 x1 : Int} {P : Int → Mem → Prop} {PX : Int → String → Mem → Prop} (hd : 60 ≤ d) (hs : msh M 0 = some (1, 0)) (hf : CS G (d - 1) mX1_log [dR 0, dI x0, dI x1] M (orT (postI P) PX)) (hP : ∀ y M1, P y M1 → msh M1 760 = some (102, 1)) (hX : ∀ a E M1, PX a E M1 → E = "java/util/NoSuchElementException") : CS G d mX0_log [dR 0, dI x0, dI x1, dR 760] M (postI fun k M1 => (k = 0 ∧ ∃ y M', P y M' ∧ M1 = mL M' 760 0 y) ∨ (k = 1 ∧ ∃ a, PX a "java/util/NoSuchElementException" M1)) := by
  refine CS.mkQ (by decide) (Nat.le_of_ble_eq_true rfl) fun Q hQ => ?_
  have c0 : ∀ (a : Int) (M1 : Mem), PX a "java/util/NoSuchElementException" M1 → WP G d mX0_log 15 [] [] M1 Q := by
    intro a M1 hx
    refine x_iconst dX0_log_15 rfl ?_
    refine x_ireturn rfl dX0_log_16 ?_
    exact hQ _ _ ⟨_, rfl, Or.inr (⟨rfl, a, hx⟩)⟩
  refine x_aload_n dX0_log_0 rfl rfl ?_
  refine x_iconst dX0_log_1 rfl ?_
  refine x_aload_n dX0_log_2 rfl rfl ?_
  refine x_iload_n dX0_log_3 rfl rfl ?_
  refine x_iload_n dX0_log_4 rfl rfl ?_
  refine g_callIX (vs := [_, _, _]) (d' := d - 1) rfl (hf) dX0_log_5 kX0_119 (by omega) (by decide) rfl (Nat.le_of_ble_eq_true rfl) (rcv_o (by first | assumption | first | assumption | (simp (disch := omega) only [shI, shR, shL, shC, shD, shW, sh_V, shN_e, shN_n, crI, crL, crC, crW, crV, crR_e, crR_n, crN_e, crN_n, ciR, ciL, ciD, ciN_e, ciN_n, rdI_e, rdI_n, rdC_i, rdC_o, rdW, rdU_e, rdU_n, rdLW, clI, clR, clC, clD, clW, clV, clN_e, clN_n, clL_e, clL_n]; done) | (simp (disch := omega) only [shI, shR, shL, shC, shD, shW, sh_V, shN_e, shN_n, crI, crL, crC, crW, crV, crR_e, crR_n, crN_e, crN_n, ciR, ciL, ciD, ciN_e, ciN_n, rdI_e, rdI_n, rdC_i, rdC_o, rdW, rdU_e, rdU_n, rdLW, clI, clR, clC, clD, clW, clV, clN_e, clN_n, clL_e, clL_n] <;> first | assumption | rfl | omega)) rfl) (fun x5 M5 h5 => ?_) (fun a5 E5 M5 h5 => ?_)
  · have hsm : msh M5 760 = some (102, 1) := hP _ _ h5
    refine x_i2l dX0_log_8 ?_
    refine x_last (by omega) dX0_log_9 (by first | assumption | first | assumption | (simp (disch := omega) only [shI, shR, shL, shC, shD, shW, sh_V, shN_e, shN_n, crI, crL, crC, crW, crV, crR_e, crR_n, crN_e, crN_n, ciR, ciL, ciD, ciN_e, ciN_n, rdI_e, rdI_n, rdC_i, rdC_o, rdW, rdU_e, rdU_n, rdLW, clI, clR, clC, clD, clW, clV, clN_e, clN_n, clL_e, clL_n]; done) | (simp (disch := omega) only [shI, shR, shL, shC, shD, shW, sh_V, shN_e, shN_n, crI, crL, crC, crW, crV, crR_e, crR_n, crN_e, crN_n, ciR, ciL, ciD, ciN_e, ciN_n, rdI_e, rdI_n, rdC_i, rdC_o, rdW, rdU_e, rdU_n, rdLW, clI, clR, clC, clD, clW, clV, clN_e, clN_n, clL_e, clL_n] <;> first | assumption | rfl | omega)) (by omega) (by omega) ?_
    refine x_goto (tgt := 17) dX0_log_10 (by decide) ?_
    refine x_iconst dX0_log_17 rfl ?_
    refine x_ireturn rfl dX0_log_18 ?_
    exact hQ _ _ ⟨_, rfl, Or.inl ⟨rfl, _, _, h5, rfl⟩⟩
  · obtain rfl := hX _ _ _ h5
    exact th_catchY (pre := []) (x := (0, 10, 13, 26)) (suf := []) rfl (fun z hz => nomatch hz) rfl (by decide) q1301 q1341 dX0_log_13 (by decide) (c0 _ _ h5)
end X0

