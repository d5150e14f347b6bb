/-! GuestView$Machine -/
/-- only cells lo .. hi are changed -/
def Fo (lo hi : Int) (f g : Int → Int → Int) : Prop := ∀ b k, ¬ (lo ≤ b ∧ b ≤ hi) → g b k = f b k
theorem Fo.rfl {lo hi : Int} {f : Int → Int → Int} : Fo lo hi f f := fun _ _ _ => _root_.rfl
theorem Fo.trans {lo hi : Int} {f g h : Int → Int → Int} (a : Fo lo hi f g) (b : Fo lo hi g h) : Fo lo hi f h := fun c k q => (b c k q).trans (a c k q)
theorem Fo.mono {lo hi lo' hi' : Int} {f g : Int → Int → Int} (a : Fo lo hi f g) (h1 : lo' ≤ lo) (h2 : hi ≤ hi') : Fo lo' hi' f g := fun c k q => a c k (fun r => q (by omega))
def MacS (sh : Int → Option (Nat × Int)) (cr : Int → Int → Option Int) (a : Int) : Prop :=
  0 ≤ a ∧ sh a = some (5, 0) ∧ cr a 0 = some (a + 1) ∧ sh (a + 1) = some (100, 8)
/-- the machine at a, its cells so far on -/
def mvw (f : Int → Int → Int) (a s : Int) : Ms := (f a 1, f a 2, f a 3, f a 4, f a 6, fun k => f (a + 1) ((k + s) % 8))
theorem mvw_fo {f g : Int → Int → Int} {lo hi a s : Int} (h : Fo lo hi f g) (ha : a + 1 < lo ∨ hi < a) : mvw g a s = mvw f a s := by
  unfold mvw
  rw [h a 1 (by omega), h a 2 (by omega), h a 3 (by omega), h a 4 (by omega), h a 6 (by omega)]
  have : (fun k => g (a + 1) ((k + s) % 8)) = fun k => f (a + 1) ((k + s) % 8) := funext fun k => h _ _ (by omega)
  rw [this]
theorem mvw_per {f : Int → Int → Int} {a s : Int} : perC (mvw f a s).2.2.2.2.2 := fun k => by
  show f (a + 1) ((k % 8 + s) % 8) = f (a + 1) ((k + s) % 8)
  have : (k % 8 + s) % 8 = (k + s) % 8 := by omega
  rw [this]
/-- a machine in a state of the table; mode, base and clock told, the cells turned -/
def tabM (st md bs cl sk t : Int) : Ms := (st % 4, md, bs, cl, sk, fun k => (st / 32 % 16 % 4 * ((k + t) % 8) + st / 32 % 16 / 4) % 4)
theorem tabM_ok {st md bs cl sk t : Int} (h1 : md = 0 ∨ md = 1) (h2 : 0 ≤ bs ∧ bs < 8) (h3 : 0 ≤ cl ∧ cl < 8) (h4 : sk = 0 ∨ sk = 1) : okM (tabM st md bs cl sk t) :=
  ⟨by show 0 ≤ st % 4 ∧ st % 4 < 4; omega, h1, h2, h3, h4, fun k => by show 0 ≤ (st / 32 % 16 % 4 * ((k + t) % 8) + st / 32 % 16 / 4) % 4 ∧ (st / 32 % 16 % 4 * ((k + t) % 8) + st / 32 % 16 / 4) % 4 < 4; omega⟩
/-- what is seen of two machines is unlike -/
def unM (m m' : Ms) (t : Int) : Prop := m.1 ≠ m'.1 ∨ m.2.2.2.2.1 ≠ m'.2.2.2.2.1 ∨ ∃ k, 0 ≤ k ∧ k < 8 ∧ m.2.2.2.2.2 (k + t) ≠ m'.2.2.2.2.2 k
def TabS (sh : Int → Option (Nat × Int)) (f : Int → Int → Int) : Prop := sh (-1) = some (100, 128) ∧ ∀ p k, 0 ≤ p → p < 16 → 0 ≤ k → k < 8 → f (-1) (8 * p + k) = (p % 4 * k + p / 4) % 4
section X5
variable {G : GW} {d : Nat} {M : Mem} {a o s : Int}
theorem s_X5_be (hd : 10 ≤ d) (h : MacS (msh M) (mcr M) a) (h' : MacS (msh M) (mcr M) o) (hao : o + 1 < a ∨ a + 1 < o) : CS G d mX5_be [dR a, dR o] M (postN fun M1 => ∃ g, M1 = wI M g ∧ (∀ s, mvw g a s = ((mci M o 1), (mci M o 2), (mci M o 3), (mci M o 4), (mci M a 6), fun k => mci M (o + 1) ((k + s) % 8))) ∧ g a 5 = mci M a 5 ∧ Fo a (a + 1) (mci M) g) := by
  obtain ⟨p0, p1, p2, p3⟩ := h
  obtain ⟨r0, r1, r2, r3⟩ := h'
  refine CS.mk (by decide) (Nat.le_of_ble_eq_true rfl) ?_
  refine x_aload_n dX5_be_0 rfl rfl ?_
  refine g_getR (kI := 0) rfl dX5_be_1 fX5_9_5 (by assumption) (by assumption) ?_
  refine x_iconst dX5_be_4 rfl ?_
  refine x_aload_n dX5_be_5 rfl rfl ?_
  refine g_getR (kI := 0) rfl dX5_be_6 fX5_9_5 (by assumption) (by assumption) ?_
  refine x_iconst dX5_be_9 rfl ?_
  refine x_bipush dX5_be_10 rfl ?_
  refine x_copyI kX5_19 (by omega) dX5_be_12 (by assumption) (by omega) (by assumption) (by omega) (by omega) (by omega) (by omega) (by omega) (Nat.le_of_ble_eq_true rfl) ?_
  refine x_aload_n dX5_be_15 rfl rfl ?_
  refine x_aload_n dX5_be_16 rfl rfl ?_
  refine g_getI (kI := 1) rfl dX5_be_17 fX5_25_5 (by assumption) ?_
  refine g_putI (kI := 1) rfl dX5_be_20 fX5_25_5 (by assumption) ?_
  refine x_aload_n dX5_be_23 rfl rfl ?_
  refine x_aload_n dX5_be_24 rfl rfl ?_
  refine g_getI (kI := 2) rfl dX5_be_25 fX5_15_5 (by assumption) ?_
  refine g_putI (kI := 2) rfl dX5_be_28 fX5_15_5 (by assumption) ?_
  refine x_aload_n dX5_be_31 rfl rfl ?_
  refine x_aload_n dX5_be_32 rfl rfl ?_
  refine g_getI (kI := 3) rfl dX5_be_33 fX5_28_5 (by assumption) ?_
  refine g_putI (kI := 3) rfl dX5_be_36 fX5_28_5 (by assumption) ?_
  refine x_aload_n dX5_be_39 rfl rfl ?_
  refine x_aload_n dX5_be_40 rfl rfl ?_
  refine g_getI (kI := 4) rfl dX5_be_41 fX5_31_5 (by assumption) ?_
  refine g_putI (kI := 4) rfl dX5_be_44 fX5_31_5 (by assumption) ?_
  refine x_vreturn rfl dX5_be_47 ?_
  refine ⟨rfl, exI rfl ⟨?_, ?_, ?_⟩⟩
  · intro s
    have e : (fun k => mci M (o + 1) (0 + ((k + s) % 8 - 0))) = fun k => mci M (o + 1) ((k + s) % 8) := funext fun k => by rw [show 0 + ((k + s) % 8 - 0) = (k + s) % 8 by omega]
    unfold mvw
    simp (disch := omega) only [rdI_e, rdI_n, rdC_i, rdC_o, rdW, rdR, rdU_e, rdU_n]
    rw [e]
  · simp (disch := omega) only [rdI_e, rdI_n, rdC_i, rdC_o, rdW, rdR, rdU_e, rdU_n]
  · intro b k q
    simp (disch := omega) only [rdI_e, rdI_n, rdC_i, rdC_o, rdW, rdR, rdU_e, rdU_n]
theorem s_X5_isIn {st : Int} (hd : 10 ≤ d) (h : MacS (msh M) (mcr M) a) (ht : TabS (msh M) (mci M)) (h0 : 0 ≤ st) (h1 : st < 512) : CS G d mX5_isIn [dR a, dI st] M (postN fun M1 => ∃ g, M1 = wI M g ∧ mvw g a 0 = tabM st (st / 4 % 2) (st / 8 % 4 * 2) 0 (mci M a 6) 0 ∧ g a 5 = 0 ∧ Fo a (a + 1) (mci M) g) := by
  obtain ⟨p0, p1, p2, p3⟩ := h
  obtain ⟨t1, t2⟩ := ht
  refine CS.mk (by decide) (Nat.le_of_ble_eq_true rfl) ?_
  refine x_gets (v := dR (-1)) (List.mem_of_getElem? (i := 0) rfl) (by first | exact trivial | (show i32 1; unfold i32; omega)) (Or.inr ⟨_, q1106⟩) dX5_isIn_0 ?_
  refine x_iload_n dX5_isIn_3 rfl rfl ?_
  refine x_bipush dX5_isIn_4 rfl ?_
  first | refine x_idivN dX5_isIn_6 (by omega) (by omega) ?_ | refine x_idiv dX5_isIn_6 (by omega) ?_
  refine x_bipush dX5_isIn_7 rfl ?_
  first | refine x_imulN dX5_isIn_9 (by unfold i32; omega) ?_ | refine x_imul dX5_isIn_9 ?_
  refine x_aload_n dX5_isIn_10 rfl rfl ?_
  refine g_getR (kI := 0) rfl dX5_isIn_11 fX5_9_5 (by assumption) (by assumption) ?_
  refine x_iconst dX5_isIn_14 rfl ?_
  refine x_bipush dX5_isIn_15 rfl ?_
  refine x_copyI kX5_19 (by omega) dX5_isIn_17 (by assumption) (by omega) (by assumption) (by omega) (by omega) (by omega) (by omega) (by omega) (Nat.le_of_ble_eq_true rfl) ?_
  refine x_aload_n dX5_isIn_20 rfl rfl ?_
  refine x_iload_n dX5_isIn_21 rfl rfl ?_
  refine x_iconst dX5_isIn_22 rfl ?_
  first | refine x_iremN dX5_isIn_23 (by omega) (by omega) ?_ | refine x_irem dX5_isIn_23 (by omega) ?_
  refine g_putI (kI := 1) rfl dX5_isIn_24 fX5_25_5 (by assumption) ?_
  refine x_aload_n dX5_isIn_27 rfl rfl ?_
  refine x_iload_n dX5_isIn_28 rfl rfl ?_
  refine x_iconst dX5_isIn_29 rfl ?_
  first | refine x_idivN dX5_isIn_30 (by omega) (by omega) ?_ | refine x_idiv dX5_isIn_30 (by omega) ?_
  refine x_iconst dX5_isIn_31 rfl ?_
  first | refine x_iremN dX5_isIn_32 (by omega) (by omega) ?_ | refine x_irem dX5_isIn_32 (by omega) ?_
  refine g_putI (kI := 2) rfl dX5_isIn_33 fX5_15_5 (by assumption) ?_
  refine x_aload_n dX5_isIn_36 rfl rfl ?_
  refine x_iload_n dX5_isIn_37 rfl rfl ?_
  refine x_bipush dX5_isIn_38 rfl ?_
  first | refine x_idivN dX5_isIn_40 (by omega) (by omega) ?_ | refine x_idiv dX5_isIn_40 (by omega) ?_
  refine x_iconst dX5_isIn_41 rfl ?_
  first | refine x_iremN dX5_isIn_42 (by omega) (by omega) ?_ | refine x_irem dX5_isIn_42 (by omega) ?_
  refine x_iconst dX5_isIn_43 rfl ?_
  first | refine x_imulN dX5_isIn_44 (by unfold i32; omega) ?_ | refine x_imul dX5_isIn_44 ?_
  refine g_putI (kI := 3) rfl dX5_isIn_45 fX5_28_5 (by assumption) ?_
  refine x_aload_n dX5_isIn_48 rfl rfl ?_
  refine x_iconst dX5_isIn_49 rfl ?_
  refine g_putI (kI := 4) rfl dX5_isIn_50 fX5_31_5 (by assumption) ?_
  refine x_aload_n dX5_isIn_53 rfl rfl ?_
  refine x_iconst dX5_isIn_54 rfl ?_
  refine g_putI (kI := 5) rfl dX5_isIn_55 fX5_37_5 (by assumption) ?_
  refine x_vreturn rfl dX5_isIn_58 ?_
  refine ⟨rfl, exI rfl ⟨?_, ?_, ?_⟩⟩
  · have e : (fun k => mci M (-1) (st / 32 * 8 + ((k + 0) % 8 - 0))) = fun k => (st / 32 % 16 % 4 * ((k + 0) % 8) + st / 32 % 16 / 4) % 4 := funext fun k => by
      rw [show st / 32 * 8 + ((k + 0) % 8 - 0) = 8 * (st / 32) + (k + 0) % 8 by omega, t2 (st / 32) ((k + 0) % 8) (by omega) (by omega) (by omega) (by omega), show st / 32 % 16 = st / 32 by omega]
    unfold mvw tabM
    simp (disch := omega) only [rdI_e, rdI_n, rdC_i, rdC_o, rdW, rdR, rdU_e, rdU_n]
    rw [e]
  · simp (disch := omega) only [rdI_e, rdI_n, rdC_i, rdC_o, rdW, rdR, rdU_e, rdU_n]
  · intro b k q
    simp (disch := omega) only [rdI_e, rdI_n, rdC_i, rdC_o, rdW, rdR, rdU_e, rdU_n]
theorem s_X5_place {n : Int} (hd : 10 ≤ d) (h : MacS (msh M) (mcr M) a) (h0 : 0 ≤ n ∧ n < 8) (h1 : 0 ≤ mci M a 3 ∧ mci M a 3 < 8) (h2 : 0 ≤ mci M a 5 ∧ mci M a 5 < 8) : CS G d mX5_place [dR a, dI n] M (postI fun x M1 => x = (n + mci M a 3 + mci M a 5) % 8 ∧ M1 = M) := by
  obtain ⟨p0, p1, p2, p3⟩ := h
  refine CS.mk (by decide) (Nat.le_of_ble_eq_true rfl) ?_
  refine x_iload_n dX5_place_0 rfl rfl ?_
  refine x_aload_n dX5_place_1 rfl rfl ?_
  refine g_getI (kI := 3) rfl dX5_place_2 fX5_28_5 (by assumption) ?_
  first | refine x_iaddN dX5_place_5 (by unfold i32; omega) ?_ | refine x_iadd dX5_place_5 ?_
  refine x_aload_n dX5_place_6 rfl rfl ?_
  refine g_getI (kI := 5) rfl dX5_place_7 fX5_37_5 (by assumption) ?_
  first | refine x_iaddN dX5_place_10 (by unfold i32; omega) ?_ | refine x_iadd dX5_place_10 ?_
  refine x_bipush dX5_place_11 rfl ?_
  first | refine x_iremN dX5_place_13 (by omega) (by omega) ?_ | refine x_irem dX5_place_13 (by omega) ?_
  refine x_ireturn rfl dX5_place_14 ?_
  exact ⟨_, rfl, rfl, rfl⟩
theorem s_X5_isTrapped (hd : 10 ≤ d) (h : MacS (msh M) (mcr M) a) (h' : OpS (msh M) (mcr M) o) : CS G d mX5_isTrapped [dR a, dR o] M (postI fun x M1 => x = vP (mci M o 4 ≠ 0 ∧ mci M a 2 = 0) ∧ M1 = M) := by
  obtain ⟨p0, p1, p2, p3⟩ := h
  obtain ⟨r0, r1, -⟩ := h'
  refine CS.mk (by decide) (Nat.le_of_ble_eq_true rfl) ?_
  refine x_aload_n dX5_isTrapped_0 rfl rfl ?_
  refine g_getZ (kI := 4) rfl dX5_isTrapped_1 fX5_63_6 (by assumption) ?_
  refine x_if_eq (tgt := 18) dX5_isTrapped_4 (by decide) (fun h4 => ?_) (fun h4 => ?_)
  · refine x_iconst dX5_isTrapped_18 rfl ?_
    refine x_zreturn (by first | exact Or.inl rfl | exact Or.inr rfl | exact vB_r _ | assumption | omega) rfl dX5_isTrapped_19 ?_
    exact ⟨_, rfl, (by first | exact (vP_t (by omega)).symm | exact (vP_f (by omega)).symm), rfl⟩
  · refine x_aload_n dX5_isTrapped_7 rfl rfl ?_
    refine g_getI (kI := 2) rfl dX5_isTrapped_8 fX5_15_5 (by assumption) ?_
    refine x_if_ne (tgt := 18) dX5_isTrapped_11 (by decide) (fun h11 => ?_) (fun h11 => ?_)
    · refine x_iconst dX5_isTrapped_18 rfl ?_
      refine x_zreturn (by first | exact Or.inl rfl | exact Or.inr rfl | exact vB_r _ | assumption | omega) rfl dX5_isTrapped_19 ?_
      exact ⟨_, rfl, (by first | exact (vP_t (by omega)).symm | exact (vP_f (by omega)).symm), rfl⟩
    · refine x_iconst dX5_isTrapped_14 rfl ?_
      refine x_goto (tgt := 19) dX5_isTrapped_15 (by decide) ?_
      refine x_zreturn (by first | exact Or.inl rfl | exact Or.inr rfl | exact vB_r _ | assumption | omega) rfl dX5_isTrapped_19 ?_
      exact ⟨_, rfl, (by first | exact (vP_t (by omega)).symm | exact (vP_f (by omega)).symm), rfl⟩
theorem s_X5_isTurned (hd : 10 ≤ d) (h : MacS (msh M) (mcr M) a) (h' : MacS (msh M) (mcr M) o) (hao : o + 1 < a ∨ a + 1 < o) (hb : 0 ≤ mci M o 3 ∧ mci M o 3 < 8) : CS G d mX5_isTurned [dR a, dR o] M (postN fun M1 => ∃ g, M1 = wI M g ∧ mvw g a 0 = (mci M o 1, mci M o 2, 0, mci M o 4, mci M a 6, fun k => mci M (o + 1) ((k + mci M o 3) % 8)) ∧ g a 5 = 0 ∧ Fo a (a + 1) (mci M) g) := by
  obtain ⟨p0, p1, p2, p3⟩ := h
  obtain ⟨r0, r1, r2, r3⟩ := h'
  have loop : ∀ (t : Nat) (k : Int) (g : Int → Int → Int), (8 - k).toNat = t → 0 ≤ k → k ≤ 8 → Fo (a + 1) (a + 1) (mci M) g → (∀ i, 0 ≤ i → i < k → g (a + 1) i = mci M (o + 1) ((i + mci M o 3) % 8)) → WP G d mX5_isTurned 2 [some (dR a), some (dR o), some (dI k)] [] (wI M g) (postN fun M1 => ∃ g, M1 = wI M g ∧ mvw g a 0 = (mci M o 1, mci M o 2, 0, mci M o 4, mci M a 6, fun k => mci M (o + 1) ((k + mci M o 3) % 8)) ∧ g a 5 = 0 ∧ Fo a (a + 1) (mci M) g) := by
    intro t
    induction t using Nat.strongRecOn with
    | _ t ih =>
      intro k g ht hk hk2 hf hg
      have e3 : g o 3 = mci M o 3 := hf _ _ (by omega)
      have e3' : mci (wI M g) o 3 = mci M o 3 := e3
      have eo : ∀ i, g (o + 1) i = mci M (o + 1) i := fun i => hf _ _ (by omega)
      refine x_iload_n dX5_isTurned_2 rfl rfl ?_
      refine x_bipush dX5_isTurned_3 rfl ?_
      refine x_icmp_ge (tgt := 34) dX5_isTurned_5 (by decide) (fun h5 => ?_) (fun h5 => ?_)
      · refine x_aload_n dX5_isTurned_34 rfl rfl ?_
        refine x_aload_n dX5_isTurned_35 rfl rfl ?_
        refine g_getI (kI := 1) rfl dX5_isTurned_36 fX5_25_5 (by assumption) ?_
        refine g_putI (kI := 1) rfl dX5_isTurned_39 fX5_25_5 (by assumption) ?_
        refine x_aload_n dX5_isTurned_42 rfl rfl ?_
        refine x_aload_n dX5_isTurned_43 rfl rfl ?_
        refine g_getI (kI := 2) rfl dX5_isTurned_44 fX5_15_5 (by assumption) ?_
        refine g_putI (kI := 2) rfl dX5_isTurned_47 fX5_15_5 (by assumption) ?_
        refine x_aload_n dX5_isTurned_50 rfl rfl ?_
        refine x_iconst dX5_isTurned_51 rfl ?_
        refine g_putI (kI := 3) rfl dX5_isTurned_52 fX5_28_5 (by assumption) ?_
        refine x_aload_n dX5_isTurned_55 rfl rfl ?_
        refine x_aload_n dX5_isTurned_56 rfl rfl ?_
        refine g_getI (kI := 4) rfl dX5_isTurned_57 fX5_31_5 (by assumption) ?_
        refine g_putI (kI := 4) rfl dX5_isTurned_60 fX5_31_5 (by assumption) ?_
        refine x_aload_n dX5_isTurned_63 rfl rfl ?_
        refine x_iconst dX5_isTurned_64 rfl ?_
        refine g_putI (kI := 5) rfl dX5_isTurned_65 fX5_37_5 (by assumption) ?_
        refine x_vreturn rfl dX5_isTurned_68 ?_
        refine ⟨rfl, exI rfl ⟨?_, ?_, ?_⟩⟩
        · have k8 : k = 8 := by omega
          subst k8
          have f1 : g o 1 = mci M o 1 := hf _ _ (by omega)
          have f2 : g o 2 = mci M o 2 := hf _ _ (by omega)
          have f4 : g o 4 = mci M o 4 := hf _ _ (by omega)
          have f6 : g a 6 = mci M a 6 := hf _ _ (by omega)
          have e : (fun k => g (a + 1) ((k + 0) % 8)) = fun k => mci M (o + 1) ((k + mci M o 3) % 8) := funext fun k => by
            rw [hg ((k + 0) % 8) (by omega) (by omega), show ((k + 0) % 8 + mci M o 3) % 8 = (k + mci M o 3) % 8 by omega]
          unfold mvw
          simp (disch := omega) only [rdI_e, rdI_n, rdC_i, rdC_o, rdW, rdR, rdU_e, rdU_n]
          rw [e, f1, f2, f4, f6]
        · simp (disch := omega) only [rdI_e, rdI_n, rdC_i, rdC_o, rdW, rdR, rdU_e, rdU_n]
        · intro b k q
          have := hf b k (by omega)
          simp (disch := omega) only [rdI_e, rdI_n, rdC_i, rdC_o, rdW, rdR, rdU_e, rdU_n]
          exact this
      · refine x_aload_n dX5_isTurned_8 rfl rfl ?_
        refine g_getR (kI := 0) rfl dX5_isTurned_9 fX5_9_5 (by assumption) (by assumption) ?_
        refine x_iload_n dX5_isTurned_12 rfl rfl ?_
        refine x_aload_n dX5_isTurned_13 rfl rfl ?_
        refine g_getR (kI := 0) rfl dX5_isTurned_14 fX5_9_5 (by assumption) (by assumption) ?_
        refine x_iload_n dX5_isTurned_17 rfl rfl ?_
        refine x_aload_n dX5_isTurned_18 rfl rfl ?_
        refine g_getI (kI := 3) rfl dX5_isTurned_19 fX5_28_5 (by assumption) ?_
        rw [e3']
        first | refine x_iaddN dX5_isTurned_22 (by unfold i32; omega) ?_ | refine x_iadd dX5_isTurned_22 ?_
        refine x_bipush dX5_isTurned_23 rfl ?_
        first | refine x_iremN dX5_isTurned_25 (by omega) (by omega) ?_ | refine x_irem dX5_isTurned_25 (by omega) ?_
        refine x_iald dX5_isTurned_26 (by assumption) (by omega) (by omega) ?_
        rw [show mci (wI M g) (o + 1) ((k + mci M o 3) % 8) = mci M (o + 1) ((k + mci M o 3) % 8) from eo _]
        refine x_iast (by omega) dX5_isTurned_27 (by assumption) (by omega) (by omega) ?_
        first | refine x_iincN (L' := [some _, some _, some _]) dX5_isTurned_28 rfl (by decide) (by unfold i32; omega) rfl ?_ | refine x_iinc (L' := [some _, some _, some _]) dX5_isTurned_28 rfl (by decide) rfl ?_
        refine x_goto (tgt := 2) dX5_isTurned_31 (by decide) ?_
        refine ih _ (by omega) (k + 1) (up g (a + 1) k (mci M (o + 1) ((k + mci M o 3) % 8))) rfl (by omega) (by omega) (fun b i q => ?_) (fun i q1 q2 => ?_)
        · have := hf b i q
          simp (disch := omega) only [rdI_e, rdI_n, rdC_i, rdC_o, rdW, rdR, rdU_e, rdU_n]
          exact this
        · by_cases e : i = k
          · subst e; simp (disch := omega) only [rdI_e, rdI_n, rdC_i, rdC_o, rdW, rdR, rdU_e, rdU_n]
          · have := hg i q1 (by omega)
            simp (disch := omega) only [rdI_e, rdI_n, rdC_i, rdC_o, rdW, rdR, rdU_e, rdU_n]
            exact this
  refine CS.mk (by decide) (Nat.le_of_ble_eq_true rfl) ?_
  refine x_iconst dX5_isTurned_0 rfl ?_
  refine x_istore_n (L' := [some _, some _, some _]) dX5_isTurned_1 rfl (by decide) rfl ?_
  exact loop _ 0 (mci M) rfl (by omega) (by omega) Fo.rfl (fun i _ _ => by omega)
theorem s_X5_isUnlike {n : Int} (hd : 10 ≤ d) (h : MacS (msh M) (mcr M) a) (h' : MacS (msh M) (mcr M) o) (hb : 0 ≤ n ∧ n < 8) : CS G d mX5_isUnlike [dR a, dR o, dI n] M (postI fun x M1 => x = vP (unM (mvw (mci M) a 0) (mvw (mci M) o 0) n) ∧ M1 = M) := by
  obtain ⟨p0, p1, p2, p3⟩ := h
  obtain ⟨r0, r1, r2, r3⟩ := h'
  have loop : ∀ (t : Nat) (k x : Int), (8 - k).toNat = t → 0 ≤ k → k ≤ 8 → x = vP (mci M a 1 ≠ mci M o 1 ∨ mci M a 6 ≠ mci M o 6 ∨ ∃ i, 0 ≤ i ∧ i < k ∧ mci M (a + 1) ((i + n) % 8) ≠ mci M (o + 1) i) → WP G d mX5_isUnlike 31 [some (dR a), some (dR o), some (dI n), some (dI x), some (dI k)] [] M (postI fun x M1 => x = vP (unM (mvw (mci M) a 0) (mvw (mci M) o 0) n) ∧ M1 = M) := by
    intro t
    induction t using Nat.strongRecOn with
    | _ t ih =>
      intro k x ht hk hk2 hx
      have ha : x = 0 ∨ x = 1 := by rw [hx]; exact vP_r _
      refine x_iload dX5_isUnlike_31 rfl ?_
      refine x_bipush dX5_isUnlike_33 rfl ?_
      refine x_icmp_ge (tgt := 74) dX5_isUnlike_35 (by decide) (fun h35 => ?_) (fun h35 => ?_)
      · refine x_iload_n dX5_isUnlike_74 rfl rfl ?_
        refine x_zreturn (by exact ha) rfl dX5_isUnlike_75 ?_
        refine ⟨_, rfl, ?_, rfl⟩
        rw [hx]
        have k8 : k = 8 := by omega
        subst k8
        refine vP_c ⟨?_, ?_⟩
        · rintro (q | q | ⟨i, q1, q2, q3⟩)
          · exact Or.inl q
          · exact Or.inr (Or.inl q)
          · refine Or.inr (Or.inr ⟨i, q1, q2, ?_⟩)
            show mci M (a + 1) ((i + n + 0) % 8) ≠ mci M (o + 1) ((i + 0) % 8)
            rw [show (i + n + 0) % 8 = (i + n) % 8 by omega, show (i + 0) % 8 = i by omega]
            exact q3
        · rintro (q | q | ⟨i, q1, q2, q3⟩)
          · exact Or.inl q
          · exact Or.inr (Or.inl q)
          · refine Or.inr (Or.inr ⟨i, q1, q2, ?_⟩)
            have q4 : mci M (a + 1) ((i + n + 0) % 8) ≠ mci M (o + 1) ((i + 0) % 8) := q3
            rw [show (i + n + 0) % 8 = (i + n) % 8 by omega, show (i + 0) % 8 = i by omega] at q4
            exact q4
      · refine x_iload_n dX5_isUnlike_38 rfl rfl ?_
        refine x_aload_n dX5_isUnlike_39 rfl rfl ?_
        refine g_getR (kI := 0) rfl dX5_isUnlike_40 fX5_9_5 (by assumption) (by assumption) ?_
        refine x_iload dX5_isUnlike_43 rfl ?_
        refine x_iload_n dX5_isUnlike_45 rfl rfl ?_
        first | refine x_iaddN dX5_isUnlike_46 (by unfold i32; omega) ?_ | refine x_iadd dX5_isUnlike_46 ?_
        refine x_bipush dX5_isUnlike_47 rfl ?_
        first | refine x_iremN dX5_isUnlike_49 (by omega) (by omega) ?_ | refine x_irem dX5_isUnlike_49 (by omega) ?_
        refine x_iald dX5_isUnlike_50 (by assumption) (by omega) (by omega) ?_
        refine x_aload_n dX5_isUnlike_51 rfl rfl ?_
        refine g_getR (kI := 0) rfl dX5_isUnlike_52 fX5_9_5 (by assumption) (by assumption) ?_
        refine x_iload dX5_isUnlike_55 rfl ?_
        refine x_iald dX5_isUnlike_57 (by assumption) (by omega) (by omega) ?_
        refine x_icmp_eq (tgt := 65) dX5_isUnlike_58 (by decide) (fun h58 => ?_) (fun h58 => ?_)
        · refine x_iconst dX5_isUnlike_65 rfl ?_
          refine x_ior dX5_isUnlike_66 ?_
          refine x_istore_n (L' := [some _, some _, some _, some _, some _]) dX5_isUnlike_67 rfl (by decide) rfl ?_
          first | refine x_iincN (L' := [some _, some _, some _, some _, some _]) dX5_isUnlike_68 rfl (by decide) (by unfold i32; omega) rfl ?_ | refine x_iinc (L' := [some _, some _, some _, some _, some _]) dX5_isUnlike_68 rfl (by decide) rfl ?_
          refine x_goto (tgt := 31) dX5_isUnlike_71 (by decide) ?_
          refine ih _ (by omega) (k + 1) _ rfl (by omega) (by omega) ?_
          first
          | rw [jor_1 ha]; exact (vP_t (Or.inr (Or.inr ⟨k, by omega, by omega, h58⟩))).symm
          | rw [jor_0 ha, hx]
            refine vP_c ⟨?_, ?_⟩
            · rintro (q | q | ⟨i, q1, q2, q3⟩)
              · exact Or.inl q
              · exact Or.inr (Or.inl q)
              · exact Or.inr (Or.inr ⟨i, q1, by omega, q3⟩)
            · rintro (q | q | ⟨i, q1, q2, q3⟩)
              · exact Or.inl q
              · exact Or.inr (Or.inl q)
              · refine Or.inr (Or.inr ⟨i, q1, ?_, q3⟩)
                by_cases e : i = k
                · subst e; exact absurd h58 q3
                · omega
        · refine x_iconst dX5_isUnlike_61 rfl ?_
          refine x_goto (tgt := 66) dX5_isUnlike_62 (by decide) ?_
          refine x_ior dX5_isUnlike_66 ?_
          refine x_istore_n (L' := [some _, some _, some _, some _, some _]) dX5_isUnlike_67 rfl (by decide) rfl ?_
          first | refine x_iincN (L' := [some _, some _, some _, some _, some _]) dX5_isUnlike_68 rfl (by decide) (by unfold i32; omega) rfl ?_ | refine x_iinc (L' := [some _, some _, some _, some _, some _]) dX5_isUnlike_68 rfl (by decide) rfl ?_
          refine x_goto (tgt := 31) dX5_isUnlike_71 (by decide) ?_
          refine ih _ (by omega) (k + 1) _ rfl (by omega) (by omega) ?_
          first
          | rw [jor_1 ha]; exact (vP_t (Or.inr (Or.inr ⟨k, by omega, by omega, h58⟩))).symm
          | rw [jor_0 ha, hx]
            refine vP_c ⟨?_, ?_⟩
            · rintro (q | q | ⟨i, q1, q2, q3⟩)
              · exact Or.inl q
              · exact Or.inr (Or.inl q)
              · exact Or.inr (Or.inr ⟨i, q1, by omega, q3⟩)
            · rintro (q | q | ⟨i, q1, q2, q3⟩)
              · exact Or.inl q
              · exact Or.inr (Or.inl q)
              · refine Or.inr (Or.inr ⟨i, q1, ?_, q3⟩)
                by_cases e : i = k
                · subst e; exact absurd h58 q3
                · omega
  refine CS.mk (by decide) (Nat.le_of_ble_eq_true rfl) ?_
  refine x_aload_n dX5_isUnlike_0 rfl rfl ?_
  refine g_getI (kI := 1) rfl dX5_isUnlike_1 fX5_25_5 (by assumption) ?_
  refine x_aload_n dX5_isUnlike_4 rfl rfl ?_
  refine g_getI (kI := 1) rfl dX5_isUnlike_5 fX5_25_5 (by assumption) ?_
  refine x_icmp_ne (tgt := 22) dX5_isUnlike_8 (by decide) (fun h8 => ?_) (fun h8 => ?_)
  · refine x_iconst dX5_isUnlike_22 rfl ?_
    refine x_goto (tgt := 27) dX5_isUnlike_23 (by decide) ?_
    refine x_istore_n (L' := [some _, some _, some _, some _, none]) dX5_isUnlike_27 rfl (by decide) rfl ?_
    refine x_iconst dX5_isUnlike_28 rfl ?_
    refine x_istore (L' := [some _, some _, some _, some _, some _]) dX5_isUnlike_29 (by decide) rfl ?_
    refine loop _ 0 _ rfl (by omega) (by omega) ?_
    first
    | exact (vP_t (Or.inl h8)).symm
    | exact (vP_t (Or.inr (Or.inl h19))).symm
    | refine (vP_f ?_).symm
      rintro (q | q | ⟨i, q1, q2, -⟩)
      · exact q h8
      · exact q h19
      · omega
  · refine x_aload_n dX5_isUnlike_11 rfl rfl ?_
    refine g_getZ (kI := 6) rfl dX5_isUnlike_12 fX5_44_5 (by assumption) ?_
    refine x_aload_n dX5_isUnlike_15 rfl rfl ?_
    refine g_getZ (kI := 6) rfl dX5_isUnlike_16 fX5_44_5 (by assumption) ?_
    refine x_icmp_eq (tgt := 26) dX5_isUnlike_19 (by decide) (fun h19 => ?_) (fun h19 => ?_)
    · refine x_iconst dX5_isUnlike_26 rfl ?_
      refine x_istore_n (L' := [some _, some _, some _, some _, none]) dX5_isUnlike_27 rfl (by decide) rfl ?_
      refine x_iconst dX5_isUnlike_28 rfl ?_
      refine x_istore (L' := [some _, some _, some _, some _, some _]) dX5_isUnlike_29 (by decide) rfl ?_
      refine loop _ 0 _ rfl (by omega) (by omega) ?_
      first
      | exact (vP_t (Or.inl h8)).symm
      | exact (vP_t (Or.inr (Or.inl h19))).symm
      | refine (vP_f ?_).symm
        rintro (q | q | ⟨i, q1, q2, -⟩)
        · exact q h8
        · exact q h19
        · omega
    · refine x_iconst dX5_isUnlike_22 rfl ?_
      refine x_goto (tgt := 27) dX5_isUnlike_23 (by decide) ?_
      refine x_istore_n (L' := [some _, some _, some _, some _, none]) dX5_isUnlike_27 rfl (by decide) rfl ?_
      refine x_iconst dX5_isUnlike_28 rfl ?_
      refine x_istore (L' := [some _, some _, some _, some _, some _]) dX5_isUnlike_29 (by decide) rfl ?_
      refine loop _ 0 _ rfl (by omega) (by omega) ?_
      first
      | exact (vP_t (Or.inl h8)).symm
      | exact (vP_t (Or.inr (Or.inl h19))).symm
      | refine (vP_f ?_).symm
        rintro (q | q | ⟨i, q1, q2, -⟩)
        · exact q h8
        · exact q h19
        · omega
/-- an operation's micros and flags are in range -/
def OpOk (f : Int → Int → Int) (o : Int) : Prop := (0 ≤ f o 3 ∧ f o 3 ≤ 3) ∧ (f o 4 = 0 ∨ f o 4 = 1) ∧ (f o 5 = 0 ∨ f o 5 = 1) ∧ ∀ i, 0 ≤ i → i < f o 3 → (0 ≤ f (o + 1) i ∧ f (o + 1) i ≤ 10) ∧ 0 ≤ f (o + 2) i ∧ f (o + 2) i < 8
theorem okM_mvw {f : Int → Int → Int} {a s : Int} (h : okM (mvw f a s)) : (0 ≤ f a 1 ∧ f a 1 < 4) ∧ (f a 2 = 0 ∨ f a 2 = 1) ∧ (0 ≤ f a 3 ∧ f a 3 < 8) ∧ (0 ≤ f a 4 ∧ f a 4 < 8) ∧ (f a 6 = 0 ∨ f a 6 = 1) ∧ ∀ k, 0 ≤ f (a + 1) ((k + s) % 8) ∧ f (a + 1) ((k + s) % 8) < 4 := h
theorem s_X5_goes {n kind : Int} (hd : 11 ≤ d) (h : MacS (msh M) (mcr M) a) (hs : s = mci M a 5) (ho : 0 ≤ s ∧ s < 8) (hok : okM (mvw (mci M) a s)) (hk : 0 ≤ kind ∧ kind ≤ 10) (hn : 0 ≤ n ∧ n < 8) : CS G d mX5_goes [dR a, dI kind, dI n] M (postI fun x M1 => ∃ g, M1 = wI M g ∧ mvw g a s = step1 kind n (mvw (mci M) a s) ∧ x = vP (¬ (kind = 10 ∧ (step1 kind n (mvw (mci M) a s)).2.1 ≠ 1)) ∧ g a 5 = s ∧ Fo a (a + 1) (mci M) g) := by
  have hh := h
  obtain ⟨p0, p1, p2, p3⟩ := h
  obtain ⟨c1, c2, c3, c4, c5, c6⟩ := okM_mvw hok
  have hpl : ∀ n', (n + mci M a 3 + mci M a 5) % 8 = n' → mci M (a + 1) n' = (mvw (mci M) a s).2.2.2.2.2 (n + mci M a 3) := fun n' e => by
    show _ = mci M (a + 1) ((n + mci M a 3 + s) % 8)
    rw [hs, ← e]
  have hsv : ∀ n' v, (n + mci M a 3 + mci M a 5) % 8 = n' → (fun k => mci (mI M (a + 1) n' v) (a + 1) ((k + s) % 8)) = upP (mvw (mci M) a s).2.2.2.2.2 (n + mci M a 3) v := fun n' v e => funext fun k => by
    unfold upP
    by_cases q : k % 8 = (n + mci M a 3) % 8
    · rw [if_pos q]
      exact if_pos ⟨rfl, by omega⟩
    · rw [if_neg q]
      exact if_neg (by omega)
  refine CS.mk (by decide) (Nat.le_of_ble_eq_true rfl) ?_
  refine x_iload_n dX5_goes_0 rfl rfl ?_
  rcases (show kind = 0 ∨ kind = 1 ∨ kind = 2 ∨ kind = 3 ∨ kind = 4 ∨ kind = 5 ∨ kind = 6 ∨ kind = 7 ∨ kind = 8 ∨ kind = 9 ∨ (kind < 0 ∨ 9 < kind) by omega) with hs1 | hs1 | hs1 | hs1 | hs1 | hs1 | hs1 | hs1 | hs1 | hs1 | hs1
  · refine x_tab_in (tgt := 56) (off := 55) dX5_goes_1 (by omega) (by omega) (by rw [hs1]; rfl) (by decide) ?_
    refine x_aload_n dX5_goes_56 rfl rfl ?_
    refine x_aload_n dX5_goes_57 rfl rfl ?_
    refine g_getI (kI := 1) rfl dX5_goes_58 fX5_25_5 (by assumption) ?_
    refine x_iload_n dX5_goes_61 rfl rfl ?_
    first | refine x_iaddN dX5_goes_62 (by unfold i32; omega) ?_ | refine x_iadd dX5_goes_62 ?_
    refine x_iconst dX5_goes_63 rfl ?_
    first | refine x_iremN dX5_goes_64 (by omega) (by omega) ?_ | refine x_irem dX5_goes_64 (by omega) ?_
    refine g_putI (kI := 1) rfl dX5_goes_65 fX5_25_5 (by assumption) ?_
    refine x_goto (tgt := 212) dX5_goes_68 (by decide) ?_
    refine x_iconst dX5_goes_212 rfl ?_
    refine x_zreturn (by first | exact Or.inl rfl | exact Or.inr rfl | exact vB_r _ | assumption | omega) rfl dX5_goes_213 ?_
    first
    | subst hs1
      refine ⟨_, rfl, exI rfl ⟨?_, ?_, ?_, ?_⟩⟩
      · first
        | (have e := fun v => hsv _ v rfl
           unfold mvw
           unfold mvw at e
           simp (disch := omega) only [rdI_e, rdI_n, rdC_i, rdC_o, rdW, rdR, rdU_e, rdU_n]
           exact congrArg (fun q => (mci _ a 1, mci _ a 2, mci _ a 3, mci _ a 4, mci _ a 6, q)) (e _))
        | (unfold mvw
           simp (disch := omega) only [rdI_e, rdI_n, rdC_i, rdC_o, rdW, rdR, rdU_e, rdU_n]
           first | rfl | (rw [hs]; rfl) | (rw [jor_1 c5]; exact congrArg (fun q => (mci M a 1, mci M a 2, mci M a 3, mci M a 4, q, fun k => mci M (a + 1) ((k + s) % 8))) (if_pos h183).symm) | (rw [jor_0 c5]; exact congrArg (fun q => (mci M a 1, mci M a 2, mci M a 3, mci M a 4, q, fun k => mci M (a + 1) ((k + s) % 8))) (if_neg h183).symm))
      · exact (vP_t (fun q => by have := q.1; omega)).symm
      · simp (disch := omega) only [rdI_e, rdI_n, rdC_i, rdC_o, rdW, rdR, rdU_e, rdU_n]
        exact hs.symm
      · intro b k q
        simp (disch := omega) only [rdI_e, rdI_n, rdC_i, rdC_o, rdW, rdR, rdU_e, rdU_n]
    | (have hk10 : kind = 10 := by omega
       subst hk10
       refine ⟨_, rfl, exI rfl ⟨rfl, ?_, hs.symm, Fo.rfl⟩⟩
       first | exact (vP_t (fun q => q.2 h203)).symm | exact (vP_f (fun q => q ⟨rfl, h203⟩)).symm)
  · refine x_tab_in (tgt := 71) (off := 70) dX5_goes_1 (by omega) (by omega) (by rw [hs1]; rfl) (by decide) ?_
    refine x_aload_n dX5_goes_71 rfl rfl ?_
    refine x_aload_n dX5_goes_72 rfl rfl ?_
    refine g_getR (kI := 0) rfl dX5_goes_73 fX5_9_5 (by assumption) (by assumption) ?_
    refine x_aload_n dX5_goes_76 rfl rfl ?_
    refine x_iload_n dX5_goes_77 rfl rfl ?_
    refine g_callI (vs := [_, _]) (d' := d - 1) rfl (s_X5_place (by omega) hh hn c3 (by omega)) dX5_goes_78 kX5_40 (by omega) (by decide) rfl (Nat.le_of_ble_eq_true rfl) (rcv_o (by assumption) rfl) (fun x78 M78 h78 => ?_)
    obtain ⟨rfl, rfl⟩ := h78
    refine x_iald dX5_goes_81 (by assumption) (by omega) (by omega) ?_
    refine g_putI (kI := 1) rfl dX5_goes_82 fX5_25_5 (by assumption) ?_
    refine x_goto (tgt := 212) dX5_goes_85 (by decide) ?_
    refine x_iconst dX5_goes_212 rfl ?_
    refine x_zreturn (by first | exact Or.inl rfl | exact Or.inr rfl | exact vB_r _ | assumption | omega) rfl dX5_goes_213 ?_
    first
    | subst hs1
      refine ⟨_, rfl, exI rfl ⟨?_, ?_, ?_, ?_⟩⟩
      · first
        | (have e := fun v => hsv _ v rfl
           unfold mvw
           unfold mvw at e
           simp (disch := omega) only [rdI_e, rdI_n, rdC_i, rdC_o, rdW, rdR, rdU_e, rdU_n]
           exact congrArg (fun q => (mci _ a 1, mci _ a 2, mci _ a 3, mci _ a 4, mci _ a 6, q)) (e _))
        | (unfold mvw
           simp (disch := omega) only [rdI_e, rdI_n, rdC_i, rdC_o, rdW, rdR, rdU_e, rdU_n]
           first | rfl | (rw [hs]; rfl) | (rw [jor_1 c5]; exact congrArg (fun q => (mci M a 1, mci M a 2, mci M a 3, mci M a 4, q, fun k => mci M (a + 1) ((k + s) % 8))) (if_pos h183).symm) | (rw [jor_0 c5]; exact congrArg (fun q => (mci M a 1, mci M a 2, mci M a 3, mci M a 4, q, fun k => mci M (a + 1) ((k + s) % 8))) (if_neg h183).symm))
      · exact (vP_t (fun q => by have := q.1; omega)).symm
      · simp (disch := omega) only [rdI_e, rdI_n, rdC_i, rdC_o, rdW, rdR, rdU_e, rdU_n]
        exact hs.symm
      · intro b k q
        simp (disch := omega) only [rdI_e, rdI_n, rdC_i, rdC_o, rdW, rdR, rdU_e, rdU_n]
    | (have hk10 : kind = 10 := by omega
       subst hk10
       refine ⟨_, rfl, exI rfl ⟨rfl, ?_, hs.symm, Fo.rfl⟩⟩
       first | exact (vP_t (fun q => q.2 h203)).symm | exact (vP_f (fun q => q ⟨rfl, h203⟩)).symm)
  · refine x_tab_in (tgt := 88) (off := 87) dX5_goes_1 (by omega) (by omega) (by rw [hs1]; rfl) (by decide) ?_
    refine x_aload_n dX5_goes_88 rfl rfl ?_
    refine g_getR (kI := 0) rfl dX5_goes_89 fX5_9_5 (by assumption) (by assumption) ?_
    refine x_aload_n dX5_goes_92 rfl rfl ?_
    refine x_iload_n dX5_goes_93 rfl rfl ?_
    refine g_callI (vs := [_, _]) (d' := d - 1) rfl (s_X5_place (by omega) hh hn c3 (by omega)) dX5_goes_94 kX5_40 (by omega) (by decide) rfl (Nat.le_of_ble_eq_true rfl) (rcv_o (by assumption) rfl) (fun x94 M94 h94 => ?_)
    obtain ⟨rfl, rfl⟩ := h94
    refine x_aload_n dX5_goes_97 rfl rfl ?_
    refine g_getI (kI := 1) rfl dX5_goes_98 fX5_25_5 (by assumption) ?_
    refine x_iast (by omega) dX5_goes_101 (by assumption) (by omega) (by omega) ?_
    refine x_goto (tgt := 212) dX5_goes_102 (by decide) ?_
    refine x_iconst dX5_goes_212 rfl ?_
    refine x_zreturn (by first | exact Or.inl rfl | exact Or.inr rfl | exact vB_r _ | assumption | omega) rfl dX5_goes_213 ?_
    first
    | subst hs1
      refine ⟨_, rfl, exI rfl ⟨?_, ?_, ?_, ?_⟩⟩
      · first
        | (have e := fun v => hsv _ v rfl
           unfold mvw
           unfold mvw at e
           simp (disch := omega) only [rdI_e, rdI_n, rdC_i, rdC_o, rdW, rdR, rdU_e, rdU_n]
           exact congrArg (fun q => (mci _ a 1, mci _ a 2, mci _ a 3, mci _ a 4, mci _ a 6, q)) (e _))
        | (unfold mvw
           simp (disch := omega) only [rdI_e, rdI_n, rdC_i, rdC_o, rdW, rdR, rdU_e, rdU_n]
           first | rfl | (rw [hs]; rfl) | (rw [jor_1 c5]; exact congrArg (fun q => (mci M a 1, mci M a 2, mci M a 3, mci M a 4, q, fun k => mci M (a + 1) ((k + s) % 8))) (if_pos h183).symm) | (rw [jor_0 c5]; exact congrArg (fun q => (mci M a 1, mci M a 2, mci M a 3, mci M a 4, q, fun k => mci M (a + 1) ((k + s) % 8))) (if_neg h183).symm))
      · exact (vP_t (fun q => by have := q.1; omega)).symm
      · simp (disch := omega) only [rdI_e, rdI_n, rdC_i, rdC_o, rdW, rdR, rdU_e, rdU_n]
        exact hs.symm
      · intro b k q
        simp (disch := omega) only [rdI_e, rdI_n, rdC_i, rdC_o, rdW, rdR, rdU_e, rdU_n]
    | (have hk10 : kind = 10 := by omega
       subst hk10
       refine ⟨_, rfl, exI rfl ⟨rfl, ?_, hs.symm, Fo.rfl⟩⟩
       first | exact (vP_t (fun q => q.2 h203)).symm | exact (vP_f (fun q => q ⟨rfl, h203⟩)).symm)
  · refine x_tab_in (tgt := 105) (off := 104) dX5_goes_1 (by omega) (by omega) (by rw [hs1]; rfl) (by decide) ?_
    refine x_aload_n dX5_goes_105 rfl rfl ?_
    refine x_iconst dX5_goes_106 rfl ?_
    refine g_putI (kI := 2) rfl dX5_goes_107 fX5_15_5 (by assumption) ?_
    refine x_goto (tgt := 212) dX5_goes_110 (by decide) ?_
    refine x_iconst dX5_goes_212 rfl ?_
    refine x_zreturn (by first | exact Or.inl rfl | exact Or.inr rfl | exact vB_r _ | assumption | omega) rfl dX5_goes_213 ?_
    first
    | subst hs1
      refine ⟨_, rfl, exI rfl ⟨?_, ?_, ?_, ?_⟩⟩
      · first
        | (have e := fun v => hsv _ v rfl
           unfold mvw
           unfold mvw at e
           simp (disch := omega) only [rdI_e, rdI_n, rdC_i, rdC_o, rdW, rdR, rdU_e, rdU_n]
           exact congrArg (fun q => (mci _ a 1, mci _ a 2, mci _ a 3, mci _ a 4, mci _ a 6, q)) (e _))
        | (unfold mvw
           simp (disch := omega) only [rdI_e, rdI_n, rdC_i, rdC_o, rdW, rdR, rdU_e, rdU_n]
           first | rfl | (rw [hs]; rfl) | (rw [jor_1 c5]; exact congrArg (fun q => (mci M a 1, mci M a 2, mci M a 3, mci M a 4, q, fun k => mci M (a + 1) ((k + s) % 8))) (if_pos h183).symm) | (rw [jor_0 c5]; exact congrArg (fun q => (mci M a 1, mci M a 2, mci M a 3, mci M a 4, q, fun k => mci M (a + 1) ((k + s) % 8))) (if_neg h183).symm))
      · exact (vP_t (fun q => by have := q.1; omega)).symm
      · simp (disch := omega) only [rdI_e, rdI_n, rdC_i, rdC_o, rdW, rdR, rdU_e, rdU_n]
        exact hs.symm
      · intro b k q
        simp (disch := omega) only [rdI_e, rdI_n, rdC_i, rdC_o, rdW, rdR, rdU_e, rdU_n]
    | (have hk10 : kind = 10 := by omega
       subst hk10
       refine ⟨_, rfl, exI rfl ⟨rfl, ?_, hs.symm, Fo.rfl⟩⟩
       first | exact (vP_t (fun q => q.2 h203)).symm | exact (vP_f (fun q => q ⟨rfl, h203⟩)).symm)
  · refine x_tab_in (tgt := 113) (off := 112) dX5_goes_1 (by omega) (by omega) (by rw [hs1]; rfl) (by decide) ?_
    refine x_aload_n dX5_goes_113 rfl rfl ?_
    refine x_iconst dX5_goes_114 rfl ?_
    refine g_putI (kI := 2) rfl dX5_goes_115 fX5_15_5 (by assumption) ?_
    refine x_goto (tgt := 212) dX5_goes_118 (by decide) ?_
    refine x_iconst dX5_goes_212 rfl ?_
    refine x_zreturn (by first | exact Or.inl rfl | exact Or.inr rfl | exact vB_r _ | assumption | omega) rfl dX5_goes_213 ?_
    first
    | subst hs1
      refine ⟨_, rfl, exI rfl ⟨?_, ?_, ?_, ?_⟩⟩
      · first
        | (have e := fun v => hsv _ v rfl
           unfold mvw
           unfold mvw at e
           simp (disch := omega) only [rdI_e, rdI_n, rdC_i, rdC_o, rdW, rdR, rdU_e, rdU_n]
           exact congrArg (fun q => (mci _ a 1, mci _ a 2, mci _ a 3, mci _ a 4, mci _ a 6, q)) (e _))
        | (unfold mvw
           simp (disch := omega) only [rdI_e, rdI_n, rdC_i, rdC_o, rdW, rdR, rdU_e, rdU_n]
           first | rfl | (rw [hs]; rfl) | (rw [jor_1 c5]; exact congrArg (fun q => (mci M a 1, mci M a 2, mci M a 3, mci M a 4, q, fun k => mci M (a + 1) ((k + s) % 8))) (if_pos h183).symm) | (rw [jor_0 c5]; exact congrArg (fun q => (mci M a 1, mci M a 2, mci M a 3, mci M a 4, q, fun k => mci M (a + 1) ((k + s) % 8))) (if_neg h183).symm))
      · exact (vP_t (fun q => by have := q.1; omega)).symm
      · simp (disch := omega) only [rdI_e, rdI_n, rdC_i, rdC_o, rdW, rdR, rdU_e, rdU_n]
        exact hs.symm
      · intro b k q
        simp (disch := omega) only [rdI_e, rdI_n, rdC_i, rdC_o, rdW, rdR, rdU_e, rdU_n]
    | (have hk10 : kind = 10 := by omega
       subst hk10
       refine ⟨_, rfl, exI rfl ⟨rfl, ?_, hs.symm, Fo.rfl⟩⟩
       first | exact (vP_t (fun q => q.2 h203)).symm | exact (vP_f (fun q => q ⟨rfl, h203⟩)).symm)
  · refine x_tab_in (tgt := 121) (off := 120) dX5_goes_1 (by omega) (by omega) (by rw [hs1]; rfl) (by decide) ?_
    refine x_aload_n dX5_goes_121 rfl rfl ?_
    refine x_iconst dX5_goes_122 rfl ?_
    refine x_aload_n dX5_goes_123 rfl rfl ?_
    refine g_getI (kI := 1) rfl dX5_goes_124 fX5_25_5 (by assumption) ?_
    first | refine x_imulN dX5_goes_127 (by unfold i32; omega) ?_ | refine x_imul dX5_goes_127 ?_
    refine g_putI (kI := 3) rfl dX5_goes_128 fX5_28_5 (by assumption) ?_
    refine x_goto (tgt := 212) dX5_goes_131 (by decide) ?_
    refine x_iconst dX5_goes_212 rfl ?_
    refine x_zreturn (by first | exact Or.inl rfl | exact Or.inr rfl | exact vB_r _ | assumption | omega) rfl dX5_goes_213 ?_
    first
    | subst hs1
      refine ⟨_, rfl, exI rfl ⟨?_, ?_, ?_, ?_⟩⟩
      · first
        | (have e := fun v => hsv _ v rfl
           unfold mvw
           unfold mvw at e
           simp (disch := omega) only [rdI_e, rdI_n, rdC_i, rdC_o, rdW, rdR, rdU_e, rdU_n]
           exact congrArg (fun q => (mci _ a 1, mci _ a 2, mci _ a 3, mci _ a 4, mci _ a 6, q)) (e _))
        | (unfold mvw
           simp (disch := omega) only [rdI_e, rdI_n, rdC_i, rdC_o, rdW, rdR, rdU_e, rdU_n]
           first | rfl | (rw [hs]; rfl) | (rw [jor_1 c5]; exact congrArg (fun q => (mci M a 1, mci M a 2, mci M a 3, mci M a 4, q, fun k => mci M (a + 1) ((k + s) % 8))) (if_pos h183).symm) | (rw [jor_0 c5]; exact congrArg (fun q => (mci M a 1, mci M a 2, mci M a 3, mci M a 4, q, fun k => mci M (a + 1) ((k + s) % 8))) (if_neg h183).symm))
      · exact (vP_t (fun q => by have := q.1; omega)).symm
      · simp (disch := omega) only [rdI_e, rdI_n, rdC_i, rdC_o, rdW, rdR, rdU_e, rdU_n]
        exact hs.symm
      · intro b k q
        simp (disch := omega) only [rdI_e, rdI_n, rdC_i, rdC_o, rdW, rdR, rdU_e, rdU_n]
    | (have hk10 : kind = 10 := by omega
       subst hk10
       refine ⟨_, rfl, exI rfl ⟨rfl, ?_, hs.symm, Fo.rfl⟩⟩
       first | exact (vP_t (fun q => q.2 h203)).symm | exact (vP_f (fun q => q ⟨rfl, h203⟩)).symm)
  · refine x_tab_in (tgt := 134) (off := 133) dX5_goes_1 (by omega) (by omega) (by rw [hs1]; rfl) (by decide) ?_
    refine x_aload_n dX5_goes_134 rfl rfl ?_
    refine x_aload_n dX5_goes_135 rfl rfl ?_
    refine g_getI (kI := 3) rfl dX5_goes_136 fX5_28_5 (by assumption) ?_
    refine x_iconst dX5_goes_139 rfl ?_
    first | refine x_idivN dX5_goes_140 (by omega) (by omega) ?_ | refine x_idiv dX5_goes_140 (by omega) ?_
    refine g_putI (kI := 1) rfl dX5_goes_141 fX5_25_5 (by assumption) ?_
    refine x_goto (tgt := 212) dX5_goes_144 (by decide) ?_
    refine x_iconst dX5_goes_212 rfl ?_
    refine x_zreturn (by first | exact Or.inl rfl | exact Or.inr rfl | exact vB_r _ | assumption | omega) rfl dX5_goes_213 ?_
    first
    | subst hs1
      refine ⟨_, rfl, exI rfl ⟨?_, ?_, ?_, ?_⟩⟩
      · first
        | (have e := fun v => hsv _ v rfl
           unfold mvw
           unfold mvw at e
           simp (disch := omega) only [rdI_e, rdI_n, rdC_i, rdC_o, rdW, rdR, rdU_e, rdU_n]
           exact congrArg (fun q => (mci _ a 1, mci _ a 2, mci _ a 3, mci _ a 4, mci _ a 6, q)) (e _))
        | (unfold mvw
           simp (disch := omega) only [rdI_e, rdI_n, rdC_i, rdC_o, rdW, rdR, rdU_e, rdU_n]
           first | rfl | (rw [hs]; rfl) | (rw [jor_1 c5]; exact congrArg (fun q => (mci M a 1, mci M a 2, mci M a 3, mci M a 4, q, fun k => mci M (a + 1) ((k + s) % 8))) (if_pos h183).symm) | (rw [jor_0 c5]; exact congrArg (fun q => (mci M a 1, mci M a 2, mci M a 3, mci M a 4, q, fun k => mci M (a + 1) ((k + s) % 8))) (if_neg h183).symm))
      · exact (vP_t (fun q => by have := q.1; omega)).symm
      · simp (disch := omega) only [rdI_e, rdI_n, rdC_i, rdC_o, rdW, rdR, rdU_e, rdU_n]
        exact hs.symm
      · intro b k q
        simp (disch := omega) only [rdI_e, rdI_n, rdC_i, rdC_o, rdW, rdR, rdU_e, rdU_n]
    | (have hk10 : kind = 10 := by omega
       subst hk10
       refine ⟨_, rfl, exI rfl ⟨rfl, ?_, hs.symm, Fo.rfl⟩⟩
       first | exact (vP_t (fun q => q.2 h203)).symm | exact (vP_f (fun q => q ⟨rfl, h203⟩)).symm)
  · refine x_tab_in (tgt := 147) (off := 146) dX5_goes_1 (by omega) (by omega) (by rw [hs1]; rfl) (by decide) ?_
    refine x_aload_n dX5_goes_147 rfl rfl ?_
    refine x_aload_n dX5_goes_148 rfl rfl ?_
    refine g_getI (kI := 2) rfl dX5_goes_149 fX5_15_5 (by assumption) ?_
    refine g_putI (kI := 1) rfl dX5_goes_152 fX5_25_5 (by assumption) ?_
    refine x_goto (tgt := 212) dX5_goes_155 (by decide) ?_
    refine x_iconst dX5_goes_212 rfl ?_
    refine x_zreturn (by first | exact Or.inl rfl | exact Or.inr rfl | exact vB_r _ | assumption | omega) rfl dX5_goes_213 ?_
    first
    | subst hs1
      refine ⟨_, rfl, exI rfl ⟨?_, ?_, ?_, ?_⟩⟩
      · first
        | (have e := fun v => hsv _ v rfl
           unfold mvw
           unfold mvw at e
           simp (disch := omega) only [rdI_e, rdI_n, rdC_i, rdC_o, rdW, rdR, rdU_e, rdU_n]
           exact congrArg (fun q => (mci _ a 1, mci _ a 2, mci _ a 3, mci _ a 4, mci _ a 6, q)) (e _))
        | (unfold mvw
           simp (disch := omega) only [rdI_e, rdI_n, rdC_i, rdC_o, rdW, rdR, rdU_e, rdU_n]
           first | rfl | (rw [hs]; rfl) | (rw [jor_1 c5]; exact congrArg (fun q => (mci M a 1, mci M a 2, mci M a 3, mci M a 4, q, fun k => mci M (a + 1) ((k + s) % 8))) (if_pos h183).symm) | (rw [jor_0 c5]; exact congrArg (fun q => (mci M a 1, mci M a 2, mci M a 3, mci M a 4, q, fun k => mci M (a + 1) ((k + s) % 8))) (if_neg h183).symm))
      · exact (vP_t (fun q => by have := q.1; omega)).symm
      · simp (disch := omega) only [rdI_e, rdI_n, rdC_i, rdC_o, rdW, rdR, rdU_e, rdU_n]
        exact hs.symm
      · intro b k q
        simp (disch := omega) only [rdI_e, rdI_n, rdC_i, rdC_o, rdW, rdR, rdU_e, rdU_n]
    | (have hk10 : kind = 10 := by omega
       subst hk10
       refine ⟨_, rfl, exI rfl ⟨rfl, ?_, hs.symm, Fo.rfl⟩⟩
       first | exact (vP_t (fun q => q.2 h203)).symm | exact (vP_f (fun q => q ⟨rfl, h203⟩)).symm)
  · refine x_tab_in (tgt := 158) (off := 157) dX5_goes_1 (by omega) (by omega) (by rw [hs1]; rfl) (by decide) ?_
    refine x_aload_n dX5_goes_158 rfl rfl ?_
    refine x_aload_n dX5_goes_159 rfl rfl ?_
    refine g_getI (kI := 4) rfl dX5_goes_160 fX5_31_5 (by assumption) ?_
    refine x_iconst dX5_goes_163 rfl ?_
    first | refine x_iremN dX5_goes_164 (by omega) (by omega) ?_ | refine x_irem dX5_goes_164 (by omega) ?_
    refine g_putI (kI := 1) rfl dX5_goes_165 fX5_25_5 (by assumption) ?_
    refine x_goto (tgt := 212) dX5_goes_168 (by decide) ?_
    refine x_iconst dX5_goes_212 rfl ?_
    refine x_zreturn (by first | exact Or.inl rfl | exact Or.inr rfl | exact vB_r _ | assumption | omega) rfl dX5_goes_213 ?_
    first
    | subst hs1
      refine ⟨_, rfl, exI rfl ⟨?_, ?_, ?_, ?_⟩⟩
      · first
        | (have e := fun v => hsv _ v rfl
           unfold mvw
           unfold mvw at e
           simp (disch := omega) only [rdI_e, rdI_n, rdC_i, rdC_o, rdW, rdR, rdU_e, rdU_n]
           exact congrArg (fun q => (mci _ a 1, mci _ a 2, mci _ a 3, mci _ a 4, mci _ a 6, q)) (e _))
        | (unfold mvw
           simp (disch := omega) only [rdI_e, rdI_n, rdC_i, rdC_o, rdW, rdR, rdU_e, rdU_n]
           first | rfl | (rw [hs]; rfl) | (rw [jor_1 c5]; exact congrArg (fun q => (mci M a 1, mci M a 2, mci M a 3, mci M a 4, q, fun k => mci M (a + 1) ((k + s) % 8))) (if_pos h183).symm) | (rw [jor_0 c5]; exact congrArg (fun q => (mci M a 1, mci M a 2, mci M a 3, mci M a 4, q, fun k => mci M (a + 1) ((k + s) % 8))) (if_neg h183).symm))
      · exact (vP_t (fun q => by have := q.1; omega)).symm
      · simp (disch := omega) only [rdI_e, rdI_n, rdC_i, rdC_o, rdW, rdR, rdU_e, rdU_n]
        exact hs.symm
      · intro b k q
        simp (disch := omega) only [rdI_e, rdI_n, rdC_i, rdC_o, rdW, rdR, rdU_e, rdU_n]
    | (have hk10 : kind = 10 := by omega
       subst hk10
       refine ⟨_, rfl, exI rfl ⟨rfl, ?_, hs.symm, Fo.rfl⟩⟩
       first | exact (vP_t (fun q => q.2 h203)).symm | exact (vP_f (fun q => q ⟨rfl, h203⟩)).symm)
  · refine x_tab_in (tgt := 171) (off := 170) dX5_goes_1 (by omega) (by omega) (by rw [hs1]; rfl) (by decide) ?_
    refine x_aload_n dX5_goes_171 rfl rfl ?_
    refine x_dup dX5_goes_172 rfl ?_
    refine g_getZ (kI := 6) rfl dX5_goes_173 fX5_44_5 (by assumption) ?_
    refine x_aload_n dX5_goes_176 rfl rfl ?_
    refine g_getI (kI := 1) rfl dX5_goes_177 fX5_25_5 (by assumption) ?_
    refine x_iload_n dX5_goes_180 rfl rfl ?_
    refine x_iconst dX5_goes_181 rfl ?_
    first | refine x_iremN dX5_goes_182 (by omega) (by omega) ?_ | refine x_irem dX5_goes_182 (by omega) ?_
    refine x_icmp_ne (tgt := 190) dX5_goes_183 (by decide) (fun h183 => ?_) (fun h183 => ?_)
    · refine x_iconst dX5_goes_190 rfl ?_
      refine x_ior dX5_goes_191 ?_
      refine g_putZ (by first | rw [jor_1 c5]; omega | rw [jor_0 c5]; omega) (kI := 6) rfl dX5_goes_192 fX5_44_5 (by assumption) ?_
      refine x_goto (tgt := 212) dX5_goes_195 (by decide) ?_
      refine x_iconst dX5_goes_212 rfl ?_
      refine x_zreturn (by first | exact Or.inl rfl | exact Or.inr rfl | exact vB_r _ | assumption | omega) rfl dX5_goes_213 ?_
      first
      | subst hs1
        refine ⟨_, rfl, exI rfl ⟨?_, ?_, ?_, ?_⟩⟩
        · first
          | (have e := fun v => hsv _ v rfl
             unfold mvw
             unfold mvw at e
             simp (disch := omega) only [rdI_e, rdI_n, rdC_i, rdC_o, rdW, rdR, rdU_e, rdU_n]
             exact congrArg (fun q => (mci _ a 1, mci _ a 2, mci _ a 3, mci _ a 4, mci _ a 6, q)) (e _))
          | (unfold mvw
             simp (disch := omega) only [rdI_e, rdI_n, rdC_i, rdC_o, rdW, rdR, rdU_e, rdU_n]
             first | rfl | (rw [hs]; rfl) | (rw [jor_1 c5]; exact congrArg (fun q => (mci M a 1, mci M a 2, mci M a 3, mci M a 4, q, fun k => mci M (a + 1) ((k + s) % 8))) (if_pos h183).symm) | (rw [jor_0 c5]; exact congrArg (fun q => (mci M a 1, mci M a 2, mci M a 3, mci M a 4, q, fun k => mci M (a + 1) ((k + s) % 8))) (if_neg h183).symm))
        · exact (vP_t (fun q => by have := q.1; omega)).symm
        · simp (disch := omega) only [rdI_e, rdI_n, rdC_i, rdC_o, rdW, rdR, rdU_e, rdU_n]
          exact hs.symm
        · intro b k q
          simp (disch := omega) only [rdI_e, rdI_n, rdC_i, rdC_o, rdW, rdR, rdU_e, rdU_n]
      | (have hk10 : kind = 10 := by omega
         subst hk10
         refine ⟨_, rfl, exI rfl ⟨rfl, ?_, hs.symm, Fo.rfl⟩⟩
         first | exact (vP_t (fun q => q.2 h203)).symm | exact (vP_f (fun q => q ⟨rfl, h203⟩)).symm)
    · refine x_iconst dX5_goes_186 rfl ?_
      refine x_goto (tgt := 191) dX5_goes_187 (by decide) ?_
      refine x_ior dX5_goes_191 ?_
      refine g_putZ (by first | rw [jor_1 c5]; omega | rw [jor_0 c5]; omega) (kI := 6) rfl dX5_goes_192 fX5_44_5 (by assumption) ?_
      refine x_goto (tgt := 212) dX5_goes_195 (by decide) ?_
      refine x_iconst dX5_goes_212 rfl ?_
      refine x_zreturn (by first | exact Or.inl rfl | exact Or.inr rfl | exact vB_r _ | assumption | omega) rfl dX5_goes_213 ?_
      first
      | subst hs1
        refine ⟨_, rfl, exI rfl ⟨?_, ?_, ?_, ?_⟩⟩
        · first
          | (have e := fun v => hsv _ v rfl
             unfold mvw
             unfold mvw at e
             simp (disch := omega) only [rdI_e, rdI_n, rdC_i, rdC_o, rdW, rdR, rdU_e, rdU_n]
             exact congrArg (fun q => (mci _ a 1, mci _ a 2, mci _ a 3, mci _ a 4, mci _ a 6, q)) (e _))
          | (unfold mvw
             simp (disch := omega) only [rdI_e, rdI_n, rdC_i, rdC_o, rdW, rdR, rdU_e, rdU_n]
             first | rfl | (rw [hs]; rfl) | (rw [jor_1 c5]; exact congrArg (fun q => (mci M a 1, mci M a 2, mci M a 3, mci M a 4, q, fun k => mci M (a + 1) ((k + s) % 8))) (if_pos h183).symm) | (rw [jor_0 c5]; exact congrArg (fun q => (mci M a 1, mci M a 2, mci M a 3, mci M a 4, q, fun k => mci M (a + 1) ((k + s) % 8))) (if_neg h183).symm))
        · exact (vP_t (fun q => by have := q.1; omega)).symm
        · simp (disch := omega) only [rdI_e, rdI_n, rdC_i, rdC_o, rdW, rdR, rdU_e, rdU_n]
          exact hs.symm
        · intro b k q
          simp (disch := omega) only [rdI_e, rdI_n, rdC_i, rdC_o, rdW, rdR, rdU_e, rdU_n]
      | (have hk10 : kind = 10 := by omega
         subst hk10
         refine ⟨_, rfl, exI rfl ⟨rfl, ?_, hs.symm, Fo.rfl⟩⟩
         first | exact (vP_t (fun q => q.2 h203)).symm | exact (vP_f (fun q => q ⟨rfl, h203⟩)).symm)
  · refine x_tab_out (tgt := 198) dX5_goes_1 hs1 (by decide) ?_
    refine x_aload_n dX5_goes_198 rfl rfl ?_
    refine g_getI (kI := 2) rfl dX5_goes_199 fX5_15_5 (by assumption) ?_
    refine x_iconst dX5_goes_202 rfl ?_
    refine x_icmp_ne (tgt := 210) dX5_goes_203 (by decide) (fun h203 => ?_) (fun h203 => ?_)
    · refine x_iconst dX5_goes_210 rfl ?_
      refine x_zreturn (by first | exact Or.inl rfl | exact Or.inr rfl | exact vB_r _ | assumption | omega) rfl dX5_goes_211 ?_
      first
      | subst hs1
        refine ⟨_, rfl, exI rfl ⟨?_, ?_, ?_, ?_⟩⟩
        · first
          | (have e := fun v => hsv _ v rfl
             unfold mvw
             unfold mvw at e
             simp (disch := omega) only [rdI_e, rdI_n, rdC_i, rdC_o, rdW, rdR, rdU_e, rdU_n]
             exact congrArg (fun q => (mci _ a 1, mci _ a 2, mci _ a 3, mci _ a 4, mci _ a 6, q)) (e _))
          | (unfold mvw
             simp (disch := omega) only [rdI_e, rdI_n, rdC_i, rdC_o, rdW, rdR, rdU_e, rdU_n]
             first | rfl | (rw [hs]; rfl) | (rw [jor_1 c5]; exact congrArg (fun q => (mci M a 1, mci M a 2, mci M a 3, mci M a 4, q, fun k => mci M (a + 1) ((k + s) % 8))) (if_pos h183).symm) | (rw [jor_0 c5]; exact congrArg (fun q => (mci M a 1, mci M a 2, mci M a 3, mci M a 4, q, fun k => mci M (a + 1) ((k + s) % 8))) (if_neg h183).symm))
        · exact (vP_t (fun q => by have := q.1; omega)).symm
        · simp (disch := omega) only [rdI_e, rdI_n, rdC_i, rdC_o, rdW, rdR, rdU_e, rdU_n]
          exact hs.symm
        · intro b k q
          simp (disch := omega) only [rdI_e, rdI_n, rdC_i, rdC_o, rdW, rdR, rdU_e, rdU_n]
      | (have hk10 : kind = 10 := by omega
         subst hk10
         refine ⟨_, rfl, exI rfl ⟨rfl, ?_, hs.symm, Fo.rfl⟩⟩
         first | exact (vP_t (fun q => q.2 h203)).symm | exact (vP_f (fun q => q ⟨rfl, h203⟩)).symm)
    · refine x_iconst dX5_goes_206 rfl ?_
      refine x_goto (tgt := 211) dX5_goes_207 (by decide) ?_
      refine x_zreturn (by first | exact Or.inl rfl | exact Or.inr rfl | exact vB_r _ | assumption | omega) rfl dX5_goes_211 ?_
      first
      | subst hs1
        refine ⟨_, rfl, exI rfl ⟨?_, ?_, ?_, ?_⟩⟩
        · first
          | (have e := fun v => hsv _ v rfl
             unfold mvw
             unfold mvw at e
             simp (disch := omega) only [rdI_e, rdI_n, rdC_i, rdC_o, rdW, rdR, rdU_e, rdU_n]
             exact congrArg (fun q => (mci _ a 1, mci _ a 2, mci _ a 3, mci _ a 4, mci _ a 6, q)) (e _))
          | (unfold mvw
             simp (disch := omega) only [rdI_e, rdI_n, rdC_i, rdC_o, rdW, rdR, rdU_e, rdU_n]
             first | rfl | (rw [hs]; rfl) | (rw [jor_1 c5]; exact congrArg (fun q => (mci M a 1, mci M a 2, mci M a 3, mci M a 4, q, fun k => mci M (a + 1) ((k + s) % 8))) (if_pos h183).symm) | (rw [jor_0 c5]; exact congrArg (fun q => (mci M a 1, mci M a 2, mci M a 3, mci M a 4, q, fun k => mci M (a + 1) ((k + s) % 8))) (if_neg h183).symm))
        · exact (vP_t (fun q => by have := q.1; omega)).symm
        · simp (disch := omega) only [rdI_e, rdI_n, rdC_i, rdC_o, rdW, rdR, rdU_e, rdU_n]
          exact hs.symm
        · intro b k q
          simp (disch := omega) only [rdI_e, rdI_n, rdC_i, rdC_o, rdW, rdR, rdU_e, rdU_n]
      | (have hk10 : kind = 10 := by omega
         subst hk10
         refine ⟨_, rfl, exI rfl ⟨rfl, ?_, hs.symm, Fo.rfl⟩⟩
         first | exact (vP_t (fun q => q.2 h203)).symm | exact (vP_f (fun q => q ⟨rfl, h203⟩)).symm)
theorem runM_s {K X : Int → Int} {t : Nat} {k : Int} {m : Ms} : runM K X (t + 1) k m = if K k = 10 ∧ (step1 (K k) (X k) m).2.1 ≠ 1 then step1 (K k) (X k) m else runM K X t (k + 1) (step1 (K k) (X k) m) := rfl
theorem s_X5_does (hd : 12 ≤ d) (h : MacS (msh M) (mcr M) a) (h' : OpS (msh M) (mcr M) o) (hao : o + 3 < a ∨ a + 1 < o) (hs : s = mci M a 5) (ho : 0 ≤ s ∧ s < 8) (hok : okM (mvw (mci M) a s)) (hop : OpOk (mci M) o) : CS G d mX5_does [dR a, dR o] M (postN fun M1 => ∃ g, M1 = wI M g ∧ mvw g a s = doM (mci M o 3) (mci M (o + 1)) (mci M (o + 2)) (mvw (mci M) a s) ∧ g a 5 = s ∧ Fo a (a + 1) (mci M) g) := by
  have hh := h
  obtain ⟨p0, p1, p2, p3⟩ := h
  obtain ⟨r0, r1, r2, r3, r4, r5, r6, r7⟩ := h'
  obtain ⟨b1, b2, b3, b4⟩ := hop
  have loop : ∀ (t : Nat) (k x : Int) (g : Int → Int → Int), (mci M o 3 - k).toNat = t → 0 ≤ k → k ≤ mci M o 3 → Fo a (a + 1) (mci M) g → g a 5 = s → okM (mvw g a s) → (x = 1 ∧ doM (mci M o 3) (mci M (o + 1)) (mci M (o + 2)) (mvw (mci M) a s) = runM (mci M (o + 1)) (mci M (o + 2)) t k (mvw g a s) ∨ x = 0 ∧ doM (mci M o 3) (mci M (o + 1)) (mci M (o + 2)) (mvw (mci M) a s) = mvw g a s) → WP G d mX5_does 9 [some (dR a), some (dR o), some (dI x), some (dI k)] [] (wI M g) (postN fun M1 => ∃ g, M1 = wI M g ∧ mvw g a s = doM (mci M o 3) (mci M (o + 1)) (mci M (o + 2)) (mvw (mci M) a s) ∧ g a 5 = s ∧ Fo a (a + 1) (mci M) g) := by
    intro t
    induction t using Nat.strongRecOn with
    | _ t ih =>
      intro k x g ht hk hk2 hf h5 hg hx
      have eo : g o = mci M o := funext fun i => hf _ _ (by omega)
      have e1 : g (o + 1) = mci M (o + 1) := funext fun i => hf _ _ (by omega)
      have e2 : g (o + 2) = mci M (o + 2) := funext fun i => hf _ _ (by omega)
      have eo' : mci (wI M g) o = mci M o := eo
      have e1' : mci (wI M g) (o + 1) = mci M (o + 1) := e1
      have e2' : mci (wI M g) (o + 2) = mci M (o + 2) := e2
      refine x_iload_n dX5_does_9 rfl rfl ?_
      refine x_aload_n dX5_does_10 rfl rfl ?_
      refine g_getI (kI := 3) rfl dX5_does_11 fX5_48_6 (by assumption) ?_
      rw [eo']
      refine x_icmp_ge (tgt := 44) dX5_does_14 (by decide) (fun h14 => ?_) (fun h14 => ?_)
      · refine x_vreturn rfl dX5_does_44 ?_
        refine ⟨rfl, g, rfl, ?_, h5, hf⟩
        rcases hx with q | q
        · first
          | (have t0 : t = 0 := by omega
             rw [q.2, t0]; rfl)
          | exact absurd q.1 (by omega)
        · exact q.2.symm
      · refine x_iload_n dX5_does_17 rfl rfl ?_
        refine x_if_eq (tgt := 44) dX5_does_18 (by decide) (fun h18 => ?_) (fun h18 => ?_)
        · refine x_vreturn rfl dX5_does_44 ?_
          refine ⟨rfl, g, rfl, ?_, h5, hf⟩
          rcases hx with q | q
          · first
            | (have t0 : t = 0 := by omega
               rw [q.2, t0]; rfl)
            | exact absurd q.1 (by omega)
          · exact q.2.symm
        · refine x_aload_n dX5_does_21 rfl rfl ?_
          refine x_aload_n dX5_does_22 rfl rfl ?_
          refine g_getR (kI := 0) rfl dX5_does_23 fX5_53_6 (by assumption) (by assumption) ?_
          refine x_iload_n dX5_does_26 rfl rfl ?_
          refine x_iald dX5_does_27 (by assumption) (by omega) (by omega) ?_
          rw [e1']
          refine x_aload_n dX5_does_28 rfl rfl ?_
          refine g_getR (kI := 1) rfl dX5_does_29 fX5_56_6 (by assumption) (by assumption) ?_
          refine x_iload_n dX5_does_32 rfl rfl ?_
          refine x_iald dX5_does_33 (by assumption) (by omega) (by omega) ?_
          rw [e2']
          refine g_callI (vs := [_, _, _]) (d' := d - 1) rfl (s_X5_goes (M := wI M g) (s := s) (by omega) hh h5.symm ho hg (b4 k hk (by omega)).1 (b4 k hk (by omega)).2) dX5_does_34 kX5_59 (by omega) (by decide) rfl (Nat.le_of_ble_eq_true rfl) (rcv_o (by assumption) rfl) (fun x34 M34 h34 => ?_)
          obtain ⟨g1, rfl, q1, q2, q3, q4⟩ := h34
          refine x_istore_n (L' := [some _, some _, some _, some _]) dX5_does_37 rfl (by decide) rfl ?_
          first | refine x_iincN (L' := [some _, some _, some _, some _]) dX5_does_38 rfl (by decide) (by unfold i32; omega) rfl ?_ | refine x_iinc (L' := [some _, some _, some _, some _]) dX5_does_38 rfl (by decide) rfl ?_
          refine x_goto (tgt := 9) dX5_does_41 (by decide) ?_
          have ht' : t = (mci M o 3 - (k + 1)).toNat + 1 := by omega
          have hx1 : doM (mci M o 3) (mci M (o + 1)) (mci M (o + 2)) (mvw (mci M) a s) = runM (mci M (o + 1)) (mci M (o + 2)) t k (mvw g a s) := by
            rcases hx with q | q
            · exact q.2
            · exact absurd q.1 h18
          rw [ht', runM_s] at hx1
          refine ih _ (by omega) (k + 1) _ g1 rfl (by omega) (by omega) (hf.trans q4) q3 (by rw [q1]; exact step1_ok (b4 k hk (by omega)).2.1 hg) ?_
          rw [q2, q1]
          by_cases hq : mci M (o + 1) k = 10 ∧ (step1 (mci M (o + 1) k) (mci M (o + 2) k) (mvw g a s)).2.1 ≠ 1
          · rw [if_pos hq] at hx1
            exact Or.inr ⟨vP_f (fun r => r hq), hx1⟩
          · rw [if_neg hq] at hx1
            exact Or.inl ⟨vP_t hq, hx1⟩
  refine CS.mk (by decide) (Nat.le_of_ble_eq_true rfl) ?_
  refine x_aload_n dX5_does_0 rfl rfl ?_
  refine x_iconst dX5_does_1 rfl ?_
  refine g_putZ (by first | exact Or.inl rfl | exact Or.inr rfl | exact vB_r _ | omega) (kI := 6) rfl dX5_does_2 fX5_44_5 (by assumption) ?_
  refine x_iconst dX5_does_5 rfl ?_
  refine x_istore_n (L' := [some _, some _, some _, none]) dX5_does_6 rfl (by decide) rfl ?_
  refine x_iconst dX5_does_7 rfl ?_
  refine x_istore_n (L' := [some _, some _, some _, some _]) dX5_does_8 rfl (by decide) rfl ?_
  refine loop _ 0 1 (up (mci M) a 6 0) rfl (by omega) (by omega) (fun b k q => ?_) ?_ ?_ (Or.inl ⟨rfl, ?_⟩)
  · simp (disch := omega) only [rdI_e, rdI_n, rdC_i, rdC_o, rdW, rdR, rdU_e, rdU_n]
  · simp (disch := omega) only [rdI_e, rdI_n, rdC_i, rdC_o, rdW, rdR, rdU_e, rdU_n]
    exact hs.symm
  · obtain ⟨c1, c2, c3, c4, c5, c6⟩ := okM_mvw hok
    refine ⟨?_, ?_, ?_, ?_, ?_, ?_⟩
    all_goals (unfold mvw; simp (disch := omega) only [rdI_e, rdI_n, rdC_i, rdC_o, rdW, rdR, rdU_e, rdU_n]; first | exact c1 | exact c2 | exact c3 | exact c4 | exact Or.inl trivial | exact c6)
  · unfold doM mvw
    simp (disch := omega) only [rdI_e, rdI_n, rdC_i, rdC_o, rdW, rdR, rdU_e, rdU_n]
    rw [show mci M o 3 - 0 = mci M o 3 by omega]
end X5

