/-! GuestViewModel: what hangs on what -/
/-- the numbers of traits of an operation, as bits -/
noncomputable def traV (v : Vw) (p : Int) : Int := trtV v p 0 + 2 * trtV v p 1 + 4 * trtV v p 2 + 8 * trtV v p 3
def hashP (K X : Int → Int) (n : Int) : Nat → Int
  | 0 => n
  | t + 1 => (11 * hashP K X n t + K t) * 8 + X t
/-- a number of all that an operation's traits hang on -/
def hashV (v : Vw) (p : Int) : Int := hashP (opK v p) (opX v p) (2 * opN v p + opG v p + 1) (opN v p).toNat
def okHash (k n : Int) : Prop := 0 < n ∧ (k = 0 ∧ n ≤ 8 ∨ k = 1 ∧ n ≤ 1000 ∨ k = 2 ∧ n ≤ 100000 ∨ k = 3 ∧ n ≤ 10000000)
theorem hashP_3 {K X : Int → Int} {n k : Int} (hk : 0 ≤ k ∧ k ≤ 3) : hashP K X n k.toNat = (if k = 0 then n else if k = 1 then (11 * n + K 0) * 8 + X 0 else if k = 2 then (11 * ((11 * n + K 0) * 8 + X 0) + K 1) * 8 + X 1 else (11 * ((11 * ((11 * n + K 0) * 8 + X 0) + K 1) * 8 + X 1) + K 2) * 8 + X 2) := by
  rcases (show k = 0 ∨ k = 1 ∨ k = 2 ∨ k = 3 by omega) with rfl | rfl | rfl | rfl <;> rfl
/-- the same number is that of operations alike -/
theorem hashV_inj {v v' : Vw} {p p' : Int} (h : okOp v p) (h' : okOp v' p') (he : hashV v p = hashV v' p') : opN v p = opN v' p' ∧ opG v p = opG v' p' ∧ ∀ i, 0 ≤ i → i < opN v p → opK v p i = opK v' p' i ∧ opX v p i = opX v' p' i := by
  obtain ⟨a1, a2, -, a4⟩ := h
  obtain ⟨b1, b2, -, b4⟩ := h'
  have c0 := a4 0 (by omega)
  have c1 := a4 1 (by omega)
  have c2 := a4 2 (by omega)
  have d0 := b4 0 (by omega)
  have d1 := b4 1 (by omega)
  have d2 := b4 2 (by omega)
  unfold hashV at he
  rw [hashP_3 a1, hashP_3 b1] at he
  generalize opN v p = n at *
  generalize opN v' p' = n' at *
  generalize opG v p = g at *
  generalize opG v' p' = g' at *
  have key : n = n' ∧ g = g' ∧ (0 < n → opK v p 0 = opK v' p' 0 ∧ opX v p 0 = opX v' p' 0) ∧ (1 < n → opK v p 1 = opK v' p' 1 ∧ opX v p 1 = opX v' p' 1) ∧ (2 < n → opK v p 2 = opK v' p' 2 ∧ opX v p 2 = opX v' p' 2) := by
    rcases (show n = 0 ∨ n = 1 ∨ n = 2 ∨ n = 3 by omega) with rfl | rfl | rfl | rfl <;> rcases (show n' = 0 ∨ n' = 1 ∨ n' = 2 ∨ n' = 3 by omega) with rfl | rfl | rfl | rfl <;> simp only [Int.reduceEq, if_true, if_false] at he <;> omega
  refine ⟨key.1, key.2.1, fun i i0 i1 => ?_⟩
  rcases (show i = 0 ∨ i = 1 ∨ i = 2 by omega) with rfl | rfl | rfl
  · exact key.2.2.1 i1
  · exact key.2.2.2.1 i1
  · exact key.2.2.2.2 i1
theorem witV_op {v v' : Vw} {p p' w : Int} (e1 : opN v p = opN v' p') (e2 : opG v p = opG v' p') (e3 : ∀ i, 0 ≤ i → i < opN v p → opK v p i = opK v' p' i ∧ opX v p i = opX v' p' i) : witV v p w = witV v' p' w := by
  have ed : opD v p = opD v' p' := funext fun x => by
    unfold opD
    rw [← e1]
    exact doM_congr x e3
  unfold witV
  have e3 : isSo v p w = isSo v' p' w := funext fun s => by
    unfold isSo isCtl isMdl isLoc isTim trapsV
    rw [ed, e2]
  rw [e3]
theorem traV_op {v v' : Vw} {p p' : Int} (e1 : opN v p = opN v' p') (e2 : opG v p = opG v' p') (e3 : ∀ i, 0 ≤ i → i < opN v p → opK v p i = opK v' p' i ∧ opX v p i = opX v' p' i) : traV v p = traV v' p' := by
  have e : ∀ w, witV v p w = witV v' p' w := fun w => witV_op e1 e2 e3
  unfold traV trtV
  rw [e, e, e, e]
theorem traV_r (v : Vw) (p : Int) : 0 ≤ traV v p ∧ traV v p < 16 := by
  have a := vP_r (witV v p 0 ≠ -1)
  have b := vP_r (witV v p 1 ≠ -1)
  have c := vP_r (witV v p 2 ≠ -1)
  have e := vP_r (witV v p 3 ≠ -1)
  unfold traV trtV
  omega
/-- what is known of operations is right -/
def KnOk (f l : Ci) (m : Int) : Prop := ∀ p, 0 ≤ p → p < 8 → l (m + 11) p = 0 ∨ ∃ v', okOp v' p ∧ l (m + 11) p = hashV v' p ∧ f (m + 10) p = traV v' p
/-- of all operations the traits are there -/
def TrOk (f : Ci) (m : Int) (v : Vw) : Prop := ∀ p, 0 ≤ p → p < v 0 → f (m + 10) p = traV v p
def sk01 (f : Ci) (m : Int) : Prop := f m 23 = 0 ∨ f m 23 = 1
section X8
variable {G : GW} {d : Nat} {M : Mem} {m a b c p k i what n st : Int} {v : Vw}
theorem s_X8_isControlIn (hd : 14 ≤ d) (hT : TwS (msh M) (mcr M) m) (hw : mci M (m + 1) = v) (hop : okOp v p) (hp : 0 ≤ p ∧ p < 8) (hst : 0 ≤ st ∧ st < 512) (hsk : sk01 (mci M) m) : CS G d mX8_isControlIn [dR m, dI p, dI st] M (postI fun x M1 => x = vP (isCtl v p st) ∧ ∃ g, M1 = wI M g ∧ TE m (mci M) g ∧ sk01 g m) := by
  have hT_ := hT; obtain ⟨p0, p1, ⟨c1, c2, c3, c4, c5, c6, c7, c8, c9, c10, c11, c12, c13, c14, c15⟩, ⟨t1, t2, t3, t4, t5, t6, t7, t8, t9, t10, t11, t12, t13, t14, t15⟩⟩ := hT_
  refine CS.mkQ (by decide) (Nat.le_of_ble_eq_true rfl) fun Q hQ => ?_
  refine x_aload_n dX8_isControlIn_0 rfl rfl ?_
  refine x_iload_n dX8_isControlIn_1 rfl rfl ?_
  refine x_iload_n dX8_isControlIn_2 rfl rfl ?_
  refine g_callI (vs := [_]) (d' := d - 1) rfl (s_X8_modeOf (by omega) (by omega)) dX8_isControlIn_3 kX8_311 (by omega) (by decide) rfl (Nat.le_of_ble_eq_true rfl) (rcv_n) (fun x3 M3 h3 => ?_)
  obtain ⟨e3, f3⟩ := h3
  have f3' := f3.symm
  subst f3'
  subst e3
  try simp (disch := omega) only [rdI_e, rdI_n, rdC_i, rdC_o, rdW, rdR, rdU_e, rdU_n, rdLW, Int.add_zero]
  refine g_callI (vs := [_, _, _]) (d' := d - 1) rfl (s_X8_trapsIn (by omega) hT (by first | exact hw | exact mciI (by omega) hw | exact mciI (by omega) (mciI (by omega) hw) | exact mciI (by omega) (mciI (by omega) (mciI (by omega) hw)) | exact mciI (by omega) (mciI (by omega) (mciI (by omega) (mciI (by omega) hw))) | exact mciC (by omega) hw) (by omega)) dX8_isControlIn_6 kX8_318 (by omega) (by decide) rfl (Nat.le_of_ble_eq_true rfl) (rcv_o (by first | assumption | exact hT.2.1) rfl) (fun x6 M6 h6 => ?_)
  obtain ⟨e6, f6⟩ := h6
  have f6' := f6.symm
  subst f6'
  subst e6
  try simp (disch := omega) only [rdI_e, rdI_n, rdC_i, rdC_o, rdW, rdR, rdU_e, rdU_n, rdLW, Int.add_zero]
  refine x_if_eq (tgt := 14) dX8_isControlIn_9 (by decide) (fun h9 => ?_) (fun h9 => ?_)
  · try simp only [vP_0, vP_1, vP_n0, vP_n1, Classical.not_not] at h9
    refine x_aload_n dX8_isControlIn_14 rfl rfl ?_
    refine x_iload_n dX8_isControlIn_15 rfl rfl ?_
    refine g_callN (vs := [_, _]) (d' := d - 1) rfl (s_X8_isNow (by omega) hT hst) dX8_isControlIn_16 kX8_321 (by omega) (by decide) rfl (Nat.le_of_ble_eq_true rfl) (rcv_o (by first | assumption | exact hT.2.1) rfl) (fun M16 h16 => ?_)
    obtain ⟨g16, hM16, r16, q16⟩ := h16
    subst hM16
    have hok : okM (mvT g16 m) := by rw [r16]; exact tabM_ok (by omega) (by omega) (by omega) hsk
    have hw1 := hw
    have hw : g16 (m + 1) = v := TA.w q16 hw1
    refine x_aload_n dX8_isControlIn_19 rfl rfl ?_
    refine x_iload_n dX8_isControlIn_20 rfl rfl ?_
    refine g_callN (vs := [_, _]) (d' := d - 1) rfl (s_X8_does (M := wI M g16) (by omega) hT hw hok hop hp) dX8_isControlIn_21 kX8_325 (by omega) (by decide) rfl (Nat.le_of_ble_eq_true rfl) (rcv_o (by first | assumption | exact hT.2.1) rfl) (fun M21 h21 => ?_)
    obtain ⟨g21, hM21, r21, q21⟩ := h21
    subst hM21
    have r2 : mvT g21 m = opD v p (stM st) := r21.trans (by rw [mci_wI, r16]; rfl)
    have e20 : g21 m 20 = (opD v p (stM st)).2.1 := congrArg (fun y : Ms => y.2.1) r2
    have e21 : g21 m 21 = (opD v p (stM st)).2.2.1 := congrArg (fun y : Ms => y.2.2.1) r2
    have hz : sk01 g21 m := by
      have := opD_ok hop hok
      have e := r21
      unfold sk01
      rw [show g21 m 23 = (mvT g21 m).2.2.2.2.1 from rfl, e]
      exact this.2.2.2.2.1
    refine x_aload_n dX8_isControlIn_24 rfl rfl ?_
    refine g_getI (kI := 20) rfl dX8_isControlIn_25 fX8_289_8 (by first | assumption | exact hT.2.1) ?_
    try simp (disch := omega) only [rdI_e, rdI_n, rdC_i, rdC_o, rdW, rdR, rdU_e, rdU_n, rdLW, Int.add_zero]
    refine x_iload_n dX8_isControlIn_28 rfl rfl ?_
    refine g_callI (vs := [_]) (d' := d - 1) rfl (s_X8_modeOf (by omega) (by omega)) dX8_isControlIn_29 kX8_311 (by omega) (by decide) rfl (Nat.le_of_ble_eq_true rfl) (rcv_n) (fun x29 M29 h29 => ?_)
    obtain ⟨e29, f29⟩ := h29
    have f29' := f29.symm
    subst f29'
    subst e29
    try simp (disch := omega) only [rdI_e, rdI_n, rdC_i, rdC_o, rdW, rdR, rdU_e, rdU_n, rdLW, Int.add_zero]
    refine x_icmp_ne (tgt := 46) dX8_isControlIn_32 (by decide) (fun h32 => ?_) (fun h32 => ?_)
    · refine x_iconst dX8_isControlIn_46 rfl ?_
      refine x_goto (tgt := 51) dX8_isControlIn_47 (by decide) ?_
      refine x_zreturn (by first | exact Or.inl rfl | exact Or.inr rfl | exact vB_r _ | exact vP_r _ | assumption | omega) rfl dX8_isControlIn_51 ?_
      refine hQ _ _ ⟨_, rfl, ?_, g21, rfl, TE.trans q16.te q21.te, hz⟩
      rw [e20] at h32
      refine Eq.symm ?_
      first
      | exact vP_t (p := isCtl v p st) ⟨h9, Or.inl h32⟩
      | (rw [e21] at h43
         first
         | exact vP_t (p := isCtl v p st) ⟨h9, Or.inr h43⟩
         | exact vP_f (p := isCtl v p st) fun y => y.2.elim (fun z => z h32) fun z => z h43)
    · refine x_aload_n dX8_isControlIn_35 rfl rfl ?_
      refine g_getI (kI := 21) rfl dX8_isControlIn_36 fX8_283_8 (by first | assumption | exact hT.2.1) ?_
      try simp (disch := omega) only [rdI_e, rdI_n, rdC_i, rdC_o, rdW, rdR, rdU_e, rdU_n, rdLW, Int.add_zero]
      refine x_iload_n dX8_isControlIn_39 rfl rfl ?_
      refine g_callI (vs := [_]) (d' := d - 1) rfl (s_X8_baseOf (by omega) (by omega)) dX8_isControlIn_40 kX8_307 (by omega) (by decide) rfl (Nat.le_of_ble_eq_true rfl) (rcv_n) (fun x40 M40 h40 => ?_)
      obtain ⟨e40, f40⟩ := h40
      have f40' := f40.symm
      subst f40'
      subst e40
      try simp (disch := omega) only [rdI_e, rdI_n, rdC_i, rdC_o, rdW, rdR, rdU_e, rdU_n, rdLW, Int.add_zero]
      refine x_icmp_eq (tgt := 50) dX8_isControlIn_43 (by decide) (fun h43 => ?_) (fun h43 => ?_)
      · refine x_iconst dX8_isControlIn_50 rfl ?_
        refine x_zreturn (by first | exact Or.inl rfl | exact Or.inr rfl | exact vB_r _ | exact vP_r _ | assumption | omega) rfl dX8_isControlIn_51 ?_
        refine hQ _ _ ⟨_, rfl, ?_, g21, rfl, TE.trans q16.te q21.te, hz⟩
        rw [e20] at h32
        refine Eq.symm ?_
        first
        | exact vP_t (p := isCtl v p st) ⟨h9, Or.inl h32⟩
        | (rw [e21] at h43
           first
           | exact vP_t (p := isCtl v p st) ⟨h9, Or.inr h43⟩
           | exact vP_f (p := isCtl v p st) fun y => y.2.elim (fun z => z h32) fun z => z h43)
      · refine x_iconst dX8_isControlIn_46 rfl ?_
        refine x_goto (tgt := 51) dX8_isControlIn_47 (by decide) ?_
        refine x_zreturn (by first | exact Or.inl rfl | exact Or.inr rfl | exact vB_r _ | exact vP_r _ | assumption | omega) rfl dX8_isControlIn_51 ?_
        refine hQ _ _ ⟨_, rfl, ?_, g21, rfl, TE.trans q16.te q21.te, hz⟩
        rw [e20] at h32
        refine Eq.symm ?_
        first
        | exact vP_t (p := isCtl v p st) ⟨h9, Or.inl h32⟩
        | (rw [e21] at h43
           first
           | exact vP_t (p := isCtl v p st) ⟨h9, Or.inr h43⟩
           | exact vP_f (p := isCtl v p st) fun y => y.2.elim (fun z => z h32) fun z => z h43)
  · try simp only [vP_0, vP_1, vP_n0, vP_n1, Classical.not_not] at h9
    refine x_iconst dX8_isControlIn_12 rfl ?_
    refine x_zreturn (by first | exact Or.inl rfl | exact Or.inr rfl | exact vB_r _ | exact vP_r _ | assumption | omega) rfl dX8_isControlIn_13 ?_
    exact hQ _ _ ⟨_, rfl, (vP_f fun q => q.1 h9).symm, mci M, rfl, TE.rfl, hsk⟩
theorem opD_perC {x : Ms} (h : perC x.2.2.2.2.2) : perC (opD v p x).2.2.2.2.2 := by
  have st : ∀ kind n (x : Ms), perC x.2.2.2.2.2 → perC (step1 kind n x).2.2.2.2.2 := fun kind n x h => by
    by_cases k2 : kind = 2
    · subst k2
      intro k
      show upP x.2.2.2.2.2 _ _ (k % 8) = upP x.2.2.2.2.2 _ _ k
      unfold upP
      rw [show k % 8 % 8 = k % 8 by omega, h k]
    · have e : (step1 kind n x).2.2.2.2.2 = x.2.2.2.2.2 := by
        unfold step1
        repeat' (first | rfl | (exact absurd (by assumption) k2) | split)
      rw [e]
      exact h
  have rn : ∀ (t : Nat) (k : Int) (x : Ms), perC x.2.2.2.2.2 → perC (runM (opK v p) (opX v p) t k x).2.2.2.2.2 := fun t => by
    induction t with
    | zero => intro k x h; exact h
    | succ t ih =>
      intro k x h
      unfold runM
      split
      · exact st _ _ _ h
      · exact ih _ _ (st _ _ _ h)
  exact rn _ _ _ h
theorem tabM_perC {md bs cl sk t : Int} : perC (tabM st md bs cl sk t).2.2.2.2.2 := fun k => by
  show (st / 32 % 16 % 4 * ((k % 8 + t) % 8) + st / 32 % 16 / 4) % 4 = (st / 32 % 16 % 4 * ((k + t) % 8) + st / 32 % 16 / 4) % 4
  rw [show (k % 8 + t) % 8 = (k + t) % 8 by omega]
/-- two trials of an operation in a state, one behind the other; whether what comes is unlike -/
theorem unM_eq {x y x' y' : Ms} (h1 : x = x') (h2 : y = y') : vP (unM x y n) = vP (unM x' y' n) := by rw [h1, h2]
theorem s_X8_isModalIn (hd : 14 ≤ d) (hT : TwS (msh M) (mcr M) m) (hw : mci M (m + 1) = v) (hop : okOp v p) (hp : 0 ≤ p ∧ p < 8) (hst : 0 ≤ st ∧ st < 512) (hsk : sk01 (mci M) m) : CS G d mX8_isModalIn [dR m, dI p, dI st] M (postI fun x M1 => x = vP (isMdl v p st) ∧ ∃ g, M1 = wI M g ∧ TE m (mci M) g ∧ sk01 g m) := by
  have hT_ := hT; obtain ⟨p0, p1, ⟨c1, c2, c3, c4, c5, c6, c7, c8, c9, c10, c11, c12, c13, c14, c15⟩, ⟨t1, t2, t3, t4, t5, t6, t7, t8, t9, t10, t11, t12, t13, t14, t15⟩⟩ := hT_
  refine CS.mkQ (by decide) (Nat.le_of_ble_eq_true rfl) fun Q hQ => ?_
  refine x_iload_n dX8_isModalIn_0 rfl rfl ?_
  refine g_callI (vs := [_]) (d' := d - 1) rfl (s_X8_modeOf (by omega) (by omega)) dX8_isModalIn_1 kX8_311 (by omega) (by decide) rfl (Nat.le_of_ble_eq_true rfl) (rcv_n) (fun x1 M1 h1 => ?_)
  obtain ⟨e1, f1⟩ := h1
  have f1' := f1.symm
  subst f1'
  subst e1
  try simp (disch := omega) only [rdI_e, rdI_n, rdC_i, rdC_o, rdW, rdR, rdU_e, rdU_n, rdLW, Int.add_zero]
  refine x_iconst dX8_isModalIn_4 rfl ?_
  refine x_icmp_eq (tgt := 17) dX8_isModalIn_5 (by decide) (fun h5 => ?_) (fun h5 => ?_)
  · refine x_iconst dX8_isModalIn_17 rfl ?_
    refine x_zreturn (by first | exact Or.inl rfl | exact Or.inr rfl | exact vB_r _ | exact vP_r _ | assumption | omega) rfl dX8_isModalIn_18 ?_
    first
    | exact hQ _ _ ⟨_, rfl, (vP_f (p := isMdl v p st) fun q => q.2.1 (show opG v p = 1 ∧ (0 : Int) = 0 from h14).1).symm, mci M, rfl, TE.rfl, hsk⟩
    | exact hQ _ _ ⟨_, rfl, (vP_f (p := isMdl v p st) fun q => q.1 h5).symm, mci M, rfl, TE.rfl, hsk⟩
  · refine x_aload_n dX8_isModalIn_8 rfl rfl ?_
    refine x_iload_n dX8_isModalIn_9 rfl rfl ?_
    refine x_iconst dX8_isModalIn_10 rfl ?_
    refine g_callI (vs := [_, _, _]) (d' := d - 1) rfl (s_X8_trapsIn (by omega) hT (by first | exact hw | exact mciI (by omega) hw | exact mciI (by omega) (mciI (by omega) hw) | exact mciI (by omega) (mciI (by omega) (mciI (by omega) hw)) | exact mciI (by omega) (mciI (by omega) (mciI (by omega) (mciI (by omega) hw))) | exact mciC (by omega) hw) (by omega)) dX8_isModalIn_11 kX8_318 (by omega) (by decide) rfl (Nat.le_of_ble_eq_true rfl) (rcv_o (by first | assumption | exact hT.2.1) rfl) (fun x11 M11 h11 => ?_)
    obtain ⟨e11, f11⟩ := h11
    have f11' := f11.symm
    subst f11'
    subst e11
    try simp (disch := omega) only [rdI_e, rdI_n, rdC_i, rdC_o, rdW, rdR, rdU_e, rdU_n, rdLW, Int.add_zero]
    refine x_if_eq (tgt := 19) dX8_isModalIn_14 (by decide) (fun h14 => ?_) (fun h14 => ?_)
    · try simp only [vP_0, vP_1, vP_n0, vP_n1, Classical.not_not] at h14
      refine x_aload_n dX8_isModalIn_19 rfl rfl ?_
      refine x_iload_n dX8_isModalIn_20 rfl rfl ?_
      refine g_callN (vs := [_, _]) (d' := d - 1) rfl (s_X8_isNow (by omega) hT hst) dX8_isModalIn_21 kX8_321 (by omega) (by decide) rfl (Nat.le_of_ble_eq_true rfl) (rcv_o (by first | assumption | exact hT.2.1) rfl) (fun M21 h21 => ?_)
      obtain ⟨g21, hM21, r21, q21⟩ := h21
      subst hM21
      have hok : okM (mvT g21 m) := by rw [r21]; exact tabM_ok (by omega) (by omega) (by omega) hsk
      have hw1 := hw
      have hw : g21 (m + 1) = v := TA.w q21 hw1
      refine x_aload_n dX8_isModalIn_24 rfl rfl ?_
      refine x_iload_n dX8_isModalIn_25 rfl rfl ?_
      refine g_callN (vs := [_, _]) (d' := d - 1) rfl (s_X8_does (M := wI M g21) (by omega) hT hw hok hop hp) dX8_isModalIn_26 kX8_325 (by omega) (by decide) rfl (Nat.le_of_ble_eq_true rfl) (rcv_o (by first | assumption | exact hT.2.1) rfl) (fun M26 h26 => ?_)
      obtain ⟨g26, hM26, r26, q26⟩ := h26
      subst hM26
      have r2 : mvT g26 m = opD v p (stM st) := r26.trans (by rw [mci_wI, r21]; rfl)
      have ok2 : okM (opD v p (stM st)) := opD_ok hop (tabM_ok (by omega) (by omega) (by omega) (Or.inl rfl))
      refine x_aload_n dX8_isModalIn_29 rfl rfl ?_
      refine g_callN (vs := [_]) (d' := d - 1) rfl (s_X8_keepsFirst (M := wI M g26) (by omega) hT r2 ok2) dX8_isModalIn_30 kX8_334 (by omega) (by decide) rfl (Nat.le_of_ble_eq_true rfl) (rcv_o (by first | assumption | exact hT.2.1) rfl) (fun M30 h30 => ?_)
      obtain ⟨g30, hM30, f30, r30, q30⟩ := h30
      subst hM30
      have ok3 : sk01 g30 m := by
        unfold sk01
        rw [show g30 m 23 = (mvT g30 m).2.2.2.2.1 from rfl, r30]
        exact ok2.2.2.2.2.1
      have Q3 : TE m (mci M) g30 := TE.trans (TE.trans q21.te q26.te) q30
      refine x_aload_n dX8_isModalIn_33 rfl rfl ?_
      refine x_iload_n dX8_isModalIn_34 rfl rfl ?_
      refine x_iconst dX8_isModalIn_35 rfl ?_
      refine x_iload_n dX8_isModalIn_36 rfl rfl ?_
      refine g_callI (vs := [_]) (d' := d - 1) rfl (s_X8_baseOf (by omega) (by omega)) dX8_isModalIn_37 kX8_307 (by omega) (by decide) rfl (Nat.le_of_ble_eq_true rfl) (rcv_n) (fun x37 M37 h37 => ?_)
      obtain ⟨e37, f37⟩ := h37
      have f37' := f37.symm
      subst f37'
      subst e37
      try simp (disch := omega) only [rdI_e, rdI_n, rdC_i, rdC_o, rdW, rdR, rdU_e, rdU_n, rdLW, Int.add_zero]
      refine x_iconst dX8_isModalIn_40 rfl ?_
      refine x_iconst dX8_isModalIn_41 rfl ?_
      refine g_callN (vs := [_, _, _, _, _, _]) (d' := d - 1) rfl (s_X8_isLike (M := wI M g30) (by omega) hT hst (Or.inl rfl)) dX8_isModalIn_42 kX8_314 (by omega) (by decide) rfl (Nat.le_of_ble_eq_true rfl) (rcv_o (by first | assumption | exact hT.2.1) rfl) (fun M42 h42 => ?_)
      obtain ⟨g42, hM42, r42, q42⟩ := h42
      subst hM42
      have hok4 : okM (mvT g42 m) := by rw [r42]; exact tabM_ok (Or.inr rfl) (by omega) (by omega) ok3
      have hw4 : g42 (m + 1) = v := TA.w q42 (Q3.w hw1)
      refine x_aload_n dX8_isModalIn_45 rfl rfl ?_
      refine x_iload_n dX8_isModalIn_46 rfl rfl ?_
      refine g_callN (vs := [_, _]) (d' := d - 1) rfl (s_X8_does (M := wI M g42) (by omega) hT hw4 hok4 hop hp) dX8_isModalIn_47 kX8_325 (by omega) (by decide) rfl (Nat.le_of_ble_eq_true rfl) (rcv_o (by first | assumption | exact hT.2.1) rfl) (fun M47 h47 => ?_)
      obtain ⟨g47, hM47, r47, q47⟩ := h47
      subst hM47
      have r5 : mvT g47 m = opD v p (tabM st 1 (st / 8 % 4 * 2) 0 0 0) := r47.trans (by rw [mci_wI, r42, if_neg (by decide)]; rfl)
      have hz : sk01 g47 m := by
        unfold sk01
        rw [show g47 m 23 = (mvT g47 m).2.2.2.2.1 from rfl, r5]
        exact (opD_ok hop (tabM_ok (Or.inr rfl) (by omega) (by omega) (Or.inl rfl))).2.2.2.2.1
      refine x_aload_n dX8_isModalIn_50 rfl rfl ?_
      refine x_iconst dX8_isModalIn_51 rfl ?_
      refine g_callI (vs := [_, _]) (d' := d - 1) rfl (s_X8_isUnlike (M := wI M g47) (by omega) hT (fsT.ta (fsT.ta f30 q42) q47) (opD_perC tabM_perC) (by omega)) dX8_isModalIn_52 kX8_337 (by omega) (by decide) rfl (Nat.le_of_ble_eq_true rfl) (rcv_o (by first | assumption | exact hT.2.1) rfl) (fun x52 M52 h52 => ?_)
      obtain ⟨e52, f52⟩ := h52
      have f52' := f52.symm
      subst f52'
      rw [mci_wI, r5] at e52
      refine x_zreturn (by rw [e52]; exact vP_r _) rfl dX8_isModalIn_55 ?_
      refine hQ _ _ ⟨_, rfl, ?_, g47, rfl, TE.trans Q3 (TE.trans q42.te q47.te), hz⟩
      rw [e52]
      exact vP_c ⟨fun q => ⟨h5, fun y => h14 ⟨y, rfl⟩, q⟩, fun q => q.2.2⟩
    · try simp only [vP_0, vP_1, vP_n0, vP_n1, Classical.not_not] at h14
      refine x_iconst dX8_isModalIn_17 rfl ?_
      refine x_zreturn (by first | exact Or.inl rfl | exact Or.inr rfl | exact vB_r _ | exact vP_r _ | assumption | omega) rfl dX8_isModalIn_18 ?_
      first
      | exact hQ _ _ ⟨_, rfl, (vP_f (p := isMdl v p st) fun q => q.2.1 (show opG v p = 1 ∧ (0 : Int) = 0 from h14).1).symm, mci M, rfl, TE.rfl, hsk⟩
      | exact hQ _ _ ⟨_, rfl, (vP_f (p := isMdl v p st) fun q => q.1 h5).symm, mci M, rfl, TE.rfl, hsk⟩
theorem s_X8_isLocalIn (hd : 14 ≤ d) (hT : TwS (msh M) (mcr M) m) (hw : mci M (m + 1) = v) (hop : okOp v p) (hp : 0 ≤ p ∧ p < 8) (hst : 0 ≤ st ∧ st < 512) (hsk : sk01 (mci M) m) : CS G d mX8_isLocalIn [dR m, dI p, dI st] M (postI fun x M1 => x = vP (isLoc v p st) ∧ ∃ g, M1 = wI M g ∧ TE m (mci M) g ∧ sk01 g m) := by
  have hT_ := hT; obtain ⟨p0, p1, ⟨c1, c2, c3, c4, c5, c6, c7, c8, c9, c10, c11, c12, c13, c14, c15⟩, ⟨t1, t2, t3, t4, t5, t6, t7, t8, t9, t10, t11, t12, t13, t14, t15⟩⟩ := hT_
  refine CS.mkQ (by decide) (Nat.le_of_ble_eq_true rfl) fun Q hQ => ?_
  refine x_aload_n dX8_isLocalIn_0 rfl rfl ?_
  refine x_iload_n dX8_isLocalIn_1 rfl rfl ?_
  refine x_iload_n dX8_isLocalIn_2 rfl rfl ?_
  refine g_callI (vs := [_]) (d' := d - 1) rfl (s_X8_modeOf (by omega) (by omega)) dX8_isLocalIn_3 kX8_311 (by omega) (by decide) rfl (Nat.le_of_ble_eq_true rfl) (rcv_n) (fun x3 M3 h3 => ?_)
  obtain ⟨e3, f3⟩ := h3
  have f3' := f3.symm
  subst f3'
  subst e3
  try simp (disch := omega) only [rdI_e, rdI_n, rdC_i, rdC_o, rdW, rdR, rdU_e, rdU_n, rdLW, Int.add_zero]
  refine g_callI (vs := [_, _, _]) (d' := d - 1) rfl (s_X8_trapsIn (by omega) hT (by first | exact hw | exact mciI (by omega) hw | exact mciI (by omega) (mciI (by omega) hw) | exact mciI (by omega) (mciI (by omega) (mciI (by omega) hw)) | exact mciI (by omega) (mciI (by omega) (mciI (by omega) (mciI (by omega) hw))) | exact mciC (by omega) hw) (by omega)) dX8_isLocalIn_6 kX8_318 (by omega) (by decide) rfl (Nat.le_of_ble_eq_true rfl) (rcv_o (by first | assumption | exact hT.2.1) rfl) (fun x6 M6 h6 => ?_)
  obtain ⟨e6, f6⟩ := h6
  have f6' := f6.symm
  subst f6'
  subst e6
  try simp (disch := omega) only [rdI_e, rdI_n, rdC_i, rdC_o, rdW, rdR, rdU_e, rdU_n, rdLW, Int.add_zero]
  refine x_if_eq (tgt := 14) dX8_isLocalIn_9 (by decide) (fun h9 => ?_) (fun h9 => ?_)
  · try simp only [vP_0, vP_1, vP_n0, vP_n1, Classical.not_not] at h9
    refine x_aload_n dX8_isLocalIn_14 rfl rfl ?_
    refine x_iload_n dX8_isLocalIn_15 rfl rfl ?_
    refine g_callN (vs := [_, _]) (d' := d - 1) rfl (s_X8_isNow (by omega) hT hst) dX8_isLocalIn_16 kX8_321 (by omega) (by decide) rfl (Nat.le_of_ble_eq_true rfl) (rcv_o (by first | assumption | exact hT.2.1) rfl) (fun M16 h16 => ?_)
    obtain ⟨g16, hM16, r16, q16⟩ := h16
    subst hM16
    have hok : okM (mvT g16 m) := by rw [r16]; exact tabM_ok (by omega) (by omega) (by omega) hsk
    have hw1 := hw
    have hw : g16 (m + 1) = v := TA.w q16 hw1
    refine x_aload_n dX8_isLocalIn_19 rfl rfl ?_
    refine x_iload_n dX8_isLocalIn_20 rfl rfl ?_
    refine g_callN (vs := [_, _]) (d' := d - 1) rfl (s_X8_does (M := wI M g16) (by omega) hT hw hok hop hp) dX8_isLocalIn_21 kX8_325 (by omega) (by decide) rfl (Nat.le_of_ble_eq_true rfl) (rcv_o (by first | assumption | exact hT.2.1) rfl) (fun M21 h21 => ?_)
    obtain ⟨g21, hM21, r21, q21⟩ := h21
    subst hM21
    have r2 : mvT g21 m = opD v p (stM st) := r21.trans (by rw [mci_wI, r16]; rfl)
    have ok2 : okM (opD v p (stM st)) := opD_ok hop (tabM_ok (by omega) (by omega) (by omega) (Or.inl rfl))
    refine x_aload_n dX8_isLocalIn_24 rfl rfl ?_
    refine g_callN (vs := [_]) (d' := d - 1) rfl (s_X8_keepsFirst (M := wI M g21) (by omega) hT r2 ok2) dX8_isLocalIn_25 kX8_334 (by omega) (by decide) rfl (Nat.le_of_ble_eq_true rfl) (rcv_o (by first | assumption | exact hT.2.1) rfl) (fun M25 h25 => ?_)
    obtain ⟨g25, hM25, f25, r25, q25⟩ := h25
    subst hM25
    have ok3 : sk01 g25 m := by
      unfold sk01
      rw [show g25 m 23 = (mvT g25 m).2.2.2.2.1 from rfl, r25]
      exact ok2.2.2.2.2.1
    have Q3 : TE m (mci M) g25 := TE.trans (TE.trans q16.te q21.te) q25
    refine x_aload_n dX8_isLocalIn_28 rfl rfl ?_
    refine x_iload_n dX8_isLocalIn_29 rfl rfl ?_
    refine x_iload_n dX8_isLocalIn_30 rfl rfl ?_
    refine g_callI (vs := [_]) (d' := d - 1) rfl (s_X8_modeOf (by omega) (by omega)) dX8_isLocalIn_31 kX8_311 (by omega) (by decide) rfl (Nat.le_of_ble_eq_true rfl) (rcv_n) (fun x31 M31 h31 => ?_)
    obtain ⟨e31, f31⟩ := h31
    have f31' := f31.symm
    subst f31'
    subst e31
    try simp (disch := omega) only [rdI_e, rdI_n, rdC_i, rdC_o, rdW, rdR, rdU_e, rdU_n, rdLW, Int.add_zero]
    refine x_iconst dX8_isLocalIn_34 rfl ?_
    refine x_iconst dX8_isLocalIn_35 rfl ?_
    refine x_iconst dX8_isLocalIn_36 rfl ?_
    refine g_callN (vs := [_, _, _, _, _, _]) (d' := d - 1) rfl (s_X8_isLike (M := wI M g25) (by omega) hT hst (Or.inr rfl)) dX8_isLocalIn_37 kX8_314 (by omega) (by decide) rfl (Nat.le_of_ble_eq_true rfl) (rcv_o (by first | assumption | exact hT.2.1) rfl) (fun M37 h37 => ?_)
    obtain ⟨g37, hM37, r37, q37⟩ := h37
    subst hM37
    have hok4 : okM (mvT g37 m) := by rw [r37]; exact tabM_ok (by omega) (by omega) (by omega) ok3
    have hw4 : g37 (m + 1) = v := TA.w q37 (Q3.w hw1)
    refine x_aload_n dX8_isLocalIn_40 rfl rfl ?_
    refine x_iload_n dX8_isLocalIn_41 rfl rfl ?_
    refine g_callN (vs := [_, _]) (d' := d - 1) rfl (s_X8_does (M := wI M g37) (by omega) hT hw4 hok4 hop hp) dX8_isLocalIn_42 kX8_325 (by omega) (by decide) rfl (Nat.le_of_ble_eq_true rfl) (rcv_o (by first | assumption | exact hT.2.1) rfl) (fun M42 h42 => ?_)
    obtain ⟨g42, hM42, r42, q42⟩ := h42
    subst hM42
    have r5 : mvT g42 m = opD v p (tabM st (st / 4 % 2) 0 0 0 (st / 8 % 4 * 2)) := r42.trans (by rw [mci_wI, r37, if_pos rfl]; rfl)
    have hz : sk01 g42 m := by
      unfold sk01
      rw [show g42 m 23 = (mvT g42 m).2.2.2.2.1 from rfl, r5]
      exact (opD_ok hop (tabM_ok (by omega) (by omega) (by omega) (Or.inl rfl))).2.2.2.2.1
    refine x_aload_n dX8_isLocalIn_45 rfl rfl ?_
    refine x_iload_n dX8_isLocalIn_46 rfl rfl ?_
    refine g_callI (vs := [_]) (d' := d - 1) rfl (s_X8_baseOf (by omega) (by omega)) dX8_isLocalIn_47 kX8_307 (by omega) (by decide) rfl (Nat.le_of_ble_eq_true rfl) (rcv_n) (fun x47 M47 h47 => ?_)
    obtain ⟨e47, f47⟩ := h47
    have f47' := f47.symm
    subst f47'
    subst e47
    try simp (disch := omega) only [rdI_e, rdI_n, rdC_i, rdC_o, rdW, rdR, rdU_e, rdU_n, rdLW, Int.add_zero]
    refine g_callI (vs := [_, _]) (d' := d - 1) rfl (s_X8_isUnlike (M := wI M g42) (by omega) hT (fsT.ta (fsT.ta f25 q37) q42) (opD_perC tabM_perC) (by omega)) dX8_isLocalIn_50 kX8_337 (by omega) (by decide) rfl (Nat.le_of_ble_eq_true rfl) (rcv_o (by first | assumption | exact hT.2.1) rfl) (fun x50 M50 h50 => ?_)
    obtain ⟨e50, f50⟩ := h50
    have f50' := f50.symm
    subst f50'
    rw [mci_wI, r5] at e50
    refine x_zreturn (by rw [e50]; exact vP_r _) rfl dX8_isLocalIn_53 ?_
    first
    | exact hQ _ _ ⟨_, rfl, (vP_f fun q => q.1 h9).symm, mci M, rfl, TE.rfl, hsk⟩
    | (refine hQ _ _ ⟨_, rfl, ?_, g42, rfl, TE.trans Q3 (TE.trans q37.te q42.te), hz⟩
       rw [e50]
       exact vP_c ⟨fun q => ⟨h9, q⟩, fun q => q.2⟩)
  · try simp only [vP_0, vP_1, vP_n0, vP_n1, Classical.not_not] at h9
    refine x_iconst dX8_isLocalIn_12 rfl ?_
    refine x_zreturn (by first | exact Or.inl rfl | exact Or.inr rfl | exact vB_r _ | exact vP_r _ | assumption | omega) rfl dX8_isLocalIn_13 ?_
    first
    | exact hQ _ _ ⟨_, rfl, (vP_f fun q => q.1 h9).symm, mci M, rfl, TE.rfl, hsk⟩
    | (refine hQ _ _ ⟨_, rfl, ?_, g42, rfl, TE.trans Q3 (TE.trans q37.te q42.te), hz⟩
       rw [e50]
       exact vP_c ⟨fun q => ⟨h9, q⟩, fun q => q.2⟩)
theorem s_X8_isTimedIn (hd : 14 ≤ d) (hT : TwS (msh M) (mcr M) m) (hw : mci M (m + 1) = v) (hop : okOp v p) (hp : 0 ≤ p ∧ p < 8) (hst : 0 ≤ st ∧ st < 512) (hsk : sk01 (mci M) m) : CS G d mX8_isTimedIn [dR m, dI p, dI st] M (postI fun x M1 => x = vP (isTim v p st) ∧ ∃ g, M1 = wI M g ∧ TE m (mci M) g ∧ sk01 g m) := by
  have hT_ := hT; obtain ⟨p0, p1, ⟨c1, c2, c3, c4, c5, c6, c7, c8, c9, c10, c11, c12, c13, c14, c15⟩, ⟨t1, t2, t3, t4, t5, t6, t7, t8, t9, t10, t11, t12, t13, t14, t15⟩⟩ := hT_
  refine CS.mkQ (by decide) (Nat.le_of_ble_eq_true rfl) fun Q hQ => ?_
  by_cases htr : trapsV v p (st / 4 % 2)
  · refine x_aload_n dX8_isTimedIn_0 rfl rfl ?_
    refine x_iload_n dX8_isTimedIn_1 rfl rfl ?_
    refine x_iload_n dX8_isTimedIn_2 rfl rfl ?_
    refine g_callI (vs := [_]) (d' := d - 1) rfl (s_X8_modeOf (by omega) (by omega)) dX8_isTimedIn_3 kX8_311 (by omega) (by decide) rfl (Nat.le_of_ble_eq_true rfl) (rcv_n) (fun x3 M3 h3 => ?_)
    obtain ⟨e3, f3⟩ := h3
    have f3' := f3.symm
    subst f3'
    subst e3
    try simp (disch := omega) only [rdI_e, rdI_n, rdC_i, rdC_o, rdW, rdR, rdU_e, rdU_n, rdLW, Int.add_zero]
    refine g_callI (vs := [_, _, _]) (d' := d - 1) rfl (s_X8_trapsIn (by omega) hT (by first | exact hw | exact mciI (by omega) hw | exact mciI (by omega) (mciI (by omega) hw) | exact mciI (by omega) (mciI (by omega) (mciI (by omega) hw)) | exact mciI (by omega) (mciI (by omega) (mciI (by omega) (mciI (by omega) hw))) | exact mciC (by omega) hw) (by omega)) dX8_isTimedIn_6 kX8_318 (by omega) (by decide) rfl (Nat.le_of_ble_eq_true rfl) (rcv_o (by first | assumption | exact hT.2.1) rfl) (fun x6 M6 h6 => ?_)
    obtain ⟨e6, f6⟩ := h6
    have f6' := f6.symm
    subst f6'
    subst e6
    try simp (disch := omega) only [rdI_e, rdI_n, rdC_i, rdC_o, rdW, rdR, rdU_e, rdU_n, rdLW, Int.add_zero]
    refine x_if_eq (tgt := 14) dX8_isTimedIn_9 (by decide) (fun h9 => ?_) (fun h9 => ?_)
    · try simp only [vP_0, vP_1, vP_n0, vP_n1, Classical.not_not] at h9
      exact absurd htr h9
    · try simp only [vP_0, vP_1, vP_n0, vP_n1, Classical.not_not] at h9
      refine x_iconst dX8_isTimedIn_12 rfl ?_
      refine x_zreturn (by first | exact Or.inl rfl | exact Or.inr rfl | exact vB_r _ | exact vP_r _ | assumption | omega) rfl dX8_isTimedIn_13 ?_
      exact hQ _ _ ⟨_, rfl, (vP_f fun q => q.1 htr).symm, mci M, rfl, TE.rfl, hsk⟩
  · skip
    have loop : ∀ (t : Nat) (k y : Int) (g : Ci), (8 - k).toNat = t → (1 ≤ k) → (k ≤ 8) → (TE m (mci M) g) → (sk01 g m) → (y = vP (∃ c, 1 ≤ c ∧ c < k ∧ unM (opD v p (stM st)) (opD v p (tabM st (st / 4 % 2) (st / 8 % 4 * 2) c 0 0)) 0)) → WP G d mX8_isTimedIn 19 [some (dR m), some (dI p), some (dI st), some (dI y), some (dI k)] [] (wI M g) Q := by
      intro t
      induction t using Nat.strongRecOn with
      | _ t ih =>
        intro k y g ht h0 h1 hf hsk hy
        have hw : g (m + 1) = v := hf.w hw
        have hy01 : y = 0 ∨ y = 1 := by rw [hy]; exact vP_r _
        refine x_iload dX8_isTimedIn_19 rfl ?_
        refine x_bipush dX8_isTimedIn_21 rfl ?_
        refine x_icmp_ge (tgt := 77) dX8_isTimedIn_23 (by decide) (fun h23 => ?_) (fun h23 => ?_)
        · refine x_iload_n dX8_isTimedIn_77 rfl rfl ?_
          refine x_zreturn (by exact hy01) rfl dX8_isTimedIn_78 ?_
          refine hQ _ _ ⟨_, rfl, ?_, g, rfl, hf, hsk⟩
          rw [hy]
          first
          | (have hk8 : k = 8 := by omega
             subst hk8
             exact vP_c ⟨fun q => ⟨htr, q⟩, fun q => q.2⟩)
          | (have h1 := vP_n0.mp (hy ▸ h27)
             obtain ⟨c, c1, c2, c3⟩ := h1
             rw [vP_t ⟨c, c1, c2, c3⟩]
             exact (vP_t ⟨htr, c, c1, by omega, c3⟩).symm)
        · refine x_iload_n dX8_isTimedIn_26 rfl rfl ?_
          refine x_if_ne (tgt := 77) dX8_isTimedIn_27 (by decide) (fun h27 => ?_) (fun h27 => ?_)
          · refine x_iload_n dX8_isTimedIn_77 rfl rfl ?_
            refine x_zreturn (by exact hy01) rfl dX8_isTimedIn_78 ?_
            refine hQ _ _ ⟨_, rfl, ?_, g, rfl, hf, hsk⟩
            rw [hy]
            first
            | (have hk8 : k = 8 := by omega
               subst hk8
               exact vP_c ⟨fun q => ⟨htr, q⟩, fun q => q.2⟩)
            | (have h1 := vP_n0.mp (hy ▸ h27)
               obtain ⟨c, c1, c2, c3⟩ := h1
               rw [vP_t ⟨c, c1, c2, c3⟩]
               exact (vP_t ⟨htr, c, c1, by omega, c3⟩).symm)
          · refine x_aload_n dX8_isTimedIn_30 rfl rfl ?_
            refine x_iload_n dX8_isTimedIn_31 rfl rfl ?_
            refine g_callN (vs := [_, _]) (d' := d - 1) rfl (s_X8_isNow (M := wI M g) (by omega) hT hst) dX8_isTimedIn_32 kX8_321 (by omega) (by decide) rfl (Nat.le_of_ble_eq_true rfl) (rcv_o (by first | assumption | exact hT.2.1) rfl) (fun M32 h32 => ?_)
            obtain ⟨g32, hM32, r32, q32⟩ := h32
            subst hM32
            have hok : okM (mvT g32 m) := by rw [r32]; exact tabM_ok (by omega) (by omega) (by omega) hsk
            have hw1 : g32 (m + 1) = v := TA.w q32 hw
            refine x_aload_n dX8_isTimedIn_35 rfl rfl ?_
            refine x_iload_n dX8_isTimedIn_36 rfl rfl ?_
            refine g_callN (vs := [_, _]) (d' := d - 1) rfl (s_X8_does (M := wI M g32) (by omega) hT hw1 hok hop hp) dX8_isTimedIn_37 kX8_325 (by omega) (by decide) rfl (Nat.le_of_ble_eq_true rfl) (rcv_o (by first | assumption | exact hT.2.1) rfl) (fun M37 h37 => ?_)
            obtain ⟨g37, hM37, r37, q37⟩ := h37
            subst hM37
            have r2 : mvT g37 m = opD v p (stM st) := r37.trans (by rw [mci_wI, r32]; rfl)
            have ok2 : okM (opD v p (stM st)) := opD_ok hop (tabM_ok (by omega) (by omega) (by omega) (Or.inl rfl))
            refine x_aload_n dX8_isTimedIn_40 rfl rfl ?_
            refine g_callN (vs := [_]) (d' := d - 1) rfl (s_X8_keepsFirst (M := wI M g37) (by omega) hT r2 ok2) dX8_isTimedIn_41 kX8_334 (by omega) (by decide) rfl (Nat.le_of_ble_eq_true rfl) (rcv_o (by first | assumption | exact hT.2.1) rfl) (fun M41 h41 => ?_)
            obtain ⟨g41, hM41, f41, r41, q41⟩ := h41
            subst hM41
            have ok3 : sk01 g41 m := by
              unfold sk01
              rw [show g41 m 23 = (mvT g41 m).2.2.2.2.1 from rfl, r41]
              exact ok2.2.2.2.2.1
            have Q3 : TE m (mci M) g41 := TE.trans hf (TE.trans (TE.trans q32.te q37.te) q41)
            have hw3 : g41 (m + 1) = v := TE.w q41 (TA.w q37 hw1)
            refine x_aload_n dX8_isTimedIn_44 rfl rfl ?_
            refine x_iload_n dX8_isTimedIn_45 rfl rfl ?_
            refine x_iload_n dX8_isTimedIn_46 rfl rfl ?_
            refine g_callI (vs := [_]) (d' := d - 1) rfl (s_X8_modeOf (by omega) (by omega)) dX8_isTimedIn_47 kX8_311 (by omega) (by decide) rfl (Nat.le_of_ble_eq_true rfl) (rcv_n) (fun x47 M47 h47 => ?_)
            obtain ⟨e47, f47⟩ := h47
            have f47' := f47.symm
            subst f47'
            subst e47
            try simp (disch := omega) only [rdI_e, rdI_n, rdC_i, rdC_o, rdW, rdR, rdU_e, rdU_n, rdLW, Int.add_zero]
            refine x_iload_n dX8_isTimedIn_50 rfl rfl ?_
            refine g_callI (vs := [_]) (d' := d - 1) rfl (s_X8_baseOf (by omega) (by omega)) dX8_isTimedIn_51 kX8_307 (by omega) (by decide) rfl (Nat.le_of_ble_eq_true rfl) (rcv_n) (fun x51 M51 h51 => ?_)
            obtain ⟨e51, f51⟩ := h51
            have f51' := f51.symm
            subst f51'
            subst e51
            try simp (disch := omega) only [rdI_e, rdI_n, rdC_i, rdC_o, rdW, rdR, rdU_e, rdU_n, rdLW, Int.add_zero]
            refine x_iload dX8_isTimedIn_54 rfl ?_
            refine x_iconst dX8_isTimedIn_56 rfl ?_
            refine g_callN (vs := [_, _, _, _, _, _]) (d' := d - 1) rfl (s_X8_isLike (M := wI M g41) (by omega) hT hst (Or.inl rfl)) dX8_isTimedIn_57 kX8_314 (by omega) (by decide) rfl (Nat.le_of_ble_eq_true rfl) (rcv_o (by first | assumption | exact hT.2.1) rfl) (fun M57 h57 => ?_)
            obtain ⟨g57, hM57, r57, q57⟩ := h57
            subst hM57
            have hok4 : okM (mvT g57 m) := by rw [r57]; exact tabM_ok (by omega) (by omega) (by omega) ok3
            have hw4 : g57 (m + 1) = v := TA.w q57 hw3
            refine x_aload_n dX8_isTimedIn_60 rfl rfl ?_
            refine x_iload_n dX8_isTimedIn_61 rfl rfl ?_
            refine g_callN (vs := [_, _]) (d' := d - 1) rfl (s_X8_does (M := wI M g57) (by omega) hT hw4 hok4 hop hp) dX8_isTimedIn_62 kX8_325 (by omega) (by decide) rfl (Nat.le_of_ble_eq_true rfl) (rcv_o (by first | assumption | exact hT.2.1) rfl) (fun M62 h62 => ?_)
            obtain ⟨g62, hM62, r62, q62⟩ := h62
            subst hM62
            have r5 : mvT g62 m = opD v p (tabM st (st / 4 % 2) (st / 8 % 4 * 2) k 0 0) := r62.trans (by rw [mci_wI, r57, if_neg (by decide)]; rfl)
            have hz : sk01 g62 m := by
              unfold sk01
              rw [show g62 m 23 = (mvT g62 m).2.2.2.2.1 from rfl, r5]
              exact (opD_ok hop (tabM_ok (by omega) (by omega) (by omega) (Or.inl rfl))).2.2.2.2.1
            refine x_aload_n dX8_isTimedIn_65 rfl rfl ?_
            refine x_iconst dX8_isTimedIn_66 rfl ?_
            refine g_callI (vs := [_, _]) (d' := d - 1) rfl (s_X8_isUnlike (M := wI M g62) (by omega) hT (fsT.ta (fsT.ta f41 q57) q62) (opD_perC tabM_perC) (by omega)) dX8_isTimedIn_67 kX8_337 (by omega) (by decide) rfl (Nat.le_of_ble_eq_true rfl) (rcv_o (by first | assumption | exact hT.2.1) rfl) (fun x67 M67 h67 => ?_)
            obtain ⟨e67, f67⟩ := h67
            have f67' := f67.symm
            subst f67'
            rw [mci_wI, r5] at e67
            refine x_istore_n (L' := [some _, some _, some _, some _, some _]) dX8_isTimedIn_70 rfl (by decide) rfl ?_
            first | refine x_iincN (L' := [some _, some _, some _, some _, some _]) dX8_isTimedIn_71 rfl (by decide) (by unfold i32; omega) rfl ?_ | refine x_iinc (L' := [some _, some _, some _, some _, some _]) dX8_isTimedIn_71 rfl (by decide) rfl ?_
            refine x_goto (tgt := 19) dX8_isTimedIn_74 (by decide) ?_
            refine WP.mem (M1 := wI M g62) rfl (ih _ (by omega) (k + 1) _ g62 rfl (by omega) (by omega) (TE.trans Q3 (TE.trans q57.te q62.te)) hz ?_)
            rw [e67]
            rw [h27] at hy
            have hn := vP_0.mp hy.symm
            refine vP_c ⟨fun q => ⟨k, by omega, by omega, q⟩, fun ⟨c, c1, c2, c3⟩ => ?_⟩
            by_cases e : c = k
            · subst e; exact c3
            · exact absurd ⟨c, c1, by omega, c3⟩ hn
    refine x_aload_n dX8_isTimedIn_0 rfl rfl ?_
    refine x_iload_n dX8_isTimedIn_1 rfl rfl ?_
    refine x_iload_n dX8_isTimedIn_2 rfl rfl ?_
    refine g_callI (vs := [_]) (d' := d - 1) rfl (s_X8_modeOf (by omega) (by omega)) dX8_isTimedIn_3 kX8_311 (by omega) (by decide) rfl (Nat.le_of_ble_eq_true rfl) (rcv_n) (fun x3 M3 h3 => ?_)
    obtain ⟨e3, f3⟩ := h3
    have f3' := f3.symm
    subst f3'
    subst e3
    try simp (disch := omega) only [rdI_e, rdI_n, rdC_i, rdC_o, rdW, rdR, rdU_e, rdU_n, rdLW, Int.add_zero]
    refine g_callI (vs := [_, _, _]) (d' := d - 1) rfl (s_X8_trapsIn (by omega) hT (by first | exact hw | exact mciI (by omega) hw | exact mciI (by omega) (mciI (by omega) hw) | exact mciI (by omega) (mciI (by omega) (mciI (by omega) hw)) | exact mciI (by omega) (mciI (by omega) (mciI (by omega) (mciI (by omega) hw))) | exact mciC (by omega) hw) (by omega)) dX8_isTimedIn_6 kX8_318 (by omega) (by decide) rfl (Nat.le_of_ble_eq_true rfl) (rcv_o (by first | assumption | exact hT.2.1) rfl) (fun x6 M6 h6 => ?_)
    obtain ⟨e6, f6⟩ := h6
    have f6' := f6.symm
    subst f6'
    subst e6
    try simp (disch := omega) only [rdI_e, rdI_n, rdC_i, rdC_o, rdW, rdR, rdU_e, rdU_n, rdLW, Int.add_zero]
    refine x_if_eq (tgt := 14) dX8_isTimedIn_9 (by decide) (fun h9 => ?_) (fun h9 => ?_)
    · try simp only [vP_0, vP_1, vP_n0, vP_n1, Classical.not_not] at h9
      refine x_iconst dX8_isTimedIn_14 rfl ?_
      refine x_istore_n (L' := [some _, some _, some _, some _, none]) dX8_isTimedIn_15 rfl (by decide) rfl ?_
      refine x_iconst dX8_isTimedIn_16 rfl ?_
      refine x_istore (L' := [some _, some _, some _, some _, some _]) dX8_isTimedIn_17 (by decide) rfl ?_
      exact loop _ 1 0 (mci M) rfl (by omega) (by omega) TE.rfl hsk (vP_f fun ⟨c, c1, c2, c3⟩ => by omega).symm
    · try simp only [vP_0, vP_1, vP_n0, vP_n1, Classical.not_not] at h9
      exact absurd h9 htr
theorem s_X8_isSoIn (hd : 15 ≤ d) (hT : TwS (msh M) (mcr M) m) (hw : mci M (m + 1) = v) (hop : okOp v p) (hp : 0 ≤ p ∧ p < 8) (hwh : 0 ≤ what ∧ what < 4) (hst : 0 ≤ st ∧ st < 512) (hsk : sk01 (mci M) m) : CS G d mX8_isSoIn [dR m, dI p, dI what, dI st] M (postI fun x M1 => x = vP (isSo v p what st) ∧ ∃ g, M1 = wI M g ∧ TE m (mci M) g ∧ sk01 g m) := by
  refine CS.mkQ (by decide) (Nat.le_of_ble_eq_true rfl) fun Q hQ => ?_
  refine x_iload_n dX8_isSoIn_0 rfl rfl ?_
  refine x_if_ne (tgt := 13) dX8_isSoIn_1 (by decide) (fun h1 => ?_) (fun h1 => ?_)
  · refine x_iload_n dX8_isSoIn_13 rfl rfl ?_
    refine x_iconst dX8_isSoIn_14 rfl ?_
    refine x_icmp_ne (tgt := 27) dX8_isSoIn_15 (by decide) (fun h15 => ?_) (fun h15 => ?_)
    · refine x_iload_n dX8_isSoIn_27 rfl rfl ?_
      refine x_iconst dX8_isSoIn_28 rfl ?_
      refine x_icmp_ne (tgt := 41) dX8_isSoIn_29 (by decide) (fun h29 => ?_) (fun h29 => ?_)
      · refine x_aload_n dX8_isSoIn_41 rfl rfl ?_
        refine x_iload_n dX8_isSoIn_42 rfl rfl ?_
        refine x_iload_n dX8_isSoIn_43 rfl rfl ?_
        refine g_callI (vs := [_, _, _]) (d' := d - 1) rfl (s_X8_isTimedIn (by omega) hT (by first | exact hw | exact mciI (by omega) hw | exact mciI (by omega) (mciI (by omega) hw) | exact mciI (by omega) (mciI (by omega) (mciI (by omega) hw)) | exact mciI (by omega) (mciI (by omega) (mciI (by omega) (mciI (by omega) hw))) | exact mciC (by omega) hw) hop (by omega) hst hsk) dX8_isSoIn_44 kX8_349 (by omega) (by decide) rfl (Nat.le_of_ble_eq_true rfl) (rcv_o (by first | assumption | exact hT.2.1) rfl) (fun x44 M44 h44 => ?_)
        obtain ⟨e44, g44, hM44, q44, z44⟩ := h44
        refine x_zreturn (by first | (rw [e7]; exact vP_r _) | (rw [e21]; exact vP_r _) | (rw [e35]; exact vP_r _) | (rw [e44]; exact vP_r _)) rfl dX8_isSoIn_47 ?_
        first
        | exact hQ _ _ ⟨_, rfl, e7.trans (vP_c ⟨fun q => Or.inl ⟨by omega, q⟩, fun q => by rcases q with q | q | q | q <;> first | exact q.2 | exact absurd q.1 (by omega)⟩), g7, hM7, q7, z7⟩
        | exact hQ _ _ ⟨_, rfl, e21.trans (vP_c ⟨fun q => Or.inr (Or.inl ⟨by omega, q⟩), fun q => by rcases q with q | q | q | q <;> first | exact absurd q.1 (by omega) | exact q.2⟩), g21, hM21, q21, z21⟩
        | exact hQ _ _ ⟨_, rfl, e35.trans (vP_c ⟨fun q => Or.inr (Or.inr (Or.inl ⟨by omega, q⟩)), fun q => by rcases q with q | q | q | q <;> first | exact absurd q.1 (by omega) | exact q.2⟩), g35, hM35, q35, z35⟩
        | exact hQ _ _ ⟨_, rfl, e44.trans (vP_c ⟨fun q => Or.inr (Or.inr (Or.inr ⟨by omega, q⟩)), fun q => by rcases q with q | q | q | q <;> first | exact absurd q.1 (by omega) | exact q.2⟩), g44, hM44, q44, z44⟩
      · refine x_aload_n dX8_isSoIn_32 rfl rfl ?_
        refine x_iload_n dX8_isSoIn_33 rfl rfl ?_
        refine x_iload_n dX8_isSoIn_34 rfl rfl ?_
        refine g_callI (vs := [_, _, _]) (d' := d - 1) rfl (s_X8_isLocalIn (by omega) hT (by first | exact hw | exact mciI (by omega) hw | exact mciI (by omega) (mciI (by omega) hw) | exact mciI (by omega) (mciI (by omega) (mciI (by omega) hw)) | exact mciI (by omega) (mciI (by omega) (mciI (by omega) (mciI (by omega) hw))) | exact mciC (by omega) hw) hop (by omega) hst hsk) dX8_isSoIn_35 kX8_346 (by omega) (by decide) rfl (Nat.le_of_ble_eq_true rfl) (rcv_o (by first | assumption | exact hT.2.1) rfl) (fun x35 M35 h35 => ?_)
        obtain ⟨e35, g35, hM35, q35, z35⟩ := h35
        refine x_goto (tgt := 47) dX8_isSoIn_38 (by decide) ?_
        refine x_zreturn (by first | (rw [e7]; exact vP_r _) | (rw [e21]; exact vP_r _) | (rw [e35]; exact vP_r _) | (rw [e44]; exact vP_r _)) rfl dX8_isSoIn_47 ?_
        first
        | exact hQ _ _ ⟨_, rfl, e7.trans (vP_c ⟨fun q => Or.inl ⟨by omega, q⟩, fun q => by rcases q with q | q | q | q <;> first | exact q.2 | exact absurd q.1 (by omega)⟩), g7, hM7, q7, z7⟩
        | exact hQ _ _ ⟨_, rfl, e21.trans (vP_c ⟨fun q => Or.inr (Or.inl ⟨by omega, q⟩), fun q => by rcases q with q | q | q | q <;> first | exact absurd q.1 (by omega) | exact q.2⟩), g21, hM21, q21, z21⟩
        | exact hQ _ _ ⟨_, rfl, e35.trans (vP_c ⟨fun q => Or.inr (Or.inr (Or.inl ⟨by omega, q⟩)), fun q => by rcases q with q | q | q | q <;> first | exact absurd q.1 (by omega) | exact q.2⟩), g35, hM35, q35, z35⟩
        | exact hQ _ _ ⟨_, rfl, e44.trans (vP_c ⟨fun q => Or.inr (Or.inr (Or.inr ⟨by omega, q⟩)), fun q => by rcases q with q | q | q | q <;> first | exact absurd q.1 (by omega) | exact q.2⟩), g44, hM44, q44, z44⟩
    · refine x_aload_n dX8_isSoIn_18 rfl rfl ?_
      refine x_iload_n dX8_isSoIn_19 rfl rfl ?_
      refine x_iload_n dX8_isSoIn_20 rfl rfl ?_
      refine g_callI (vs := [_, _, _]) (d' := d - 1) rfl (s_X8_isModalIn (by omega) hT (by first | exact hw | exact mciI (by omega) hw | exact mciI (by omega) (mciI (by omega) hw) | exact mciI (by omega) (mciI (by omega) (mciI (by omega) hw)) | exact mciI (by omega) (mciI (by omega) (mciI (by omega) (mciI (by omega) hw))) | exact mciC (by omega) hw) hop (by omega) hst hsk) dX8_isSoIn_21 kX8_343 (by omega) (by decide) rfl (Nat.le_of_ble_eq_true rfl) (rcv_o (by first | assumption | exact hT.2.1) rfl) (fun x21 M21 h21 => ?_)
      obtain ⟨e21, g21, hM21, q21, z21⟩ := h21
      refine x_goto (tgt := 47) dX8_isSoIn_24 (by decide) ?_
      refine x_zreturn (by first | (rw [e7]; exact vP_r _) | (rw [e21]; exact vP_r _) | (rw [e35]; exact vP_r _) | (rw [e44]; exact vP_r _)) rfl dX8_isSoIn_47 ?_
      first
      | exact hQ _ _ ⟨_, rfl, e7.trans (vP_c ⟨fun q => Or.inl ⟨by omega, q⟩, fun q => by rcases q with q | q | q | q <;> first | exact q.2 | exact absurd q.1 (by omega)⟩), g7, hM7, q7, z7⟩
      | exact hQ _ _ ⟨_, rfl, e21.trans (vP_c ⟨fun q => Or.inr (Or.inl ⟨by omega, q⟩), fun q => by rcases q with q | q | q | q <;> first | exact absurd q.1 (by omega) | exact q.2⟩), g21, hM21, q21, z21⟩
      | exact hQ _ _ ⟨_, rfl, e35.trans (vP_c ⟨fun q => Or.inr (Or.inr (Or.inl ⟨by omega, q⟩)), fun q => by rcases q with q | q | q | q <;> first | exact absurd q.1 (by omega) | exact q.2⟩), g35, hM35, q35, z35⟩
      | exact hQ _ _ ⟨_, rfl, e44.trans (vP_c ⟨fun q => Or.inr (Or.inr (Or.inr ⟨by omega, q⟩)), fun q => by rcases q with q | q | q | q <;> first | exact absurd q.1 (by omega) | exact q.2⟩), g44, hM44, q44, z44⟩
  · refine x_aload_n dX8_isSoIn_4 rfl rfl ?_
    refine x_iload_n dX8_isSoIn_5 rfl rfl ?_
    refine x_iload_n dX8_isSoIn_6 rfl rfl ?_
    refine g_callI (vs := [_, _, _]) (d' := d - 1) rfl (s_X8_isControlIn (by omega) hT (by first | exact hw | exact mciI (by omega) hw | exact mciI (by omega) (mciI (by omega) hw) | exact mciI (by omega) (mciI (by omega) (mciI (by omega) hw)) | exact mciI (by omega) (mciI (by omega) (mciI (by omega) (mciI (by omega) hw))) | exact mciC (by omega) hw) hop (by omega) hst hsk) dX8_isSoIn_7 kX8_340 (by omega) (by decide) rfl (Nat.le_of_ble_eq_true rfl) (rcv_o (by first | assumption | exact hT.2.1) rfl) (fun x7 M7 h7 => ?_)
    obtain ⟨e7, g7, hM7, q7, z7⟩ := h7
    refine x_goto (tgt := 47) dX8_isSoIn_10 (by decide) ?_
    refine x_zreturn (by first | (rw [e7]; exact vP_r _) | (rw [e21]; exact vP_r _) | (rw [e35]; exact vP_r _) | (rw [e44]; exact vP_r _)) rfl dX8_isSoIn_47 ?_
    first
    | exact hQ _ _ ⟨_, rfl, e7.trans (vP_c ⟨fun q => Or.inl ⟨by omega, q⟩, fun q => by rcases q with q | q | q | q <;> first | exact q.2 | exact absurd q.1 (by omega)⟩), g7, hM7, q7, z7⟩
    | exact hQ _ _ ⟨_, rfl, e21.trans (vP_c ⟨fun q => Or.inr (Or.inl ⟨by omega, q⟩), fun q => by rcases q with q | q | q | q <;> first | exact absurd q.1 (by omega) | exact q.2⟩), g21, hM21, q21, z21⟩
    | exact hQ _ _ ⟨_, rfl, e35.trans (vP_c ⟨fun q => Or.inr (Or.inr (Or.inl ⟨by omega, q⟩)), fun q => by rcases q with q | q | q | q <;> first | exact absurd q.1 (by omega) | exact q.2⟩), g35, hM35, q35, z35⟩
    | exact hQ _ _ ⟨_, rfl, e44.trans (vP_c ⟨fun q => Or.inr (Or.inr (Or.inr ⟨by omega, q⟩)), fun q => by rcases q with q | q | q | q <;> first | exact absurd q.1 (by omega) | exact q.2⟩), g44, hM44, q44, z44⟩
theorem s_X8_witnessOf (hd : 16 ≤ d) (hT : TwS (msh M) (mcr M) m) (hw : mci M (m + 1) = v) (hop : okOp v p) (hp : 0 ≤ p ∧ p < 8) (hwh : 0 ≤ what ∧ what < 4) (hsk : sk01 (mci M) m) : CS G d mX8_witnessOf [dR m, dI p, dI what] M (postI fun x M1 => x = witV v p what ∧ ∃ g, M1 = wI M g ∧ TE m (mci M) g ∧ sk01 g m) := by
  refine CS.mkQ (by decide) (Nat.le_of_ble_eq_true rfl) fun Q hQ => ?_
  have loop : ∀ (t : Nat) (k : Int) (g : Ci), (512 - k).toNat = t → (0 ≤ k) → (k ≤ 512) → (TE m (mci M) g) → (sk01 g m) → (witV v p what = firstP (isSo v p what) t k) → WP G d mX8_witnessOf 2 [some (dR m), some (dI p), some (dI what), some (dI k)] [] (wI M g) Q := by
    intro t
    induction t using Nat.strongRecOn with
    | _ t ih =>
      intro k g ht h0 h1 hf hsk hv
      have hw : g (m + 1) = v := hf.w hw
      refine x_iload_n dX8_witnessOf_2 rfl rfl ?_
      refine x_sipush dX8_witnessOf_3 rfl ?_
      refine x_icmp_ge (tgt := 25) dX8_witnessOf_6 (by decide) (fun h6 => ?_) (fun h6 => ?_)
      · refine x_iload_n dX8_witnessOf_25 rfl rfl ?_
        refine x_sipush dX8_witnessOf_26 rfl ?_
        refine x_icmp_ne (tgt := 36) dX8_witnessOf_29 (by decide) (fun h29 => ?_) (fun h29 => ?_)
        · refine x_iload_n dX8_witnessOf_36 rfl rfl ?_
          refine x_ireturn rfl dX8_witnessOf_37 ?_
          first
          | omega
          | (refine hQ _ _ ⟨_, rfl, ?_, g, rfl, hf, hsk⟩
             rw [hv, show t = 0 by omega]
             rfl)
          | (refine hQ _ _ ⟨_, rfl, ?_, g13, rfl, TE.trans hf q13, z13⟩
             rw [hv, et]
             exact (firstP_t h16).symm)
        · refine x_iconst dX8_witnessOf_32 rfl ?_
          refine x_goto (tgt := 37) dX8_witnessOf_33 (by decide) ?_
          refine x_ireturn rfl dX8_witnessOf_37 ?_
          first
          | omega
          | (refine hQ _ _ ⟨_, rfl, ?_, g, rfl, hf, hsk⟩
             rw [hv, show t = 0 by omega]
             rfl)
          | (refine hQ _ _ ⟨_, rfl, ?_, g13, rfl, TE.trans hf q13, z13⟩
             rw [hv, et]
             exact (firstP_t h16).symm)
      · refine x_aload_n dX8_witnessOf_9 rfl rfl ?_
        refine x_iload_n dX8_witnessOf_10 rfl rfl ?_
        refine x_iload_n dX8_witnessOf_11 rfl rfl ?_
        refine x_iload_n dX8_witnessOf_12 rfl rfl ?_
        refine g_callI (vs := [_, _, _, _]) (d' := d - 1) rfl (s_X8_isSoIn (M := wI M g) (by omega) hT hw hop hp hwh ⟨h0, by omega⟩ hsk) dX8_witnessOf_13 kX8_352 (by omega) (by decide) rfl (Nat.le_of_ble_eq_true rfl) (rcv_o (by first | assumption | exact hT.2.1) rfl) (fun x13 M13 h13 => ?_)
        obtain ⟨e13, g13, hM13, q13, z13⟩ := h13
        subst hM13
        rw [e13]
        have et : t = (512 - (k + 1)).toNat + 1 := by omega
        refine x_if_ne (tgt := 25) dX8_witnessOf_16 (by decide) (fun h16 => ?_) (fun h16 => ?_)
        · try simp only [vP_0, vP_1, vP_n0, vP_n1, Classical.not_not] at h16
          refine x_iload_n dX8_witnessOf_25 rfl rfl ?_
          refine x_sipush dX8_witnessOf_26 rfl ?_
          refine x_icmp_ne (tgt := 36) dX8_witnessOf_29 (by decide) (fun h29 => ?_) (fun h29 => ?_)
          · refine x_iload_n dX8_witnessOf_36 rfl rfl ?_
            refine x_ireturn rfl dX8_witnessOf_37 ?_
            first
            | omega
            | (refine hQ _ _ ⟨_, rfl, ?_, g, rfl, hf, hsk⟩
               rw [hv, show t = 0 by omega]
               rfl)
            | (refine hQ _ _ ⟨_, rfl, ?_, g13, rfl, TE.trans hf q13, z13⟩
               rw [hv, et]
               exact (firstP_t h16).symm)
          · refine x_iconst dX8_witnessOf_32 rfl ?_
            refine x_goto (tgt := 37) dX8_witnessOf_33 (by decide) ?_
            refine x_ireturn rfl dX8_witnessOf_37 ?_
            first
            | omega
            | (refine hQ _ _ ⟨_, rfl, ?_, g, rfl, hf, hsk⟩
               rw [hv, show t = 0 by omega]
               rfl)
            | (refine hQ _ _ ⟨_, rfl, ?_, g13, rfl, TE.trans hf q13, z13⟩
               rw [hv, et]
               exact (firstP_t h16).symm)
        · try simp only [vP_0, vP_1, vP_n0, vP_n1, Classical.not_not] at h16
          first | refine x_iincN (L' := [some _, some _, some _, some _]) dX8_witnessOf_19 rfl (by decide) (by unfold i32; omega) rfl ?_ | refine x_iinc (L' := [some _, some _, some _, some _]) dX8_witnessOf_19 rfl (by decide) rfl ?_
          refine x_goto (tgt := 2) dX8_witnessOf_22 (by decide) ?_
          refine WP.mem (M1 := wI M g13) rfl (ih _ (by omega) (k + 1) g13 rfl (by omega) (by omega) (TE.trans hf q13) z13 ?_)
          rw [hv, et]
          exact firstP_f h16
  refine x_iconst dX8_witnessOf_0 rfl ?_
  refine x_istore_n (L' := [some _, some _, some _, some _]) dX8_witnessOf_1 rfl (by decide) rfl ?_
  exact loop _ 0 (mci M) rfl (by omega) (by omega) TE.rfl hsk rfl
theorem s_X8_numberOfAll (hd : 13 ≤ d) (hT : TwS (msh M) (mcr M) m) (hw : mci M (m + 1) = v) (hop : okOp v p) (hp : 0 ≤ p ∧ p < 8) : CS G d mX8_numberOfAll [dR m, dI p] M (postL fun x M1 => x = hashV v p ∧ 0 < x ∧ M1 = M) := by
  obtain ⟨b1, b2, b3, b4⟩ := hop
  have hn : opN v p = v (30 + 9 * p) := rfl
  have hg : opG v p = v (30 + 9 * p + 1) := congrArg v (by omega)
  rw [hn] at b1
  rw [hg] at b2
  refine CS.mkQ (by decide) (Nat.le_of_ble_eq_true rfl) fun Q hQ => ?_
  have loop : ∀ (t : Nat) (k n : Int), (v (30 + 9 * p) - k).toNat = t → (0 ≤ k) → (k ≤ v (30 + 9 * p)) → (n = hashP (opK v p) (opX v p) (2 * opN v p + opG v p + 1) k.toNat) → (okHash k n) → WP G d mX8_numberOfAll 25 [some (dR m), some (dI p), some (dL n), none, some (dI k)] [] (M) Q := by
    intro t
    induction t using Nat.strongRecOn with
    | _ t ih =>
      intro k n ht h0 h1 hN hr
      unfold okHash at hr
      have b5 := b4 k h0
      rw [hn] at b5
      refine x_iload dX8_numberOfAll_25 rfl ?_
      refine x_aload_n dX8_numberOfAll_27 rfl rfl ?_
      refine x_iload_n dX8_numberOfAll_28 rfl rfl ?_
      refine x_iconst dX8_numberOfAll_29 rfl ?_
      refine g_callI (vs := [_, _, _]) (d' := d - 1) rfl (s_X8_of (by omega) hT (by first | exact hw | exact mciI (by omega) hw | exact mciI (by omega) (mciI (by omega) hw) | exact mciI (by omega) (mciI (by omega) (mciI (by omega) hw)) | exact mciI (by omega) (mciI (by omega) (mciI (by omega) (mciI (by omega) hw))) | exact mciC (by omega) hw) (by omega) (by omega)) dX8_numberOfAll_30 kX8_78 (by omega) (by decide) rfl (Nat.le_of_ble_eq_true rfl) (rcv_o (by first | assumption | exact hT.2.1) rfl) (fun x30 M30 h30 => ?_)
      obtain ⟨e30, f30⟩ := h30
      have f30' := f30.symm
      subst f30'
      subst e30
      try simp (disch := omega) only [rdI_e, rdI_n, rdC_i, rdC_o, rdW, rdR, rdU_e, rdU_n, rdLW, Int.add_zero]
      refine x_icmp_ge (tgt := 70) dX8_numberOfAll_33 (by decide) (fun h33 => ?_) (fun h33 => ?_)
      · refine x_lload_n dX8_numberOfAll_70 rfl rfl ?_
        refine x_lreturn rfl dX8_numberOfAll_71 ?_
        refine hQ _ _ ⟨_, rfl, ?_, hr.1, rfl⟩
        unfold hashV
        rw [hN, hn, show k = v (30 + 9 * p) by omega]
      · refine x_ldc2 (z := 11) dX8_numberOfAll_36 q1985 (by decide) ?_
        refine x_lload_n dX8_numberOfAll_39 rfl rfl ?_
        have b6 := b5 (by omega)
        first | refine x_lmulN dX8_numberOfAll_40 (by unfold i64; omega) ?_ | refine x_lmul dX8_numberOfAll_40 ?_
        refine x_aload_n dX8_numberOfAll_41 rfl rfl ?_
        refine x_iload_n dX8_numberOfAll_42 rfl rfl ?_
        refine x_iload dX8_numberOfAll_43 rfl ?_
        refine g_callI (vs := [_, _, _]) (d' := d - 1) rfl (s_X8_kindOf (by omega) hT (by first | exact hw | exact mciI (by omega) hw | exact mciI (by omega) (mciI (by omega) hw) | exact mciI (by omega) (mciI (by omega) (mciI (by omega) hw)) | exact mciI (by omega) (mciI (by omega) (mciI (by omega) (mciI (by omega) hw))) | exact mciC (by omega) hw) (by omega) (by omega)) dX8_numberOfAll_45 kX8_298 (by omega) (by decide) rfl (Nat.le_of_ble_eq_true rfl) (rcv_o (by first | assumption | exact hT.2.1) rfl) (fun x45 M45 h45 => ?_)
        obtain ⟨e45, f45⟩ := h45
        have f45' := f45.symm
        subst f45'
        subst e45
        try simp (disch := omega) only [rdI_e, rdI_n, rdC_i, rdC_o, rdW, rdR, rdU_e, rdU_n, rdLW, Int.add_zero]
        refine x_i2l dX8_numberOfAll_48 ?_
        first | refine x_laddN dX8_numberOfAll_49 (by unfold i64; omega) ?_ | refine x_ladd dX8_numberOfAll_49 ?_
        refine x_ldc2 (z := 8) dX8_numberOfAll_50 q1990 (by decide) ?_
        first | refine x_lmulN dX8_numberOfAll_53 (by unfold i64; omega) ?_ | refine x_lmul dX8_numberOfAll_53 ?_
        refine x_aload_n dX8_numberOfAll_54 rfl rfl ?_
        refine x_iload_n dX8_numberOfAll_55 rfl rfl ?_
        refine x_iload dX8_numberOfAll_56 rfl ?_
        refine g_callI (vs := [_, _, _]) (d' := d - 1) rfl (s_X8_numberOf (by omega) hT (by first | exact hw | exact mciI (by omega) hw | exact mciI (by omega) (mciI (by omega) hw) | exact mciI (by omega) (mciI (by omega) (mciI (by omega) hw)) | exact mciI (by omega) (mciI (by omega) (mciI (by omega) (mciI (by omega) hw))) | exact mciC (by omega) hw) (by omega) (by omega)) dX8_numberOfAll_58 kX8_301 (by omega) (by decide) rfl (Nat.le_of_ble_eq_true rfl) (rcv_o (by first | assumption | exact hT.2.1) rfl) (fun x58 M58 h58 => ?_)
        obtain ⟨e58, f58⟩ := h58
        have f58' := f58.symm
        subst f58'
        subst e58
        try simp (disch := omega) only [rdI_e, rdI_n, rdC_i, rdC_o, rdW, rdR, rdU_e, rdU_n, rdLW, Int.add_zero]
        refine x_i2l dX8_numberOfAll_61 ?_
        first | refine x_laddN dX8_numberOfAll_62 (by unfold i64; omega) ?_ | refine x_ladd dX8_numberOfAll_62 ?_
        refine x_lstore_n (L' := [some _, some _, some _, none, some _]) dX8_numberOfAll_63 rfl (by decide) rfl ?_
        first | refine x_iincN (L' := [some _, some _, some _, none, some _]) dX8_numberOfAll_64 rfl (by decide) (by unfold i32; omega) rfl ?_ | refine x_iinc (L' := [some _, some _, some _, none, some _]) dX8_numberOfAll_64 rfl (by decide) rfl ?_
        refine x_goto (tgt := 25) dX8_numberOfAll_67 (by decide) ?_
        have b6 := b5 (by omega)
        refine ih _ (by omega) (k + 1) _ rfl (by omega) (by omega) ?_ ?_
        · rw [show (k + 1).toNat = k.toNat + 1 by omega, hN]
          show _ = (11 * hashP (opK v p) (opX v p) (2 * opN v p + opG v p + 1) k.toNat + opK v p ((k.toNat : Nat) : Int)) * 8 + opX v p ((k.toNat : Nat) : Int)
          rw [show ((k.toNat : Nat) : Int) = k by omega]
        · unfold okHash
          omega
  refine x_ldc2 (z := 2) dX8_numberOfAll_0 q1984 (by decide) ?_
  refine x_aload_n dX8_numberOfAll_3 rfl rfl ?_
  refine x_iload_n dX8_numberOfAll_4 rfl rfl ?_
  refine x_iconst dX8_numberOfAll_5 rfl ?_
  refine g_callI (vs := [_, _, _]) (d' := d - 1) rfl (s_X8_of (by omega) hT (by first | exact hw | exact mciI (by omega) hw | exact mciI (by omega) (mciI (by omega) hw) | exact mciI (by omega) (mciI (by omega) (mciI (by omega) hw)) | exact mciI (by omega) (mciI (by omega) (mciI (by omega) (mciI (by omega) hw))) | exact mciC (by omega) hw) (by omega) (by omega)) dX8_numberOfAll_6 kX8_78 (by omega) (by decide) rfl (Nat.le_of_ble_eq_true rfl) (rcv_o (by first | assumption | exact hT.2.1) rfl) (fun x6 M6 h6 => ?_)
  obtain ⟨e6, f6⟩ := h6
  have f6' := f6.symm
  subst f6'
  subst e6
  try simp (disch := omega) only [rdI_e, rdI_n, rdC_i, rdC_o, rdW, rdR, rdU_e, rdU_n, rdLW, Int.add_zero]
  refine x_i2l dX8_numberOfAll_9 ?_
  first | refine x_lmulN dX8_numberOfAll_10 (by unfold i64; omega) ?_ | refine x_lmul dX8_numberOfAll_10 ?_
  refine x_aload_n dX8_numberOfAll_11 rfl rfl ?_
  refine x_iload_n dX8_numberOfAll_12 rfl rfl ?_
  refine x_iconst dX8_numberOfAll_13 rfl ?_
  refine g_callI (vs := [_, _, _]) (d' := d - 1) rfl (s_X8_of (by omega) hT (by first | exact hw | exact mciI (by omega) hw | exact mciI (by omega) (mciI (by omega) hw) | exact mciI (by omega) (mciI (by omega) (mciI (by omega) hw)) | exact mciI (by omega) (mciI (by omega) (mciI (by omega) (mciI (by omega) hw))) | exact mciC (by omega) hw) (by omega) (by omega)) dX8_numberOfAll_14 kX8_78 (by omega) (by decide) rfl (Nat.le_of_ble_eq_true rfl) (rcv_o (by first | assumption | exact hT.2.1) rfl) (fun x14 M14 h14 => ?_)
  obtain ⟨e14, f14⟩ := h14
  have f14' := f14.symm
  subst f14'
  subst e14
  try simp (disch := omega) only [rdI_e, rdI_n, rdC_i, rdC_o, rdW, rdR, rdU_e, rdU_n, rdLW, Int.add_zero]
  refine x_i2l dX8_numberOfAll_17 ?_
  first | refine x_laddN dX8_numberOfAll_18 (by unfold i64; omega) ?_ | refine x_ladd dX8_numberOfAll_18 ?_
  refine x_lconst (z := 1) dX8_numberOfAll_19 rfl ?_
  first | refine x_laddN dX8_numberOfAll_20 (by unfold i64; omega) ?_ | refine x_ladd dX8_numberOfAll_20 ?_
  refine x_lstore_n (L' := [some _, some _, some _, none, none]) dX8_numberOfAll_21 rfl (by decide) rfl ?_
  refine x_iconst dX8_numberOfAll_22 rfl ?_
  refine x_istore (L' := [some _, some _, some _, none, some _]) dX8_numberOfAll_23 (by decide) rfl ?_
  refine loop _ 0 _ rfl (by omega) (by omega) ?_ ?_
  · rw [hn, hg]; rfl
  · unfold okHash
    omega
end X8

