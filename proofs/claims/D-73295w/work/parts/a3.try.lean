/-! GuestView: operations tried in all states -/
/-- the two machines for trials -/
def GmS (sh : Sh) (cr : Cr) : Prop := sh 0 = some (1, 0) ∧ cr 0 5 = some 189 ∧ cr 0 6 = some 191 ∧ MacS sh cr 189 ∧ MacS sh cr 191
def Sk2 (f : Ci) : Prop := b01 (f 189 6) ∧ b01 (f 191 6)
theorem okM.sk {m : Ms} (h : okM m) : m.2.2.2.2.1 = 0 ∨ m.2.2.2.2.1 = 1 := h.2.2.2.2.1
theorem opD_tab {v : Vw} {k st md bs cl sk t : Int} : opD v k (tabM st md bs cl sk t) = opD v k (tabM st md bs cl 0 t) := rfl
theorem RelO.fo {f g : Ci} {o k lo hi : Int} {v : Vw} (h : RelO f o v k) (hg : Fo lo hi f g) (ho : o + 3 < lo ∨ hi < o) : RelO g o v k := by
  obtain ⟨h1, h2, h3, h4⟩ := h
  exact ⟨(hg _ _ (by omega)).trans h1, (hg _ _ (by omega)).trans h2, (hg _ _ (by omega)).trans h3, fun i a b => ⟨(hg _ _ (by omega)).trans (h4 i a b).1, (hg _ _ (by omega)).trans (h4 i a b).2⟩⟩
theorem TabS.fo {sh : Sh} {f g : Ci} {lo hi : Int} (h : TabS sh f) (hg : Fo lo hi f g) (ho : 0 ≤ lo) : TabS sh g := ⟨h.1, fun p k a b c e => (hg _ _ (by omega)).trans (h.2 p k a b c e)⟩
theorem trp_e {v : Vw} {k gq md : Int} (hop : okOp v k) (h : gq = opG v k) : (gq ≠ 0 ∧ md = 0) ↔ trapsV v k md := by
  have := hop.2.1
  unfold trapsV
  constructor <;> intro q <;> exact ⟨by omega, q.2⟩
theorem isSo_0 {v : Vw} {k st : Int} : isSo v k 0 st ↔ isCtl v k st := ⟨fun h => by rcases h with h | h | h | h <;> first | exact h.2 | exact absurd h.1 (by decide), fun h => Or.inl ⟨rfl, h⟩⟩
theorem isSo_1 {v : Vw} {k st : Int} : isSo v k 1 st ↔ isMdl v k st := ⟨fun h => by rcases h with h | h | h | h <;> first | exact h.2 | exact absurd h.1 (by decide), fun h => Or.inr (Or.inl ⟨rfl, h⟩)⟩
theorem isSo_2 {v : Vw} {k st : Int} : isSo v k 2 st ↔ isLoc v k st := ⟨fun h => by rcases h with h | h | h | h <;> first | exact h.2 | exact absurd h.1 (by decide), fun h => Or.inr (Or.inr (Or.inl ⟨rfl, h⟩))⟩
theorem isSo_3 {v : Vw} {k st : Int} : isSo v k 3 st ↔ isTim v k st := ⟨fun h => by rcases h with h | h | h | h <;> first | exact h.2 | exact absurd h.1 (by decide), fun h => Or.inr (Or.inr (Or.inr ⟨rfl, h⟩))⟩
section X1
variable {G : GW} {d : Nat} {M : Mem} {o k st w : Int} {v : Vw}
/-- what a trial finds -/
def TrH (M : Mem) (o : Int) (v : Vw) (k : Int) : Prop := GmS (msh M) (mcr M) ∧ TabS (msh M) (mci M) ∧ Sk2 (mci M) ∧ (OpS (msh M) (mcr M) o ∧ o + 3 < 189) ∧ RelO (mci M) o v k ∧ okOp v k
/-- what it leaves -/
def TrG (M : Mem) (g : Ci) : Prop := Sk2 g ∧ Fo 189 192 (mci M) g
theorem TrH.g {g : Ci} (h : TrH M o v k) (hg : TrG M g) : TrH (wI M g) o v k := by
  obtain ⟨h1, h2, h3, h4, h5, h6⟩ := h
  exact ⟨h1, h2.fo hg.2 (by omega), hg.1, h4, h5.fo hg.2 (by omega), h6⟩
theorem TrG.trans {g g' : Ci} (h : TrG M g) (h' : TrG (wI M g) g') : TrG M g' := ⟨h'.1, h.2.trans h'.2⟩
/-- one of the machines is in a state -/
theorem try_in {a : Int} (hd : 10 ≤ d) (h : TrH M o v k) (ha : a = 189 ∨ a = 191) (hst : 0 ≤ st ∧ st < 512) : CS G d mX5_isIn [dR a, dI st] M (postN fun M1 => ∃ g, M1 = wI M g ∧ TrG M g ∧ g a 5 = 0 ∧ mvw g a 0 = tabM st (st / 4 % 2) (st / 8 % 4 * 2) 0 (mci M a 6) 0 ∧ Fo a (a + 1) (mci M) g) := by
  obtain ⟨⟨x1, x2, x3, x4, x5⟩, ht, hs, ho, hRO, hop⟩ := h
  rcases ha with e | e
  · subst e
    refine (s_X5_isIn hd x4 ht hst.1 hst.2).mono fun r M1 q => ?_
    obtain ⟨e1, g, e2, a1, a2, a3⟩ := q
    obtain ⟨b1, b2, b3, b4, b5, b6⟩ := mvw_1 a1
    exact ⟨e1, g, e2, ⟨⟨by rw [b5]; exact hs.1, by rw [a3 _ _ (by omega)]; exact hs.2⟩, a3.mono (by omega) (by omega)⟩, a2, a1, a3⟩
  · subst e
    refine (s_X5_isIn hd x5 ht hst.1 hst.2).mono fun r M1 q => ?_
    obtain ⟨e1, g, e2, a1, a2, a3⟩ := q
    obtain ⟨b1, b2, b3, b4, b5, b6⟩ := mvw_1 a1
    exact ⟨e1, g, e2, ⟨⟨by rw [a3 _ _ (by omega)]; exact hs.1, by rw [b5]; exact hs.2⟩, a3.mono (by omega) (by omega)⟩, a2, a1, a3⟩
/-- it is done on one of the machines -/
theorem try_do {a : Int} {m : Ms} (hd : 12 ≤ d) (h : TrH M o v k) (ha : a = 189 ∨ a = 191) (h5 : mci M a 5 = 0) (hm : mvw (mci M) a 0 = m) (hok : okM m) : CS G d mX5_does [dR a, dR o] M (postN fun M1 => ∃ g, M1 = wI M g ∧ TrG M g ∧ g a 5 = 0 ∧ mvw g a 0 = opD v k m ∧ Fo a (a + 1) (mci M) g) := by
  obtain ⟨⟨x1, x2, x3, x4, x5⟩, ht, hs, ho, hRO, hop⟩ := h
  have hok1 : okM (mvw (mci M) a 0) := by rw [hm]; exact hok
  have hok2 : okM (opD v k m) := opD_ok hop hok
  rcases ha with e | e
  · subst e
    refine (s_X5_does (s := 0) hd x4 ho.1 (by omega) h5.symm (by omega) hok1 (hRO.ok hop)).mono fun r M1 q => ?_
    obtain ⟨e1, g, e2, a1, a2, a3⟩ := q
    have a1' : mvw g 189 0 = opD v k m := by rw [a1, hRO.d, hm]
    obtain ⟨b1, b2, b3, b4, b5, b6⟩ := mvw_1 a1'
    exact ⟨e1, g, e2, ⟨⟨by rw [b5]; exact hok2.sk, by rw [a3 _ _ (by omega)]; exact hs.2⟩, a3.mono (by omega) (by omega)⟩, a2, a1', a3⟩
  · subst e
    refine (s_X5_does (s := 0) hd x5 ho.1 (by omega) h5.symm (by omega) hok1 (hRO.ok hop)).mono fun r M1 q => ?_
    obtain ⟨e1, g, e2, a1, a2, a3⟩ := q
    have a1' : mvw g 191 0 = opD v k m := by rw [a1, hRO.d, hm]
    obtain ⟨b1, b2, b3, b4, b5, b6⟩ := mvw_1 a1'
    exact ⟨e1, g, e2, ⟨⟨by rw [a3 _ _ (by omega)]; exact hs.1, by rw [b5]; exact hok2.sk⟩, a3.mono (by omega) (by omega)⟩, a2, a1', a3⟩
/-- whether it traps there -/
theorem try_tr {a md : Int} (hd : 10 ≤ d) (h : TrH M o v k) (ha : a = 189 ∨ a = 191) (hm : mci M a 2 = md) : CS G d mX5_isTrapped [dR a, dR o] M (pur M (vP (trapsV v k md))) := by
  obtain ⟨⟨x1, x2, x3, x4, x5⟩, ht, hs, ho, hRO, hop⟩ := h
  have e : vP (mci M o 4 ≠ 0 ∧ mci M a 2 = 0) = vP (trapsV v k md) := vP_c (by rw [hm]; exact trp_e hop hRO.2.1)
  rcases ha with q | q
  · subst q
    exact (s_X5_isTrapped hd x4 ho.1).mono fun r M1 q => by obtain ⟨x, e1, e2, e3⟩ := q; exact ⟨x, e1, e2.trans e, e3⟩
  · subst q
    exact (s_X5_isTrapped hd x5 ho.1).mono fun r M1 q => by obtain ⟨x, e1, e2, e3⟩ := q; exact ⟨x, e1, e2.trans e, e3⟩
theorem s_X1_isControl (hd : 14 ≤ d) (h : TrH M o v k) (hst : 0 ≤ st ∧ st < 512) : CS G d mX1_isControl [dR 0, dR o, dI st] M (postI fun y M1 => y = vP (isCtl v k st) ∧ ∃ g, M1 = wI M g ∧ TrG M g) := by
  obtain ⟨⟨x1, x2, x3, x4, x5⟩, ht, hs, ho, hRO, hop⟩ := id h
  have hm1 : msh M 189 = some (5, 0) := x4.2.1
  have hb : 0 ≤ st / 8 % 4 * 2 ∧ st / 8 % 4 * 2 < 8 := by omega
  have hmd : st / 4 % 2 = 0 ∨ st / 4 % 2 = 1 := by omega
  refine CS.mkQ (by decide) (Nat.le_of_ble_eq_true rfl) fun Q hQ => ?_
  refine x_aload_n dX1_isControl_0 rfl rfl ?_
  refine g_getR (kI := 5) rfl dX1_isControl_1 fX1_35_1 (by assumption) (by assumption) ?_
  refine x_iload_n dX1_isControl_4 rfl rfl ?_
  refine g_callN (vs := [_, _]) (d' := d - 1) rfl (try_in (by omega) h (Or.inl rfl) hst) dX1_isControl_5 kX1_183 (by omega) (by decide) rfl (Nat.le_of_ble_eq_true rfl) (rcv_o (by assumption) rfl) (fun M5 h5 => ?_)
  obtain ⟨g5, hM5, t5, z5, a5, f5⟩ := h5
  subst hM5
  have h1 := h.g t5
  obtain ⟨b1, b2, b3, b4, b5, b6⟩ := mvw_1 a5
  have b2' : mci (wI M g5) 189 2 = st / 4 % 2 := b2
  have b3' : mci (wI M g5) 189 3 = st / 8 % 4 * 2 := b3
  refine x_aload_n dX1_isControl_8 rfl rfl ?_
  refine g_getR (kI := 5) rfl dX1_isControl_9 fX1_35_1 (by assumption) (by assumption) ?_
  refine g_getI (kI := 2) rfl dX1_isControl_12 fX1_185_5 (by assumption) ?_
  rw [b2']
  refine x_istore_n (L' := [some _, some _, some _, some _, none]) dX1_isControl_15 rfl (by decide) rfl ?_
  refine x_aload_n dX1_isControl_16 rfl rfl ?_
  refine g_getR (kI := 5) rfl dX1_isControl_17 fX1_35_1 (by assumption) (by assumption) ?_
  refine g_getI (kI := 3) rfl dX1_isControl_20 fX1_188_5 (by assumption) ?_
  rw [b3']
  refine x_istore (L' := [some _, some _, some _, some _, some _]) dX1_isControl_23 (by decide) rfl ?_
  refine x_aload_n dX1_isControl_25 rfl rfl ?_
  refine g_getR (kI := 5) rfl dX1_isControl_26 fX1_35_1 (by assumption) (by assumption) ?_
  refine x_aload_n dX1_isControl_29 rfl rfl ?_
  refine g_callI (vs := [_, _]) (d' := d - 1) rfl (try_tr (by omega) h1 (Or.inl rfl) b2') dX1_isControl_30 kX1_191 (by omega) (by decide) rfl (Nat.le_of_ble_eq_true rfl) (rcv_o (by assumption) rfl) (fun x30 M30 h30 => ?_)
  obtain ⟨e30, f30⟩ := h30
  have f30' := f30.symm
  subst f30'
  subst e30
  refine x_if_eq (tgt := 38) dX1_isControl_33 (by decide) (fun h33 => ?_) (fun h33 => ?_)
  · try simp only [vP_0, vP_1, vP_n0, vP_n1, Classical.not_not] at h33
    refine x_aload_n dX1_isControl_38 rfl rfl ?_
    refine g_getR (kI := 5) rfl dX1_isControl_39 fX1_35_1 (by assumption) (by assumption) ?_
    refine x_aload_n dX1_isControl_42 rfl rfl ?_
    refine g_callN (vs := [_, _]) (d' := d - 1) rfl (try_do (M := wI M g5) (by omega) h1 (Or.inl rfl) z5 a5 (tabM_ok hmd hb (by omega) hs.1)) dX1_isControl_43 kX1_195 (by omega) (by decide) rfl (Nat.le_of_ble_eq_true rfl) (rcv_o (by assumption) rfl) (fun M43 h43 => ?_)
    obtain ⟨g43, hM43, t43, z43, a43, f43⟩ := h43
    subst hM43
    rw [opD_tab] at a43
    obtain ⟨m1, m2, m3, m4, m5, m6⟩ := mvw_1 a43
    have m2' : mci (wI (wI M g5) g43) 189 2 = (opD v k (stM st)).2.1 := m2
    have m3' : mci (wI (wI M g5) g43) 189 3 = (opD v k (stM st)).2.2.1 := m3
    refine x_aload_n dX1_isControl_46 rfl rfl ?_
    refine g_getR (kI := 5) rfl dX1_isControl_47 fX1_35_1 (by assumption) (by assumption) ?_
    refine g_getI (kI := 2) rfl dX1_isControl_50 fX1_185_5 (by assumption) ?_
    rw [m2']
    refine x_iload_n dX1_isControl_53 rfl rfl ?_
    refine x_icmp_ne (tgt := 69) dX1_isControl_54 (by decide) (fun h54 => ?_) (fun h54 => ?_)
    · refine x_iconst dX1_isControl_69 rfl ?_
      refine x_goto (tgt := 74) dX1_isControl_70 (by decide) ?_
      refine x_zreturn (by first | exact Or.inl rfl | exact Or.inr rfl | exact vB_r _ | exact vP_r _ | assumption | omega) rfl dX1_isControl_74 ?_
      refine hQ _ _ ⟨_, rfl, ?_, _, rfl, t5.trans t43⟩
      first
      | exact (vP_t (p := isCtl v k st) ⟨h33, Or.inl h54⟩).symm
      | exact (vP_t (p := isCtl v k st) ⟨h33, Or.inr h66⟩).symm
      | exact (vP_f (p := isCtl v k st) (fun q => q.2.elim (fun w => w h54) (fun w => w h66))).symm
    · refine x_aload_n dX1_isControl_57 rfl rfl ?_
      refine g_getR (kI := 5) rfl dX1_isControl_58 fX1_35_1 (by assumption) (by assumption) ?_
      refine g_getI (kI := 3) rfl dX1_isControl_61 fX1_188_5 (by assumption) ?_
      rw [m3']
      refine x_iload dX1_isControl_64 rfl ?_
      refine x_icmp_eq (tgt := 73) dX1_isControl_66 (by decide) (fun h66 => ?_) (fun h66 => ?_)
      · refine x_iconst dX1_isControl_73 rfl ?_
        refine x_zreturn (by first | exact Or.inl rfl | exact Or.inr rfl | exact vB_r _ | exact vP_r _ | assumption | omega) rfl dX1_isControl_74 ?_
        refine hQ _ _ ⟨_, rfl, ?_, _, rfl, t5.trans t43⟩
        first
        | exact (vP_t (p := isCtl v k st) ⟨h33, Or.inl h54⟩).symm
        | exact (vP_t (p := isCtl v k st) ⟨h33, Or.inr h66⟩).symm
        | exact (vP_f (p := isCtl v k st) (fun q => q.2.elim (fun w => w h54) (fun w => w h66))).symm
      · refine x_iconst dX1_isControl_69 rfl ?_
        refine x_goto (tgt := 74) dX1_isControl_70 (by decide) ?_
        refine x_zreturn (by first | exact Or.inl rfl | exact Or.inr rfl | exact vB_r _ | exact vP_r _ | assumption | omega) rfl dX1_isControl_74 ?_
        refine hQ _ _ ⟨_, rfl, ?_, _, rfl, t5.trans t43⟩
        first
        | exact (vP_t (p := isCtl v k st) ⟨h33, Or.inl h54⟩).symm
        | exact (vP_t (p := isCtl v k st) ⟨h33, Or.inr h66⟩).symm
        | exact (vP_f (p := isCtl v k st) (fun q => q.2.elim (fun w => w h54) (fun w => w h66))).symm
  · try simp only [vP_0, vP_1, vP_n0, vP_n1, Classical.not_not] at h33
    refine x_iconst dX1_isControl_36 rfl ?_
    refine x_zreturn (by first | exact Or.inl rfl | exact Or.inr rfl | exact vB_r _ | exact vP_r _ | assumption | omega) rfl dX1_isControl_37 ?_
    exact hQ _ _ ⟨_, rfl, (vP_f (fun q => q.1 h33)).symm, _, rfl, t5⟩
theorem s_X1_isModal (hd : 14 ≤ d) (h : TrH M o v k) (hst : 0 ≤ st ∧ st < 512) : CS G d mX1_isModal [dR 0, dR o, dI st] M (postI fun y M1 => y = vP (isMdl v k st) ∧ ∃ g, M1 = wI M g ∧ TrG M g) := by
  obtain ⟨⟨x1, x2, x3, x4, x5⟩, ht, hs, ho, hRO, hop⟩ := id h
  have hm1 : msh M 189 = some (5, 0) := x4.2.1
  have hm2 : msh M o = some (6, 0) := ho.1.2.1
  have hm3 : msh M 191 = some (5, 0) := x5.2.1
  have hb : 0 ≤ st / 8 % 4 * 2 ∧ st / 8 % 4 * 2 < 8 := by omega
  have hmd : st / 4 % 2 = 0 ∨ st / 4 % 2 = 1 := by omega
  have hgu := hop.2.1
  refine CS.mkQ (by decide) (Nat.le_of_ble_eq_true rfl) fun Q hQ => ?_
  refine x_aload_n dX1_isModal_0 rfl rfl ?_
  refine g_getR (kI := 5) rfl dX1_isModal_1 fX1_35_1 (by assumption) (by assumption) ?_
  refine x_iload_n dX1_isModal_4 rfl rfl ?_
  refine g_callN (vs := [_, _]) (d' := d - 1) rfl (try_in (by omega) h (Or.inl rfl) hst) dX1_isModal_5 kX1_183 (by omega) (by decide) rfl (Nat.le_of_ble_eq_true rfl) (rcv_o (by assumption) rfl) (fun M5 h5 => ?_)
  obtain ⟨g5, hM5, t5, z5, a5, f5⟩ := h5
  subst hM5
  have h1 := h.g t5
  obtain ⟨b1, b2, b3, b4, b5, b6⟩ := mvw_1 a5
  have b2' : mci (wI M g5) 189 2 = st / 4 % 2 := b2
  have b4' : mci (wI M g5) o 4 = opG v k := h1.2.2.2.2.1.2.1
  refine x_aload_n dX1_isModal_8 rfl rfl ?_
  refine g_getR (kI := 5) rfl dX1_isModal_9 fX1_35_1 (by assumption) (by assumption) ?_
  refine g_getI (kI := 2) rfl dX1_isModal_12 fX1_185_5 (by assumption) ?_
  rw [b2']
  refine x_iconst dX1_isModal_15 rfl ?_
  refine x_icmp_eq (tgt := 26) dX1_isModal_16 (by decide) (fun h16 => ?_) (fun h16 => ?_)
  · refine x_iconst dX1_isModal_26 rfl ?_
    refine x_zreturn (by first | exact Or.inl rfl | exact Or.inr rfl | exact vB_r _ | exact vP_r _ | assumption | omega) rfl dX1_isModal_27 ?_
    first
    | exact hQ _ _ ⟨_, rfl, (vP_f (fun q => q.1 (by omega))).symm, _, rfl, t5⟩
    | exact hQ _ _ ⟨_, rfl, (vP_f (fun q => q.2.1 (by omega))).symm, _, rfl, t5⟩
    | exact hQ _ _ ⟨_, rfl, e63.trans (vP_c ⟨fun q => ⟨by omega, by omega, q⟩, fun q => q.2.2⟩), _, rfl, ((t5.trans t35).trans t43).trans t51⟩
  · refine x_aload_n dX1_isModal_19 rfl rfl ?_
    refine g_getZ (kI := 4) rfl dX1_isModal_20 fX1_199_6 (by assumption) ?_
    rw [b4']
    refine x_if_eq (tgt := 28) dX1_isModal_23 (by decide) (fun h23 => ?_) (fun h23 => ?_)
    · refine x_aload_n dX1_isModal_28 rfl rfl ?_
      refine g_getR (kI := 6) rfl dX1_isModal_29 fX1_39_1 (by assumption) (by assumption) ?_
      refine x_iload_n dX1_isModal_32 rfl rfl ?_
      refine x_iconst dX1_isModal_33 rfl ?_
      first | refine x_iaddN dX1_isModal_34 (by unfold i32; omega) ?_ | refine x_iadd dX1_isModal_34 ?_
      refine g_callN (vs := [_, _]) (d' := d - 1) rfl (try_in (by omega) h1 (Or.inr rfl) (by omega)) dX1_isModal_35 kX1_183 (by omega) (by decide) rfl (Nat.le_of_ble_eq_true rfl) (rcv_o (by assumption) rfl) (fun M35 h35 => ?_)
      obtain ⟨g35, hM35, t35, z35, a35, f35⟩ := h35
      subst hM35
      have h2 := h1.g t35
      have a5' : mvw g35 189 0 = tabM st (st / 4 % 2) (st / 8 % 4 * 2) 0 (mci M 189 6) 0 := (mvw_fo f35 (by omega)).trans a5
      have z5' : g35 189 5 = 0 := (f35 _ _ (by omega)).trans z5
      have a35' : mvw g35 191 0 = tabM st 1 (st / 8 % 4 * 2) 0 (mci (wI M g5) 191 6) 0 := by
        rw [a35]
        unfold tabM
        rw [show (st + 4) % 4 = st % 4 by omega, show (st + 4) / 4 % 2 = 1 by omega, show (st + 4) / 8 % 4 = st / 8 % 4 by omega, show (st + 4) / 32 % 16 = st / 32 % 16 by omega]
      refine x_aload_n dX1_isModal_38 rfl rfl ?_
      refine g_getR (kI := 5) rfl dX1_isModal_39 fX1_35_1 (by assumption) (by assumption) ?_
      refine x_aload_n dX1_isModal_42 rfl rfl ?_
      refine g_callN (vs := [_, _]) (d' := d - 1) rfl (try_do (M := wI (wI M g5) g35) (by omega) h2 (Or.inl rfl) z5' a5' (tabM_ok hmd hb (by omega) hs.1)) dX1_isModal_43 kX1_195 (by omega) (by decide) rfl (Nat.le_of_ble_eq_true rfl) (rcv_o (by assumption) rfl) (fun M43 h43 => ?_)
      obtain ⟨g43, hM43, t43, z43, a43, f43⟩ := h43
      subst hM43
      have h3 := h2.g t43
      have a35'' : mvw g43 191 0 = tabM st 1 (st / 8 % 4 * 2) 0 (mci (wI M g5) 191 6) 0 := (mvw_fo f43 (by omega)).trans a35'
      have z35' : g43 191 5 = 0 := (f43 _ _ (by omega)).trans z35
      refine x_aload_n dX1_isModal_46 rfl rfl ?_
      refine g_getR (kI := 6) rfl dX1_isModal_47 fX1_39_1 (by assumption) (by assumption) ?_
      refine x_aload_n dX1_isModal_50 rfl rfl ?_
      refine g_callN (vs := [_, _]) (d' := d - 1) rfl (try_do (M := wI (wI (wI M g5) g35) g43) (by omega) h3 (Or.inr rfl) z35' a35'' (tabM_ok (Or.inr rfl) hb (by omega) t5.1.2)) dX1_isModal_51 kX1_195 (by omega) (by decide) rfl (Nat.le_of_ble_eq_true rfl) (rcv_o (by assumption) rfl) (fun M51 h51 => ?_)
      obtain ⟨g51, hM51, t51, z51, a51, f51⟩ := h51
      subst hM51
      have a43' : mvw g51 189 0 = opD v k (stM st) := (mvw_fo f51 (by omega)).trans a43
      rw [opD_tab] at a51
      refine x_aload_n dX1_isModal_54 rfl rfl ?_
      refine g_getR (kI := 5) rfl dX1_isModal_55 fX1_35_1 (by assumption) (by assumption) ?_
      refine x_aload_n dX1_isModal_58 rfl rfl ?_
      refine g_getR (kI := 6) rfl dX1_isModal_59 fX1_39_1 (by assumption) (by assumption) ?_
      refine x_iconst dX1_isModal_62 rfl ?_
      refine g_callI (vs := [_, _, _]) (d' := d - 1) rfl (s_X5_isUnlike (M := wI (wI (wI (wI M g5) g35) g43) g51) (by omega) x4 x5 (by omega)) dX1_isModal_63 kX1_205 (by omega) (by decide) rfl (Nat.le_of_ble_eq_true rfl) (rcv_o (by assumption) rfl) (fun x63 M63 h63 => ?_)
      obtain ⟨e63, eM63⟩ := h63
      rw [mci_wI, a43', a51] at e63
      have eM63' := eM63.symm
      subst eM63'
      refine x_zreturn (by rw [e63]; exact vP_r _) rfl dX1_isModal_66 ?_
      first
      | exact hQ _ _ ⟨_, rfl, (vP_f (fun q => q.1 (by omega))).symm, _, rfl, t5⟩
      | exact hQ _ _ ⟨_, rfl, (vP_f (fun q => q.2.1 (by omega))).symm, _, rfl, t5⟩
      | exact hQ _ _ ⟨_, rfl, e63.trans (vP_c ⟨fun q => ⟨by omega, by omega, q⟩, fun q => q.2.2⟩), _, rfl, ((t5.trans t35).trans t43).trans t51⟩
    · refine x_iconst dX1_isModal_26 rfl ?_
      refine x_zreturn (by first | exact Or.inl rfl | exact Or.inr rfl | exact vB_r _ | exact vP_r _ | assumption | omega) rfl dX1_isModal_27 ?_
      first
      | exact hQ _ _ ⟨_, rfl, (vP_f (fun q => q.1 (by omega))).symm, _, rfl, t5⟩
      | exact hQ _ _ ⟨_, rfl, (vP_f (fun q => q.2.1 (by omega))).symm, _, rfl, t5⟩
      | exact hQ _ _ ⟨_, rfl, e63.trans (vP_c ⟨fun q => ⟨by omega, by omega, q⟩, fun q => q.2.2⟩), _, rfl, ((t5.trans t35).trans t43).trans t51⟩
theorem s_X1_isLocal (hd : 14 ≤ d) (h : TrH M o v k) (hst : 0 ≤ st ∧ st < 512) : CS G d mX1_isLocal [dR 0, dR o, dI st] M (postI fun y M1 => y = vP (isLoc v k st) ∧ ∃ g, M1 = wI M g ∧ TrG M g) := by
  obtain ⟨⟨x1, x2, x3, x4, x5⟩, ht, hs, ho, hRO, hop⟩ := id h
  have hm1 : msh M 189 = some (5, 0) := x4.2.1
  have hm3 : msh M 191 = some (5, 0) := x5.2.1
  have hb : 0 ≤ st / 8 % 4 * 2 ∧ st / 8 % 4 * 2 < 8 := by omega
  have hmd : st / 4 % 2 = 0 ∨ st / 4 % 2 = 1 := by omega
  refine CS.mkQ (by decide) (Nat.le_of_ble_eq_true rfl) fun Q hQ => ?_
  refine x_aload_n dX1_isLocal_0 rfl rfl ?_
  refine g_getR (kI := 5) rfl dX1_isLocal_1 fX1_35_1 (by assumption) (by assumption) ?_
  refine x_iload_n dX1_isLocal_4 rfl rfl ?_
  refine g_callN (vs := [_, _]) (d' := d - 1) rfl (try_in (by omega) h (Or.inl rfl) hst) dX1_isLocal_5 kX1_183 (by omega) (by decide) rfl (Nat.le_of_ble_eq_true rfl) (rcv_o (by assumption) rfl) (fun M5 h5 => ?_)
  obtain ⟨g5, hM5, t5, z5, a5, f5⟩ := h5
  subst hM5
  have h1 := h.g t5
  obtain ⟨b1, b2, b3, b4, b5, b6⟩ := mvw_1 a5
  have b2' : mci (wI M g5) 189 2 = st / 4 % 2 := b2
  have b3' : mci (wI M g5) 189 3 = st / 8 % 4 * 2 := b3
  refine x_aload_n dX1_isLocal_8 rfl rfl ?_
  refine g_getR (kI := 5) rfl dX1_isLocal_9 fX1_35_1 (by assumption) (by assumption) ?_
  refine x_aload_n dX1_isLocal_12 rfl rfl ?_
  refine g_callI (vs := [_, _]) (d' := d - 1) rfl (try_tr (by omega) h1 (Or.inl rfl) b2') dX1_isLocal_13 kX1_191 (by omega) (by decide) rfl (Nat.le_of_ble_eq_true rfl) (rcv_o (by assumption) rfl) (fun x13 M13 h13 => ?_)
  obtain ⟨e13, f13⟩ := h13
  have f13' := f13.symm
  subst f13'
  subst e13
  refine x_if_eq (tgt := 21) dX1_isLocal_16 (by decide) (fun h16 => ?_) (fun h16 => ?_)
  · try simp only [vP_0, vP_1, vP_n0, vP_n1, Classical.not_not] at h16
    refine x_aload_n dX1_isLocal_21 rfl rfl ?_
    refine g_getR (kI := 5) rfl dX1_isLocal_22 fX1_35_1 (by assumption) (by assumption) ?_
    refine g_getI (kI := 3) rfl dX1_isLocal_25 fX1_188_5 (by assumption) ?_
    rw [b3']
    refine x_istore_n (L' := [some _, some _, some _, some _]) dX1_isLocal_28 rfl (by decide) rfl ?_
    refine x_aload_n dX1_isLocal_29 rfl rfl ?_
    refine g_getR (kI := 6) rfl dX1_isLocal_30 fX1_39_1 (by assumption) (by assumption) ?_
    refine x_aload_n dX1_isLocal_33 rfl rfl ?_
    refine g_getR (kI := 5) rfl dX1_isLocal_34 fX1_35_1 (by assumption) (by assumption) ?_
    refine g_callN (vs := [_, _]) (d' := d - 1) rfl (s_X5_isTurned (M := wI M g5) (by omega) x5 x4 (by omega) (by rw [b3']; exact hb)) dX1_isLocal_37 kX1_209 (by omega) (by decide) rfl (Nat.le_of_ble_eq_true rfl) (rcv_o (by assumption) rfl) (fun M37 h37 => ?_)
    obtain ⟨g37, hM37, a37, z37, f37⟩ := h37
    subst hM37
    have hsk : Sk2 g37 := by
      obtain ⟨m1, m2, m3, m4, m5, m6⟩ := mvw_1 a37
      exact ⟨by rw [f37 _ _ (by omega)]; exact t5.1.1, by rw [m5]; exact t5.1.2⟩
    have t37 : TrG (wI M g5) g37 := ⟨hsk, f37.mono (by omega) (by omega)⟩
    have h2 := h1.g t37
    have a5' : mvw g37 189 0 = tabM st (st / 4 % 2) (st / 8 % 4 * 2) 0 (mci M 189 6) 0 := (mvw_fo f37 (by omega)).trans a5
    have z5' : g37 189 5 = 0 := (f37 _ _ (by omega)).trans z5
    have a37' : mvw g37 191 0 = tabM st (st / 4 % 2) 0 0 (mci (wI M g5) 191 6) (st / 8 % 4 * 2) := by
      rw [a37]
      have e6 : (fun j => mci (wI M g5) (189 + 1) ((j + mci (wI M g5) 189 3) % 8)) = fun j => (st / 32 % 16 % 4 * ((j + st / 8 % 4 * 2) % 8) + st / 32 % 16 / 4) % 4 := funext fun j => by
        rw [b3']
        have q := b6 (j + st / 8 % 4 * 2)
        rw [show j + st / 8 % 4 * 2 + 0 = j + st / 8 % 4 * 2 by omega] at q
        refine Eq.trans q ?_
        show (st / 32 % 16 % 4 * ((j + st / 8 % 4 * 2 + 0) % 8) + st / 32 % 16 / 4) % 4 = _
        rw [show j + st / 8 % 4 * 2 + 0 = j + st / 8 % 4 * 2 by omega]
      rw [e6, b2', show mci (wI M g5) 189 1 = st % 4 from b1, show mci (wI M g5) 189 4 = 0 from b4]
      rfl
    refine x_aload_n dX1_isLocal_40 rfl rfl ?_
    refine g_getR (kI := 5) rfl dX1_isLocal_41 fX1_35_1 (by assumption) (by assumption) ?_
    refine x_aload_n dX1_isLocal_44 rfl rfl ?_
    refine g_callN (vs := [_, _]) (d' := d - 1) rfl (try_do (M := wI (wI M g5) g37) (by omega) h2 (Or.inl rfl) z5' a5' (tabM_ok hmd hb (by omega) hs.1)) dX1_isLocal_45 kX1_195 (by omega) (by decide) rfl (Nat.le_of_ble_eq_true rfl) (rcv_o (by assumption) rfl) (fun M45 h45 => ?_)
    obtain ⟨g45, hM45, t45, z45, a45, f45⟩ := h45
    subst hM45
    have h3 := h2.g t45
    have a37'' : mvw g45 191 0 = tabM st (st / 4 % 2) 0 0 (mci (wI M g5) 191 6) (st / 8 % 4 * 2) := (mvw_fo f45 (by omega)).trans a37'
    have z37' : g45 191 5 = 0 := (f45 _ _ (by omega)).trans z37
    refine x_aload_n dX1_isLocal_48 rfl rfl ?_
    refine g_getR (kI := 6) rfl dX1_isLocal_49 fX1_39_1 (by assumption) (by assumption) ?_
    refine x_aload_n dX1_isLocal_52 rfl rfl ?_
    refine g_callN (vs := [_, _]) (d' := d - 1) rfl (try_do (M := wI (wI (wI M g5) g37) g45) (by omega) h3 (Or.inr rfl) z37' a37'' (tabM_ok hmd (by omega) (by omega) t5.1.2)) dX1_isLocal_53 kX1_195 (by omega) (by decide) rfl (Nat.le_of_ble_eq_true rfl) (rcv_o (by assumption) rfl) (fun M53 h53 => ?_)
    obtain ⟨g53, hM53, t53, z53, a53, f53⟩ := h53
    subst hM53
    have a45' : mvw g53 189 0 = opD v k (stM st) := (mvw_fo f53 (by omega)).trans a45
    rw [opD_tab] at a53
    refine x_aload_n dX1_isLocal_56 rfl rfl ?_
    refine g_getR (kI := 5) rfl dX1_isLocal_57 fX1_35_1 (by assumption) (by assumption) ?_
    refine x_aload_n dX1_isLocal_60 rfl rfl ?_
    refine g_getR (kI := 6) rfl dX1_isLocal_61 fX1_39_1 (by assumption) (by assumption) ?_
    refine x_iload_n dX1_isLocal_64 rfl rfl ?_
    refine g_callI (vs := [_, _, _]) (d' := d - 1) rfl (s_X5_isUnlike (M := wI (wI (wI (wI M g5) g37) g45) g53) (by omega) x4 x5 hb) dX1_isLocal_65 kX1_205 (by omega) (by decide) rfl (Nat.le_of_ble_eq_true rfl) (rcv_o (by assumption) rfl) (fun x65 M65 h65 => ?_)
    obtain ⟨e65, eM65⟩ := h65
    rw [mci_wI, a45', a53] at e65
    have eM65' := eM65.symm
    subst eM65'
    refine x_zreturn (by rw [e65]; exact vP_r _) rfl dX1_isLocal_68 ?_
    first
    | exact hQ _ _ ⟨_, rfl, (vP_f (fun q => q.1 h16)).symm, _, rfl, t5⟩
    | exact hQ _ _ ⟨_, rfl, e65.trans (vP_c ⟨fun q => ⟨h16, q⟩, fun q => q.2⟩), _, rfl, ((t5.trans t37).trans t45).trans t53⟩
  · try simp only [vP_0, vP_1, vP_n0, vP_n1, Classical.not_not] at h16
    refine x_iconst dX1_isLocal_19 rfl ?_
    refine x_zreturn (by first | exact Or.inl rfl | exact Or.inr rfl | exact vB_r _ | exact vP_r _ | assumption | omega) rfl dX1_isLocal_20 ?_
    first
    | exact hQ _ _ ⟨_, rfl, (vP_f (fun q => q.1 h16)).symm, _, rfl, t5⟩
    | exact hQ _ _ ⟨_, rfl, e65.trans (vP_c ⟨fun q => ⟨h16, q⟩, fun q => q.2⟩), _, rfl, ((t5.trans t37).trans t45).trans t53⟩
theorem s_X1_isTimed (hd : 14 ≤ d) (h : TrH M o v k) (hst : 0 ≤ st ∧ st < 512) : CS G d mX1_isTimed [dR 0, dR o, dI st] M (postI fun y M1 => y = vP (isTim v k st) ∧ ∃ g, M1 = wI M g ∧ TrG M g) := by
  obtain ⟨⟨x1, x2, x3, x4, x5⟩, ht, hs, ho, hRO, hop⟩ := id h
  have hm1 : msh M 189 = some (5, 0) := x4.2.1
  have hm2 : msh M 191 = some (5, 0) := x5.2.1
  have hb : 0 ≤ st / 8 % 4 * 2 ∧ st / 8 % 4 * 2 < 8 := by omega
  have hmd : st / 4 % 2 = 0 ∨ st / 4 % 2 = 1 := by omega
  refine CS.mkQ (by decide) (Nat.le_of_ble_eq_true rfl) fun Q hQ => ?_
  have lp : ∀ (t : Nat) (c : Int) (g : Ci), (8 - c).toNat = t → (1 ≤ c ∧ c ≤ 8) → (TrG M g) → (¬ trapsV v k (st / 4 % 2)) → (mvw g 189 0 = opD v k (stM st)) → (∀ j, 1 ≤ j → j < c → ¬ unM (opD v k (stM st)) (opD v k (tabM st (st / 4 % 2) (st / 8 % 4 * 2) j 0 0)) 0) → WP G d mX1_isTimed 31 [some (dR 0), some (dR o), some (dI st), some (dI c)] [] (wI M g) Q := by
    intro t
    induction t using Nat.strongRecOn with
    | _ t ih =>
      intro c g ht c0 hg hn ha hno
      have h1 := h.g hg
      by_cases hc : c < 8
      · refine x_iload_n dX1_isTimed_31 rfl rfl ?_
        refine x_bipush dX1_isTimed_32 rfl ?_
        refine x_icmp_ge (tgt := 84) dX1_isTimed_34 (by decide) (fun h34 => ?_) (fun h34 => ?_)
        · omega
        · refine x_aload_n dX1_isTimed_37 rfl rfl ?_
          refine g_getR (kI := 6) rfl dX1_isTimed_38 fX1_39_1 (by assumption) (by assumption) ?_
          refine x_iload_n dX1_isTimed_41 rfl rfl ?_
          refine g_callN (vs := [_, _]) (d' := d - 1) rfl (try_in (M := wI M g) (by omega) h1 (Or.inr rfl) hst) dX1_isTimed_42 kX1_183 (by omega) (by decide) rfl (Nat.le_of_ble_eq_true rfl) (rcv_o (by assumption) rfl) (fun M42 h42 => ?_)
          obtain ⟨g42, hM42, t42, z42, a42, f42⟩ := h42
          subst hM42
          refine x_aload_n dX1_isTimed_45 rfl rfl ?_
          refine g_getR (kI := 6) rfl dX1_isTimed_46 fX1_39_1 (by assumption) (by assumption) ?_
          refine x_iload_n dX1_isTimed_49 rfl rfl ?_
          refine g_putI (kI := 4) rfl dX1_isTimed_50 fX1_213_5 (by assumption) ?_
          have ec : mI (wI (wI M g) g42) 191 4 c = wI (wI (wI M g) g42) (up g42 191 4 c) := rfl
          rw [ec]
          have a42' : mvw (up g42 191 4 c) 191 0 = tabM st (st / 4 % 2) (st / 8 % 4 * 2) c (mci (wI M g) 191 6) 0 := by
            obtain ⟨m1, m2, m3, m4, m5, m6⟩ := mvw_1 a42
            unfold mvw
            rw [rdU_n (by omega), rdU_n (by omega), rdU_n (by omega), rdU_e ⟨rfl, rfl⟩, rdU_n (by omega), m1, m2, m3, m5]
            have e6 : (fun j => up g42 191 4 c (191 + 1) ((j + 0) % 8)) = (tabM st (st / 4 % 2) (st / 8 % 4 * 2) 0 (mci (wI M g) 191 6) 0).2.2.2.2.2 := funext fun j => by
              rw [rdU_n (by omega)]
              exact m6 j
            rw [e6]
            rfl
          have t2 : TrG (wI (wI M g) g42) (up g42 191 4 c) := ⟨⟨by rw [rdU_n (by omega)]; exact t42.1.1, by rw [rdU_n (by omega)]; exact t42.1.2⟩, fun b j q => rdU_n (by omega)⟩
          have z2 : up g42 191 4 c 191 5 = 0 := (rdU_n (by omega)).trans z42
          have h2 := (h1.g t42).g t2
          refine x_aload_n dX1_isTimed_53 rfl rfl ?_
          refine g_getR (kI := 6) rfl dX1_isTimed_54 fX1_39_1 (by assumption) (by assumption) ?_
          refine x_aload_n dX1_isTimed_57 rfl rfl ?_
          refine g_callN (vs := [_, _]) (d' := d - 1) rfl (try_do (M := wI (wI (wI M g) g42) (up g42 191 4 c)) (by omega) h2 (Or.inr rfl) z2 a42' (tabM_ok hmd hb (by omega) hg.1.2)) dX1_isTimed_58 kX1_195 (by omega) (by decide) rfl (Nat.le_of_ble_eq_true rfl) (rcv_o (by assumption) rfl) (fun M58 h58 => ?_)
          obtain ⟨g58, hM58, t58, z58, a58, f58⟩ := h58
          subst hM58
          have a1 : mvw g58 189 0 = opD v k (stM st) := by
            refine (mvw_fo f58 (by omega)).trans ((mvw_fo (lo := 191) (hi := 192) (f := g42) (fun b j q => rdU_n (by omega)) (by omega)).trans ((mvw_fo f42 (by omega)).trans ha))
          rw [opD_tab] at a58
          have tt := ((hg.trans t42).trans t2).trans t58
          refine x_aload_n dX1_isTimed_61 rfl rfl ?_
          refine g_getR (kI := 5) rfl dX1_isTimed_62 fX1_35_1 (by assumption) (by assumption) ?_
          refine x_aload_n dX1_isTimed_65 rfl rfl ?_
          refine g_getR (kI := 6) rfl dX1_isTimed_66 fX1_39_1 (by assumption) (by assumption) ?_
          refine x_iconst dX1_isTimed_69 rfl ?_
          refine g_callI (vs := [_, _, _]) (d' := d - 1) rfl (s_X5_isUnlike (M := wI (wI (wI (wI M g) g42) (up g42 191 4 c)) g58) (by omega) x4 x5 (by omega)) dX1_isTimed_70 kX1_205 (by omega) (by decide) rfl (Nat.le_of_ble_eq_true rfl) (rcv_o (by assumption) rfl) (fun x70 M70 h70 => ?_)
          obtain ⟨e70, eM70⟩ := h70
          rw [mci_wI, a1, a58] at e70
          have eM70' := eM70.symm
          subst eM70'
          subst e70
          refine x_if_eq (tgt := 78) dX1_isTimed_73 (by decide) (fun h73 => ?_) (fun h73 => ?_)
          · try simp only [vP_0, vP_1, vP_n0, vP_n1, Classical.not_not] at h73
            first | refine x_iincN (L' := [some _, some _, some _, some _]) dX1_isTimed_78 rfl (by decide) (by unfold i32; omega) rfl ?_ | refine x_iinc (L' := [some _, some _, some _, some _]) dX1_isTimed_78 rfl (by decide) rfl ?_
            refine x_goto (tgt := 31) dX1_isTimed_81 (by decide) ?_
            refine ih _ (by omega) (c + 1) _ rfl (by omega) tt hn a1 fun j j0 j1 => ?_
            by_cases q : j = c
            · rw [q]; exact h73
            · exact hno j j0 (by omega)
          · try simp only [vP_0, vP_1, vP_n0, vP_n1, Classical.not_not] at h73
            refine x_iconst dX1_isTimed_76 rfl ?_
            refine x_zreturn (by first | exact Or.inl rfl | exact Or.inr rfl | exact vB_r _ | exact vP_r _ | assumption | omega) rfl dX1_isTimed_77 ?_
            exact hQ _ _ ⟨_, rfl, (vP_t ⟨hn, c, by omega, by omega, h73⟩).symm, _, rfl, tt⟩
      · refine x_iload_n dX1_isTimed_31 rfl rfl ?_
        refine x_bipush dX1_isTimed_32 rfl ?_
        refine x_icmp_ge (tgt := 84) dX1_isTimed_34 (by decide) (fun h34 => ?_) (fun h34 => ?_)
        · refine x_iconst dX1_isTimed_84 rfl ?_
          refine x_zreturn (by first | exact Or.inl rfl | exact Or.inr rfl | exact vB_r _ | exact vP_r _ | assumption | omega) rfl dX1_isTimed_85 ?_
          exact hQ _ _ ⟨_, rfl, (vP_f fun ⟨_, j, j0, j1, j2⟩ => hno j j0 (by omega) j2).symm, _, rfl, hg⟩
        · omega
  refine x_aload_n dX1_isTimed_0 rfl rfl ?_
  refine g_getR (kI := 5) rfl dX1_isTimed_1 fX1_35_1 (by assumption) (by assumption) ?_
  refine x_iload_n dX1_isTimed_4 rfl rfl ?_
  refine g_callN (vs := [_, _]) (d' := d - 1) rfl (try_in (by omega) h (Or.inl rfl) hst) dX1_isTimed_5 kX1_183 (by omega) (by decide) rfl (Nat.le_of_ble_eq_true rfl) (rcv_o (by assumption) rfl) (fun M5 h5 => ?_)
  obtain ⟨g5, hM5, t5, z5, a5, f5⟩ := h5
  subst hM5
  have h1 := h.g t5
  obtain ⟨b1, b2, b3, b4, b5, b6⟩ := mvw_1 a5
  have b2' : mci (wI M g5) 189 2 = st / 4 % 2 := b2
  refine x_aload_n dX1_isTimed_8 rfl rfl ?_
  refine g_getR (kI := 5) rfl dX1_isTimed_9 fX1_35_1 (by assumption) (by assumption) ?_
  refine x_aload_n dX1_isTimed_12 rfl rfl ?_
  refine g_callI (vs := [_, _]) (d' := d - 1) rfl (try_tr (by omega) h1 (Or.inl rfl) b2') dX1_isTimed_13 kX1_191 (by omega) (by decide) rfl (Nat.le_of_ble_eq_true rfl) (rcv_o (by assumption) rfl) (fun x13 M13 h13 => ?_)
  obtain ⟨e13, f13⟩ := h13
  have f13' := f13.symm
  subst f13'
  subst e13
  refine x_if_eq (tgt := 21) dX1_isTimed_16 (by decide) (fun h16 => ?_) (fun h16 => ?_)
  · try simp only [vP_0, vP_1, vP_n0, vP_n1, Classical.not_not] at h16
    refine x_aload_n dX1_isTimed_21 rfl rfl ?_
    refine g_getR (kI := 5) rfl dX1_isTimed_22 fX1_35_1 (by assumption) (by assumption) ?_
    refine x_aload_n dX1_isTimed_25 rfl rfl ?_
    refine g_callN (vs := [_, _]) (d' := d - 1) rfl (try_do (M := wI M g5) (by omega) h1 (Or.inl rfl) z5 a5 (tabM_ok hmd hb (by omega) hs.1)) dX1_isTimed_26 kX1_195 (by omega) (by decide) rfl (Nat.le_of_ble_eq_true rfl) (rcv_o (by assumption) rfl) (fun M26 h26 => ?_)
    obtain ⟨g26, hM26, t26, z26, a26, f26⟩ := h26
    subst hM26
    rw [opD_tab] at a26
    refine x_iconst dX1_isTimed_29 rfl ?_
    refine x_istore_n (L' := [some _, some _, some _, some _]) dX1_isTimed_30 rfl (by decide) rfl ?_
    refine WP.mem (M1 := wI M g26) rfl (lp _ 1 g26 rfl (by omega) (t5.trans t26) h16 a26 fun j j0 j1 => by omega)
  · try simp only [vP_0, vP_1, vP_n0, vP_n1, Classical.not_not] at h16
    refine x_iconst dX1_isTimed_19 rfl ?_
    refine x_zreturn (by first | exact Or.inl rfl | exact Or.inr rfl | exact vB_r _ | exact vP_r _ | assumption | omega) rfl dX1_isTimed_20 ?_
    exact hQ _ _ ⟨_, rfl, (vP_f (fun q => q.1 h16)).symm, _, rfl, t5⟩
theorem s_X1_shows (hd : 16 ≤ d) (h : TrH M o v k) (hst : 0 ≤ st ∧ st < 512) (hw : 0 ≤ w ∧ w ≤ 3) : CS G d mX1_shows [dR 0, dR o, dI w, dI st] M (postI fun y M1 => y = vP (isSo v k w st) ∧ ∃ g, M1 = wI M g ∧ TrG M g) := by
  obtain ⟨⟨x1, x2, x3, x4, x5⟩, ht, hs, ho, hRO, hop⟩ := id h
  refine CS.mkQ (by decide) (Nat.le_of_ble_eq_true rfl) fun Q hQ => ?_
  refine x_iload_n dX1_shows_0 rfl rfl ?_
  refine x_if_ne (tgt := 13) dX1_shows_1 (by decide) (fun h1 => ?_) (fun h1 => ?_)
  · refine x_iload_n dX1_shows_13 rfl rfl ?_
    refine x_iconst dX1_shows_14 rfl ?_
    refine x_icmp_ne (tgt := 27) dX1_shows_15 (by decide) (fun h15 => ?_) (fun h15 => ?_)
    · refine x_iload_n dX1_shows_27 rfl rfl ?_
      refine x_iconst dX1_shows_28 rfl ?_
      refine x_icmp_ne (tgt := 41) dX1_shows_29 (by decide) (fun h29 => ?_) (fun h29 => ?_)
      · refine x_aload_n dX1_shows_41 rfl rfl ?_
        refine x_aload_n dX1_shows_42 rfl rfl ?_
        refine x_iload_n dX1_shows_43 rfl rfl ?_
        refine g_callI (vs := [_, _, _]) (d' := d - 1) rfl (s_X1_isTimed (by omega) h hst) dX1_shows_44 kX1_226 (by omega) (by decide) rfl (Nat.le_of_ble_eq_true rfl) (rcv_o (by assumption) rfl) (fun x44 M44 h44 => ?_)
        obtain ⟨e44, f44⟩ := h44
        refine x_zreturn (by first
| (rw [e7]; exact vP_r _)
| (rw [e21]; exact vP_r _)
| (rw [e35]; exact vP_r _)
| (rw [e44]; exact vP_r _)) rfl dX1_shows_47 ?_
        first
        | (subst h1; exact hQ _ _ ⟨_, rfl, e7.trans (vP_c isSo_0).symm, f7⟩)
        | (subst h15; exact hQ _ _ ⟨_, rfl, e21.trans (vP_c isSo_1).symm, f21⟩)
        | (subst h29; exact hQ _ _ ⟨_, rfl, e35.trans (vP_c isSo_2).symm, f35⟩)
        | (have e3 : w = 3 := by omega
           subst e3; exact hQ _ _ ⟨_, rfl, e44.trans (vP_c isSo_3).symm, f44⟩)
      · refine x_aload_n dX1_shows_32 rfl rfl ?_
        refine x_aload_n dX1_shows_33 rfl rfl ?_
        refine x_iload_n dX1_shows_34 rfl rfl ?_
        refine g_callI (vs := [_, _, _]) (d' := d - 1) rfl (s_X1_isLocal (by omega) h hst) dX1_shows_35 kX1_223 (by omega) (by decide) rfl (Nat.le_of_ble_eq_true rfl) (rcv_o (by assumption) rfl) (fun x35 M35 h35 => ?_)
        obtain ⟨e35, f35⟩ := h35
        refine x_goto (tgt := 47) dX1_shows_38 (by decide) ?_
        refine x_zreturn (by first
| (rw [e7]; exact vP_r _)
| (rw [e21]; exact vP_r _)
| (rw [e35]; exact vP_r _)
| (rw [e44]; exact vP_r _)) rfl dX1_shows_47 ?_
        first
        | (subst h1; exact hQ _ _ ⟨_, rfl, e7.trans (vP_c isSo_0).symm, f7⟩)
        | (subst h15; exact hQ _ _ ⟨_, rfl, e21.trans (vP_c isSo_1).symm, f21⟩)
        | (subst h29; exact hQ _ _ ⟨_, rfl, e35.trans (vP_c isSo_2).symm, f35⟩)
        | (have e3 : w = 3 := by omega
           subst e3; exact hQ _ _ ⟨_, rfl, e44.trans (vP_c isSo_3).symm, f44⟩)
    · refine x_aload_n dX1_shows_18 rfl rfl ?_
      refine x_aload_n dX1_shows_19 rfl rfl ?_
      refine x_iload_n dX1_shows_20 rfl rfl ?_
      refine g_callI (vs := [_, _, _]) (d' := d - 1) rfl (s_X1_isModal (by omega) h hst) dX1_shows_21 kX1_220 (by omega) (by decide) rfl (Nat.le_of_ble_eq_true rfl) (rcv_o (by assumption) rfl) (fun x21 M21 h21 => ?_)
      obtain ⟨e21, f21⟩ := h21
      refine x_goto (tgt := 47) dX1_shows_24 (by decide) ?_
      refine x_zreturn (by first
| (rw [e7]; exact vP_r _)
| (rw [e21]; exact vP_r _)
| (rw [e35]; exact vP_r _)
| (rw [e44]; exact vP_r _)) rfl dX1_shows_47 ?_
      first
      | (subst h1; exact hQ _ _ ⟨_, rfl, e7.trans (vP_c isSo_0).symm, f7⟩)
      | (subst h15; exact hQ _ _ ⟨_, rfl, e21.trans (vP_c isSo_1).symm, f21⟩)
      | (subst h29; exact hQ _ _ ⟨_, rfl, e35.trans (vP_c isSo_2).symm, f35⟩)
      | (have e3 : w = 3 := by omega
         subst e3; exact hQ _ _ ⟨_, rfl, e44.trans (vP_c isSo_3).symm, f44⟩)
  · refine x_aload_n dX1_shows_4 rfl rfl ?_
    refine x_aload_n dX1_shows_5 rfl rfl ?_
    refine x_iload_n dX1_shows_6 rfl rfl ?_
    refine g_callI (vs := [_, _, _]) (d' := d - 1) rfl (s_X1_isControl (by omega) h hst) dX1_shows_7 kX1_216 (by omega) (by decide) rfl (Nat.le_of_ble_eq_true rfl) (rcv_o (by assumption) rfl) (fun x7 M7 h7 => ?_)
    obtain ⟨e7, f7⟩ := h7
    refine x_goto (tgt := 47) dX1_shows_10 (by decide) ?_
    refine x_zreturn (by first
| (rw [e7]; exact vP_r _)
| (rw [e21]; exact vP_r _)
| (rw [e35]; exact vP_r _)
| (rw [e44]; exact vP_r _)) rfl dX1_shows_47 ?_
    first
    | (subst h1; exact hQ _ _ ⟨_, rfl, e7.trans (vP_c isSo_0).symm, f7⟩)
    | (subst h15; exact hQ _ _ ⟨_, rfl, e21.trans (vP_c isSo_1).symm, f21⟩)
    | (subst h29; exact hQ _ _ ⟨_, rfl, e35.trans (vP_c isSo_2).symm, f35⟩)
    | (have e3 : w = 3 := by omega
       subst e3; exact hQ _ _ ⟨_, rfl, e44.trans (vP_c isSo_3).symm, f44⟩)
theorem s_X1_witnessOf (hd : 18 ≤ d) (h : TrH M o v k) (hw : 0 ≤ w ∧ w ≤ 3) : CS G d mX1_witnessOf [dR 0, dR o, dI w] M (postI fun y M1 => y = witV v k w ∧ ∃ g, M1 = wI M g ∧ TrG M g) := by
  obtain ⟨⟨x1, x2, x3, x4, x5⟩, ht, hs, ho, hRO, hop⟩ := id h
  refine CS.mkQ (by decide) (Nat.le_of_ble_eq_true rfl) fun Q hQ => ?_
  have lp : ∀ (t : Nat) (s : Int) (g : Ci), (512 - s).toNat = t → (0 ≤ s ∧ s ≤ 512) → (TrG M g) → (firstP (isSo v k w) (512 - s).toNat s = witV v k w) → WP G d mX1_witnessOf 2 [some (dR 0), some (dR o), some (dI w), some (dI s)] [] (wI M g) Q := by
    intro t
    induction t using Nat.strongRecOn with
    | _ t ih =>
      intro s g ht c0 hg hs1
      have h1 := h.g hg
      refine x_iload_n dX1_witnessOf_2 rfl rfl ?_
      refine x_sipush dX1_witnessOf_3 rfl ?_
      refine x_icmp_ge (tgt := 27) dX1_witnessOf_6 (by decide) (fun h6 => ?_) (fun h6 => ?_)
      · refine x_iconst dX1_witnessOf_27 rfl ?_
        refine x_ireturn rfl dX1_witnessOf_28 ?_
        refine hQ _ _ ⟨_, rfl, ?_, _, rfl, hg⟩
        rw [← hs1, show (512 - s).toNat = 0 by omega]
        rfl
      · refine x_aload_n dX1_witnessOf_9 rfl rfl ?_
        refine x_aload_n dX1_witnessOf_10 rfl rfl ?_
        refine x_iload_n dX1_witnessOf_11 rfl rfl ?_
        refine x_iload_n dX1_witnessOf_12 rfl rfl ?_
        refine g_callI (vs := [_, _, _, _]) (d' := d - 1) rfl (s_X1_shows (M := wI M g) (by omega) h1 (by omega) hw) dX1_witnessOf_13 kX1_229 (by omega) (by decide) rfl (Nat.le_of_ble_eq_true rfl) (rcv_o (by assumption) rfl) (fun x13 M13 h13 => ?_)
        obtain ⟨e13, g13, hM13, t13⟩ := h13
        subst e13
        subst hM13
        refine x_if_eq (tgt := 21) dX1_witnessOf_16 (by decide) (fun h16 => ?_) (fun h16 => ?_)
        · try simp only [vP_0, vP_1, vP_n0, vP_n1, Classical.not_not] at h16
          first | refine x_iincN (L' := [some _, some _, some _, some _]) dX1_witnessOf_21 rfl (by decide) (by unfold i32; omega) rfl ?_ | refine x_iinc (L' := [some _, some _, some _, some _]) dX1_witnessOf_21 rfl (by decide) rfl ?_
          refine x_goto (tgt := 2) dX1_witnessOf_24 (by decide) ?_
          refine ih _ (by omega) (s + 1) _ rfl (by omega) (hg.trans t13) ?_
          rw [← hs1, show (512 - s).toNat = (512 - (s + 1)).toNat + 1 by omega, firstP_f h16]
        · try simp only [vP_0, vP_1, vP_n0, vP_n1, Classical.not_not] at h16
          refine x_iload_n dX1_witnessOf_19 rfl rfl ?_
          refine x_ireturn rfl dX1_witnessOf_20 ?_
          refine hQ _ _ ⟨_, rfl, ?_, _, rfl, hg.trans t13⟩
          rw [← hs1, show (512 - s).toNat = (512 - (s + 1)).toNat + 1 by omega, firstP_t h16]
  refine x_iconst dX1_witnessOf_0 rfl ?_
  refine x_istore_n (L' := [some _, some _, some _, some _]) dX1_witnessOf_1 rfl (by decide) rfl ?_
  exact WP.mem (wI_id M).symm (lp _ 0 (mci M) rfl (by omega) ⟨hs, Fo.rfl⟩ rfl)
end X1

