/-! GuestViewLaw: its beginning -/
/-- the bench that a new object holds -/
theorem iniV_F : FV iniV := by
  have e : ∀ k, ¬ k = 11 → ¬ k = 5 → ¬ k = 6 → iniB k = 0 := fun k a b c => (us_n c).trans ((us_n b).trans (us_n a))
  have h : FV iniB := ⟨fun p a b c => by rw [e 0 (by omega) (by omega) (by omega)] at c; omega, fun k a b c => by rw [e 10 (by omega) (by omega) (by omega)] at c; omega⟩
  exact h.boot
/-- what the law finds -/
def M0ok (M : Mem) (len : Int) (sc : Int → Int) : Prop := mnx M = 0 ∧ mns M = 0 ∧ TxS M ∧ TabS (msh M) (mci M) ∧ msh M (-5) = some (100, len) ∧ ∀ k, mci M (-5) k = sc k
section LE
variable {G : GW} {d : Nat} {M : Mem} {Q : Res → Mem → Prop} {len : Int} {sc : Int → Int}
theorem law_runs (hd : 102 ≤ d) (hlen : 0 ≤ len ∧ len ≤ 384) (hQ : ∀ M1, (mnx M1 : Int) ≤ 761 + 1400 * 64 → (mns M1 : Int) ≤ 60000 + 6000 * 64 → Q (rV (dI 1)) M1) (h0 : M0ok M len sc) : WP G d mL_law 0 [some (dR (-5)), none, none, none, none, none, none] [] M Q := by
  obtain ⟨z1, z2, hT, hTab, s5, hsc⟩ := h0
  have tx : ∀ M' : Mem, Kp (fun b => b < 0) M M' → TxS M' := fun M' h => hT.of (fun a ha => (h a ha).1) (fun a k ha => (h a ha).2.1 k) (fun a k ha => (h a ha).2.2.1 k)
  have kn : ∀ (M' : Mem) (x : Int) (t sl : Nat) (n : Int), 0 ≤ x → Kp (fun b => b < x) M' (mNx M' x t n sl) := fun M' x t sl n hx b hb => ⟨if_neg (by omega), fun k => if_neg (by omega), fun k => if_neg (by omega), fun k => if_neg (by omega)⟩
  refine x_newX (x := 0) (by first | (simp only [nxI, nxR, nxL, nxC, nxD, nxW, nxV, nxN]; done) | (simp only [nxI, nxR, nxL, nxC, nxD, nxW, nxV, nxN]; omega) | omega) (t := 1) rfl q184 q185 q152 dL_law_0 ?_
  refine x_dup dL_law_3 rfl ?_
  refine g_callN (vs := [_]) (d' := d - 1) rfl (s_X1_init (by omega) (shN_e rfl) (by show ((mnx M + 1 : Nat) : Int) = 1; omega) Frsh.n (tx _ (kn _ _ _ _ _ (by omega)))) dL_law_4 kX0_122 (by omega) (by decide) rfl (Nat.le_of_ble_eq_true rfl) (rcv_o (by first | assumption | first | assumption | (simp (disch := omega) only [shI, shR, shL, shC, shD, shW, sh_V, shN_e, shN_n, crI, crL, crC, crW, crV, crR_e, crR_n, crN_e, crN_n, ciR, ciL, ciD, ciN_e, ciN_n, rdI_e, rdI_n, rdC_i, rdC_o, rdW, rdU_e, rdU_n, rdLW, clI, clR, clC, clD, clW, clV, clN_e, clN_n, clL_e, clL_n]; done) | (simp (disch := omega) only [shI, shR, shL, shC, shD, shW, sh_V, shN_e, shN_n, crI, crL, crC, crW, crV, crR_e, crR_n, crN_e, crN_n, ciR, ciL, ciD, ciN_e, ciN_n, rdI_e, rdI_n, rdC_i, rdC_o, rdW, rdU_e, rdU_n, rdLW, clI, clR, clC, clD, clW, clV, clN_e, clN_n, clL_e, clL_n] <;> first | assumption | rfl | omega)) rfl) (fun M4 h4 => ?_)
  obtain ⟨ci4, nm4, ms4, kp4⟩ := h4
  refine x_astore_n (L' := [some _, some _, none, none, none, none, none]) dL_law_7 rfl (by decide) rfl ?_
  have nm4' : (mnx M4 : Int) = 744 := nm4
  refine x_newX (x := 744) (by first | (simp only [nxI, nxR, nxL, nxC, nxD, nxW, nxV, nxN]; done) | (simp only [nxI, nxR, nxL, nxC, nxD, nxW, nxV, nxN]; omega) | omega) (t := 8) rfl q1656 q1657 q162 dL_law_8 ?_
  refine x_dup dL_law_11 rfl ?_
  refine g_callN (vs := [_]) (d' := d - 1) rfl (s_X8_init (vi := fun _ => 0) (A := fun _ _ => 0) (by omega) (shN_e rfl) (by omega) (by show ((mnx M4 + 1 : Nat) : Int) = 744 + 1; omega) Frsh.n) dL_law_12 kX0_125 (by omega) (by decide) rfl (Nat.le_of_ble_eq_true rfl) (rcv_o (by first | assumption | first | assumption | (simp (disch := omega) only [shI, shR, shL, shC, shD, shW, sh_V, shN_e, shN_n, crI, crL, crC, crW, crV, crR_e, crR_n, crN_e, crN_n, ciR, ciL, ciD, ciN_e, ciN_n, rdI_e, rdI_n, rdC_i, rdC_o, rdW, rdU_e, rdU_n, rdLW, clI, clR, clC, clD, clW, clV, clN_e, clN_n, clL_e, clL_n]; done) | (simp (disch := omega) only [shI, shR, shL, shC, shD, shW, sh_V, shN_e, shN_n, crI, crL, crC, crW, crV, crR_e, crR_n, crN_e, crN_n, ciR, ciL, ciD, ciN_e, ciN_n, rdI_e, rdI_n, rdC_i, rdC_o, rdW, rdU_e, rdU_n, rdLW, clI, clR, clC, clD, clW, clV, clN_e, clN_n, clL_e, clL_n] <;> first | assumption | rfl | omega)) rfl) (fun M12 h12 => ?_)
  obtain ⟨ti12, nm12, ms12, kp12⟩ := h12
  refine x_astore_n (L' := [some _, some _, some _, none, none, none, none]) dL_law_15 rfl (by decide) rfl ?_
  refine x_iconst dL_law_16 rfl ?_
  refine x_newaX (x := 760) (by first | (simp only [nxI, nxR, nxL, nxC, nxD, nxW, nxV, nxN]; done) | (simp only [nxI, nxR, nxL, nxC, nxD, nxW, nxV, nxN]; omega) | omega) (t := 102) (by decide) rfl q1766 (by omega) (by omega) dL_law_17 ?_
  refine x_astore_n (L' := [some _, some _, some _, some _, none, none, none]) dL_law_19 rfl (by decide) rfl ?_
  refine x_iconst dL_law_20 rfl ?_
  refine x_istore (L' := [some _, some _, some _, some _, some _, none, none]) dL_law_21 (by decide) rfl ?_
  generalize hM9 : mNx M12 760 102 1 _ = M9
  have a1 : Kp (fun b => b < 760) M12 M9 := by rw [← hM9]; exact kn _ _ _ _ _ (by omega)
  have k2 : Kp (fun b => b < 744) M4 M9 := fun b hb => by
    have q1 := kn M4 744 8 15 0 (by omega) b hb
    have q2 := kp12 b hb
    have q3 := a1 b (by omega)
    exact ⟨q3.1.trans (q2.1.trans (if_neg (by omega))), fun k => (q3.2.1 k).trans ((q2.2.1 k).trans (if_neg (by omega))), fun k => (q3.2.2.1 k).trans ((q2.2.2.1 k).trans (if_neg (by omega))), fun k => (q3.2.2.2 k).trans ((q2.2.2.2 k).trans (if_neg (by omega)))⟩
  have k0 : Kp (fun b => b < 0) M M9 := fun b hb => by
    have q2 := kp4 b hb
    have q3 := k2 b (by omega)
    exact ⟨q3.1.trans (q2.1.trans (if_neg (by omega))), fun k => (q3.2.1 k).trans ((q2.2.1 k).trans (if_neg (by omega))), fun k => (q3.2.2.1 k).trans ((q2.2.2.1 k).trans (if_neg (by omega))), fun k => (q3.2.2.2 k).trans ((q2.2.2.2 k).trans (if_neg (by omega)))⟩
  have n9 : (mnx M9 : Int) = 761 := by
    rw [← hM9]
    show ((mnx M12 + 1 : Nat) : Int) = 761
    omega
  have m9 : (mns M9 : Int) ≤ 60000 := by
    simp only [nsN] at ms4 ms12
    rw [← hM9]
    show ((mns M12 + 1 : Nat) : Int) ≤ 60000
    omega
  have s7 : msh M9 760 = some (102, 1) := by rw [← hM9]; exact shN_e rfl
  have hT9 : TabS (msh M9) (mci M9) := ⟨(k0 (-1) (by omega)).1.trans hTab.1, fun p k a b c e => ((k0 (-1) (by omega)).2.1 _).trans (hTab.2 p k a b c e)⟩
  refine law_loop (s := (iniV, 0, fun _ _ => 0, 0, fun _ => 0, fun _ => 0, 0, -1)) (len := len) (sc := sc) (by omega) hlen hQ ⟨CI0.ci ci4 (k2.mono fun b hb => hb.2) (by omega) hT9 (tx _ k0), TI.kp ti12 (a1.mono fun b hb => by omega), ⟨iniV_F, fun r a b => absurd (show r < 0 from b) (by omega), fun q => absurd (show (0 : Int) = 1 from q) (by omega), fun k => ⟨by show (-128 : Int) ≤ 0; omega, by show (0 : Int) ≤ 127; omega⟩⟩, s7, (k0 _ (by omega)).1.trans s5, fun k => ((k0 _ (by omega)).2.1 k).trans (hsc k)⟩ (by omega) m9
end LE

