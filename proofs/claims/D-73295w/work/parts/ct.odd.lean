/-! GuestViewLaw: the calls that are like no other -/
section U
variable {G : GW} {d : Nat} {M M1 : Mem} {n hi sz fa N : Int} {v vi : Vw} {A : Int → Vw} {tp : Int → Int}
/-- the reference's cells of the bench, of what was done and of the image are touched, no others that last -/
theorem TI.to {m n' hi' : Int} {g : Ci} {v' vi' : Vw} {A' : Int → Vw} (h : TI M m v n A hi vi tp sz fa) (hw : g (m + 1) = v') (hA : okA v') (hL : lawOK v') (hact : ActsOk g m n' A') (h6 : g m 6 = hi' ∧ (hi' = 0 ∨ hi' = 1)) (h2 : hi' = 1 → ∀ k, 0 ≤ k → k < 1217 → g (m + 2) k = vi' k) (hg : ∀ a k, ¬ a = m + 1 → ¬ a = m + 2 → ¬ a = m + 5 → ¬ (a = m ∧ (k = 0 ∨ k = 6 ∨ k = 7)) → g a k = mci M a k) (ho : ∀ a k, ¬ (m ≤ a ∧ a ≤ m + 15) → g a k = mci M a k) : TI (wI M g) m v' n' A' hi' vi' tp sz fa ∧ TR m M (wI M g) := by
  obtain ⟨⟨p1, p2, p3, p4, p5, p6⟩, hacts, ⟨⟨a1, a2⟩, b, c, ⟨d1, d2⟩, e⟩⟩ := h
  have hK : KnOk g (mcl M) m := KnOk.at p5 (fun p => hg _ _ (by omega) (by omega) (by omega) (by omega)) fun p => rfl
  have hs : sk01 g m := by
    unfold sk01 at p6 ⊢
    rw [hg _ _ (by omega) (by omega) (by omega) (by omega)]
    exact p6
  exact ⟨⟨⟨p1, hw, hA, hL, hK, hs⟩, hact, ⟨h6, h2, (funext fun k => hg _ _ (by omega) (by omega) (by omega) (by omega)).trans c, ⟨(hg _ _ (by omega) (by omega) (by omega) (by omega)).trans d1, d2⟩, (hg _ _ (by omega) (by omega) (by omega) (by omega)).trans e⟩⟩, ⟨g, mcl M, rfl, ho, fun a k _ => rfl⟩⟩
abbrev Z_feed (v : Vw) (n : Int) (A : Int → Vw) (hi : Int) (vi : Vw) (tp : Int → Int) (sz fa : Int) (a1 a2 a3 a4 a5 : Int) : Int → Int → Sg → Prop := fun c y s => (c = 0 ∧ 400 < sz + 20 ∧ y = -1 ∧ s = (v, n, A, hi, vi, tp, sz, fa)) ∨ (c = 0 ∧ ¬ 400 < sz + 20 ∧ y = sz + 20 ∧ s = (v, n, A, hi, vi, feedT tp sz a1 a2 a3 a4 a5 20, sz + 20, fa))
theorem uc_feed {a1 a2 a3 a4 a5 : Int} (hd : 90 ≤ d) (h7 : msh M 760 = some (102, 1)) (hC : CI M v n A hi vi tp sz fa N) : CS G d mX1_feed [dR 0, dI a1, dI a2, dI a3, dI a4, dI a5] M (UP M N (Z_feed v n A hi vi tp sz fa a1 a2 a3 a4 a5)) := by
  refine CS.mono (s_X1_feed (by omega) hC) ?_
  rintro r M1 ⟨y, rfl, h1, h2⟩
  by_cases q : 400 < sz + 20
  · obtain ⟨e, hco⟩ := h1 q
    exact ⟨_, rfl, _, _, Or.inl ⟨rfl, q, e, rfl⟩, by omega, CH.co hC h7 hco (by omega) (by omega)⟩
  · obtain ⟨e, hco⟩ := h2 q
    exact ⟨_, rfl, _, _, Or.inr ⟨rfl, q, e, rfl⟩, by omega, CH.co hC h7 hco (by omega) (by omega)⟩
theorem rc_feed {a1 a2 a3 a4 a5 c y : Int} {s : Sg} (hd : 90 ≤ d) (hI : TI M 744 v n A hi vi tp sz fa) (hR : Z_feed v n A hi vi tp sz fa a1 a2 a3 a4 a5 c y s) : CS G d mX8_feed [dR 744, dI a1, dI a2, dI a3, dI a4, dI a5] M (VP M y s) := by
  refine CS.mono (s_X8_feed (by omega) hI) ?_
  rintro r M1 ⟨b1, rfl, h1, h2⟩
  rcases hR with ⟨-, q, rfl, rfl⟩ | ⟨-, q, rfl, rfl⟩
  · obtain ⟨e, t1, t2⟩ := h1 q
    exact ⟨_, rfl, e, t1, t2⟩
  · obtain ⟨e, t1, t2⟩ := h2 q
    exact ⟨_, rfl, e, t1, t2⟩
theorem xc_feed {a1 a2 a3 a4 a5 c y : Int} {s : Sg} (hF : FX (v, n, A, hi, vi, tp, sz, fa)) (hR : Z_feed v n A hi vi tp sz fa a1 a2 a3 a4 a5 c y s) : FX s := by
  rcases hR with ⟨-, -, -, rfl⟩ | ⟨-, -, -, rfl⟩
  · exact hF
  · exact ⟨hF.1, hF.2.1, hF.2.2.1, hF.2.2.2.feed⟩
abbrev Z_end (v : Vw) (n : Int) (A : Int → Vw) (hi : Int) (vi : Vw) (tp : Int → Int) (sz fa : Int) (k : Int) : Int → Int → Sg → Prop := fun c y s => (c = 0 ∧ (0 ≤ k ∧ k ≤ sz) ∧ y = 1 ∧ s = (v, n, A, hi, vi, tp, k, fa)) ∨ (c = 0 ∧ ¬ (0 ≤ k ∧ k ≤ sz) ∧ y = 0 ∧ s = (v, n, A, hi, vi, tp, sz, fa))
theorem uc_end {k : Int} (hd : 90 ≤ d) (h7 : msh M 760 = some (102, 1)) (hC : CI M v n A hi vi tp sz fa N) : CS G d mX1_end [dR 0, dI k] M (UP M N (Z_end v n A hi vi tp sz fa k)) := by
  refine CS.mono (s_X1_end (by omega) hC) ?_
  rintro r M1 ⟨y, rfl, h1, h2⟩
  by_cases q : 0 ≤ k ∧ k ≤ sz
  · obtain ⟨e, hco⟩ := h1 q
    exact ⟨_, rfl, _, _, Or.inl ⟨rfl, q, e, rfl⟩, by omega, CH.co hC h7 hco (by omega) (by omega)⟩
  · obtain ⟨e, hco⟩ := h2 q
    exact ⟨_, rfl, _, _, Or.inr ⟨rfl, q, e, rfl⟩, by omega, CH.co hC h7 hco (by omega) (by omega)⟩
theorem rc_end {k c y : Int} {s : Sg} (hd : 90 ≤ d) (hI : TI M 744 v n A hi vi tp sz fa) (hR : Z_end v n A hi vi tp sz fa k c y s) : CS G d mX8_end [dR 744, dI k] M (VP M y s) := by
  refine CS.mono (s_X8_end (by omega) hI) ?_
  rintro r M1 ⟨b1, rfl, h1, h2⟩
  rcases hR with ⟨-, q, rfl, rfl⟩ | ⟨-, q, rfl, rfl⟩
  · obtain ⟨e, t1, t2⟩ := h1 q
    exact ⟨_, rfl, e, t1, t2⟩
  · obtain ⟨e, t1, t2⟩ := h2 q
    exact ⟨_, rfl, e, t1, t2⟩
theorem xc_end {k c y : Int} {s : Sg} (hF : FX (v, n, A, hi, vi, tp, sz, fa)) (hR : Z_end v n A hi vi tp sz fa k c y s) : FX s := by
  rcases hR with ⟨-, -, -, rfl⟩ | ⟨-, -, -, rfl⟩
  · exact hF
  · exact hF
abbrev Z_boot (v : Vw) (n : Int) (A : Int → Vw) (hi : Int) (vi : Vw) (tp : Int → Int) (sz fa : Int) : Int → Int → Sg → Prop := fun c y s => c = 0 ∧ y = 0 ∧ s = (bootV v, remN n, remA A n v, hi, vi, tp, sz, fa)
theorem uc_boot (hd : 90 ≤ d) (h7 : msh M 760 = some (102, 1)) (hC : CI M v n A hi vi tp sz fa N) : CS G d mX1_boot [dR 0] M (UN M N (Z_boot v n A hi vi tp sz fa)) := by
  refine CS.mono (s_X1_boot (by omega) hC) ?_
  rintro r M1 ⟨rfl, hco⟩
  exact ⟨rfl, _, _, ⟨rfl, rfl, rfl⟩, by omega, CH.co hC h7 hco (by omega) (by omega)⟩
theorem rc_boot {c y : Int} {s : Sg} (hd : 90 ≤ d) (hI : TI M 744 v n A hi vi tp sz fa) (hok : okA s.1 ∧ lawOK s.1) (hR : Z_boot v n A hi vi tp sz fa c y s) : CS G d mX8_boot [dR 744] M (VN M s) := by
  refine CS.mono (s_X8_boot (by omega) hI.1 hI.2.1) ?_
  rintro r M1 ⟨rfl, hac⟩
  obtain ⟨-, -, rfl⟩ := hR
  obtain ⟨t1, t2, -⟩ := hac.ti hI hok.1 hok.2
  exact ⟨rfl, t1, t2⟩
theorem xc_boot {c y : Int} {s : Sg} (hF : FX (v, n, A, hi, vi, tp, sz, fa)) (hn : 0 ≤ n ∧ n ≤ 12) (hR : Z_boot v n A hi vi tp sz fa c y s) : FX s := by
  obtain ⟨-, -, rfl⟩ := hR
  exact ⟨hF.1.boot, FV.rem hn hF.1 hF.2.1, hF.2.2⟩
abbrev Z_seed (v : Vw) (n : Int) (A : Int → Vw) (hi : Int) (vi : Vw) (tp : Int → Int) (sz fa : Int) (k : Int) : Int → Int → Sg → Prop := fun c y s => c = 0 ∧ y = v 11 ∧ s = (us v 11 k, n, A, hi, vi, tp, sz, fa)
theorem uc_seed {k : Int} (hd : 90 ≤ d) (h7 : msh M 760 = some (102, 1)) (hC : CI M v n A hi vi tp sz fa N) : CS G d mX1_seed [dR 0, dI k] M (UP M N (Z_seed v n A hi vi tp sz fa k)) := by
  refine CS.mono (s_X1_seed (by omega) hC) ?_
  rintro r M1 ⟨y, rfl, hy, hco⟩
  exact ⟨_, rfl, _, _, ⟨rfl, hy, rfl⟩, by omega, CH.co hC h7 hco (by omega) (by omega)⟩
theorem rc_seed {k c y : Int} {s : Sg} (hd : 90 ≤ d) (hI : TI M 744 v n A hi vi tp sz fa) (hok : okA s.1 ∧ lawOK s.1) (hR : Z_seed v n A hi vi tp sz fa k c y s) : CS G d mX8_seed [dR 744, dI k] M (VP M y s) := by
  refine CS.mono (s_X8_seed (by omega) hI.1) ?_
  rintro r M1 ⟨b1, rfl, hx, rfl⟩
  obtain ⟨-, rfl, rfl⟩ := hR
  have hac := hI.2.1
  obtain ⟨b1, b2, -⟩ := hI.2.2
  obtain ⟨t1, t2⟩ := TI.to (g := mci (mI (mI M 744 0 0) (744 + 1) 11 k)) (v' := us v 11 k) (n' := n) (A' := A) (hi' := hi) (vi' := vi) hI (mciIs (mciI (by omega) hI.1.2.1)) hok.1 hok.2 (hac.at ((rdI_n (by omega)).trans (rdI_n (by omega))) fun k => (rdI_n (by omega)).trans (rdI_n (by omega))) ⟨((rdI_n (by omega)).trans (rdI_n (by omega))).trans b1.1, b1.2⟩ (fun q k k0 k1 => ((rdI_n (by omega)).trans (rdI_n (by omega))).trans (b2 q k k0 k1)) (fun a k q1 q2 q3 q4 => (rdI_n (by omega)).trans (rdI_n (by omega))) (fun a k q => (rdI_n (by omega)).trans (rdI_n (by omega)))
  exact ⟨_, rfl, hx, t1, t2⟩
theorem xc_seed {k c y : Int} {s : Sg} (hF : FX (v, n, A, hi, vi, tp, sz, fa)) (hR : Z_seed v n A hi vi tp sz fa k c y s) : FX s := by
  obtain ⟨-, -, rfl⟩ := hR
  exact ⟨hF.1.set (op := 0) (by omega) (by omega) (by omega) (by omega), hF.2⟩
abbrev Z_undo (v : Vw) (n : Int) (A : Int → Vw) (hi : Int) (vi : Vw) (tp : Int → Int) (sz fa : Int) : Int → Int → Sg → Prop := fun c y s => (c = 0 ∧ n = 0 ∧ y = 0 ∧ s = (v, n, A, hi, vi, tp, sz, fa)) ∨ (c = 0 ∧ ¬ n = 0 ∧ y = 1 ∧ s = (ov (A (n - 1)) v, n - 1, A, hi, vi, tp, sz, fa))
theorem uc_undo (hd : 90 ≤ d) (h7 : msh M 760 = some (102, 1)) (hC : CI M v n A hi vi tp sz fa N) : CS G d mX1_undo [dR 0] M (UP M N (Z_undo v n A hi vi tp sz fa)) := by
  refine CS.mono (s_X1_undo (by omega) hC) ?_
  rintro r M1 ⟨y, rfl, h1, h2⟩
  by_cases q : n = 0
  · obtain ⟨e, hco⟩ := h1 q
    exact ⟨_, rfl, _, _, Or.inl ⟨rfl, q, e, rfl⟩, by omega, CH.co hC h7 hco (by omega) (by omega)⟩
  · obtain ⟨e, hco⟩ := h2 q
    exact ⟨_, rfl, _, _, Or.inr ⟨rfl, q, e, rfl⟩, by omega, CH.co hC h7 hco (by omega) (by omega)⟩
/-- what was thrown is noted, nothing else -/
theorem TI.z0 (hI : TI M 744 v n A hi vi tp sz fa) : TI (mI M 744 0 0) 744 v n A hi vi tp sz fa ∧ TR 744 M (mI M 744 0 0) := by
  have h := hI.rd (RD.r hI.1)
  exact ⟨h.1, h.2.1⟩
theorem rc_undo {c y : Int} {s : Sg} (hd : 90 ≤ d) (hI : TI M 744 v n A hi vi tp sz fa) (hok : okA s.1 ∧ lawOK s.1) (hR : Z_undo v n A hi vi tp sz fa c y s) : CS G d mX8_undo [dR 744] M (VP M y s) := by
  have hac := hI.2.1
  obtain ⟨a7, an, ar⟩ := id hac
  rcases hR with ⟨-, q, rfl, rfl⟩ | ⟨-, q, rfl, rfl⟩
  · refine CS.mono (s_X8_undo_0 (by omega) hI.1.1 (a7.trans q)) ?_
    rintro r M1 ⟨b1, rfl, hx, rfl⟩
    exact ⟨_, rfl, hx, (TI.z0 hI).1, (TI.z0 hI).2⟩
  · refine CS.mono (s_X8_undo_1 (by omega) hI.1.1 a7 (by omega)) ?_
    rintro r M1 ⟨b1, rfl, hx, rfl⟩
    obtain ⟨b1, b2, -⟩ := hI.2.2
    have o : ∀ a k, ¬ a = 744 + 1 → ¬ (a = 744 ∧ (k = 0 ∨ k = 7)) → mci (mC (mI (mI M 744 0 0) 744 7 (n - 1)) (744 + 5) (368 * (n - 1)) (744 + 1) 0 368) a k = mci M a k := fun a k q1 q2 => (rdC_o (by omega)).trans ((rdI_n (by omega)).trans (rdI_n (by omega)))
    have hw : mci (mC (mI (mI M 744 0 0) 744 7 (n - 1)) (744 + 5) (368 * (n - 1)) (744 + 1) 0 368) (744 + 1) = ov (A (n - 1)) v := funext fun k => by
      by_cases z : 0 ≤ k ∧ k < 368
      · rw [rdC_i (by omega), rdI_n (by omega), rdI_n (by omega), ov_i z, show (k - 0 : Int) = k by omega]
        exact ar _ _ (by omega) (by omega) z.1 z.2
      · rw [rdC_o (by omega), rdI_n (by omega), rdI_n (by omega), ov_o z]
        exact congrFun hI.1.2.1 k
    obtain ⟨t1, t2⟩ := TI.to (g := mci (mC (mI (mI M 744 0 0) 744 7 (n - 1)) (744 + 5) (368 * (n - 1)) (744 + 1) 0 368)) (n' := n - 1) (A' := A) (hi' := hi) (vi' := vi) hI hw hok.1 hok.2 ⟨(rdC_o (by omega)).trans (rdI_e ⟨rfl, rfl⟩), by omega, fun r k r0 r1 k0 k1 => (o _ _ (by omega) (by omega)).trans (ar r k r0 (by omega) k0 k1)⟩ ⟨(o _ _ (by omega) (by omega)).trans b1.1, b1.2⟩ (fun q k k0 k1 => (o _ _ (by omega) (by omega)).trans (b2 q k k0 k1)) (fun a k q1 q2 q3 q4 => o _ _ (by omega) (by omega)) (fun a k q => o _ _ (by omega) (by omega))
    exact ⟨_, rfl, hx, t1, t2⟩
theorem xc_undo {c y : Int} {s : Sg} (hF : FX (v, n, A, hi, vi, tp, sz, fa)) (hn : 0 ≤ n ∧ n ≤ 12) (hR : Z_undo v n A hi vi tp sz fa c y s) : FX s := by
  rcases hR with ⟨-, -, -, rfl⟩ | ⟨-, q, -, rfl⟩
  · exact hF
  · exact ⟨FV.ovr (hF.2.1 (n - 1) (by omega) (show n - 1 < n by omega)), fun r a b => hF.2.1 r a (show r < n by have b' : r < n - 1 := b; omega), hF.2.2⟩
abbrev Z_image (v : Vw) (n : Int) (A : Int → Vw) (hi : Int) (vi : Vw) (tp : Int → Int) (sz fa : Int) : Int → Int → Sg → Prop := fun c y s => c = 0 ∧ y = 0 ∧ s = (v, n, A, 1, v, tp, sz, fa)
theorem uc_image (hd : 90 ≤ d) (h7 : msh M 760 = some (102, 1)) (hC : CI M v n A hi vi tp sz fa N) : CS G d mX1_image [dR 0] M (UN M N (Z_image v n A hi vi tp sz fa)) := by
  refine CS.mono (s_X1_image (by omega) hC) ?_
  rintro r M1 ⟨rfl, hco⟩
  exact ⟨rfl, _, _, ⟨rfl, rfl, rfl⟩, by omega, CH.co hC h7 hco (by omega) (by omega)⟩
theorem rc_image {c y : Int} {s : Sg} (hd : 90 ≤ d) (hI : TI M 744 v n A hi vi tp sz fa) (hR : Z_image v n A hi vi tp sz fa c y s) : CS G d mX8_image [dR 744] M (VN M s) := by
  refine CS.mono (s_X8_image (by omega) hI.1.1) ?_
  rintro r M1 ⟨rfl, rfl⟩
  obtain ⟨-, -, rfl⟩ := hR
  have hac := hI.2.1
  have o : ∀ a k, ¬ a = 744 + 2 → ¬ (a = 744 ∧ (k = 0 ∨ k = 6)) → mci (mI (mC (mI M 744 0 0) (744 + 1) 0 (744 + 2) 0 1217) 744 6 1) a k = mci M a k := fun a k q1 q2 => (rdI_n (by omega)).trans ((rdC_o (by omega)).trans (rdI_n (by omega)))
  obtain ⟨t1, t2⟩ := TI.to (g := mci (mI (mC (mI M 744 0 0) (744 + 1) 0 (744 + 2) 0 1217) 744 6 1)) (v' := v) (n' := n) (A' := A) (hi' := 1) (vi' := v) hI ((funext fun k => o _ _ (by omega) (by omega)).trans hI.1.2.1) hI.1.2.2.1 hI.1.2.2.2.1 (hac.at (o _ _ (by omega) (by omega)) fun k => o _ _ (by omega) (by omega)) ⟨rdI_e ⟨rfl, rfl⟩, Or.inr rfl⟩ (fun q k k0 k1 => by
    rw [rdI_n (by omega), rdC_i (by omega), rdI_n (by omega), show (0 + (k - 0) : Int) = k by omega]
    exact congrFun hI.1.2.1 k) (fun a k q1 q2 q3 q4 => o _ _ (by omega) (by omega)) (fun a k q => o _ _ (by omega) (by omega))
  exact ⟨rfl, t1, t2⟩
theorem xc_image {c y : Int} {s : Sg} (hF : FX (v, n, A, hi, vi, tp, sz, fa)) (hR : Z_image v n A hi vi tp sz fa c y s) : FX s := by
  obtain ⟨-, -, rfl⟩ := hR
  exact ⟨hF.1, hF.2.1, fun _ => hF.1, hF.2.2.2⟩
/-- what was kept, in the words of what is -/
def bkV (v vi : Vw) : Vw := fun k => if 0 ≤ k ∧ k < 1217 then vi k else v k
theorem bkV_i {k : Int} (h : 0 ≤ k) (h' : k < 1217) : bkV v vi k = vi k := if_pos ⟨h, h'⟩
abbrev Z_back (v : Vw) (n : Int) (A : Int → Vw) (hi : Int) (vi : Vw) (tp : Int → Int) (sz fa : Int) : Int → Int → Sg → Prop := fun c y s => (c = 0 ∧ hi = 0 ∧ y = 0 ∧ s = (v, n, A, hi, vi, tp, sz, fa)) ∨ (c = 0 ∧ hi = 1 ∧ y = 1 ∧ s = (bkV v vi, 0, A, hi, vi, tp, sz, fa))
theorem uc_back (hd : 90 ≤ d) (h7 : msh M 760 = some (102, 1)) (hC : CI M v n A hi vi tp sz fa N) : CS G d mX1_back [dR 0] M (UP M N (Z_back v n A hi vi tp sz fa)) := by
  have h01 : hi = 0 ∨ hi = 1 := hC.2.2.2.1.2
  refine CS.mono (s_X1_back (by omega) hC) ?_
  rintro r M1 ⟨y, rfl, h1, h2⟩
  rcases h01 with q | q
  · obtain ⟨e, hco⟩ := h1 q
    exact ⟨_, rfl, _, _, Or.inl ⟨rfl, q, e, rfl⟩, by omega, CH.co hC h7 hco (by omega) (by omega)⟩
  · obtain ⟨e, hco⟩ := h2 q
    have hco' : CO M (bkV v vi) 0 A hi vi tp sz fa N 0 0 M1 := ⟨hco.1.lo fun k a b => bkV_i a b, hco.2⟩
    exact ⟨_, rfl, _, _, Or.inr ⟨rfl, q, e, rfl⟩, by omega, CH.co hC h7 hco' (by omega) (by omega)⟩
theorem rc_back {c y : Int} {s : Sg} (hd : 90 ≤ d) (hI : TI M 744 v n A hi vi tp sz fa) (hok : okA s.1 ∧ lawOK s.1) (hR : Z_back v n A hi vi tp sz fa c y s) : CS G d mX8_back [dR 744] M (VP M y s) := by
  obtain ⟨a7, an, ar⟩ := id hI.2.1
  obtain ⟨⟨b6, b01⟩, b2, -⟩ := hI.2.2
  rcases hR with ⟨-, q, rfl, rfl⟩ | ⟨-, q, rfl, rfl⟩
  · refine CS.mono (s_X8_back_0 (by omega) hI.1.1 (b6.trans q)) ?_
    rintro r M1 ⟨b1, rfl, hx, rfl⟩
    exact ⟨_, rfl, hx, (TI.z0 hI).1, (TI.z0 hI).2⟩
  · refine CS.mono (s_X8_back_1 (by omega) hI.1.1 (b6.trans q)) ?_
    rintro r M1 ⟨b1, rfl, hx, rfl⟩
    have o : ∀ a k, ¬ a = 744 + 1 → ¬ (a = 744 ∧ (k = 0 ∨ k = 7)) → mci (mI (mC (mI M 744 0 0) (744 + 2) 0 (744 + 1) 0 1217) 744 7 0) a k = mci M a k := fun a k q1 q2 => (rdI_n (by omega)).trans ((rdC_o (by omega)).trans (rdI_n (by omega)))
    have hw : mci (mI (mC (mI M 744 0 0) (744 + 2) 0 (744 + 1) 0 1217) 744 7 0) (744 + 1) = bkV v vi := funext fun k => by
      by_cases z : 0 ≤ k ∧ k < 1217
      · rw [rdI_n (by omega), rdC_i (by omega), rdI_n (by omega), bkV_i z.1 z.2, show (0 + (k - 0) : Int) = k by omega]
        exact b2 q k z.1 z.2
      · rw [rdI_n (by omega), rdC_o (by omega), rdI_n (by omega), show bkV v vi k = v k from if_neg z]
        exact congrFun hI.1.2.1 k
    obtain ⟨t1, t2⟩ := TI.to (g := mci (mI (mC (mI M 744 0 0) (744 + 2) 0 (744 + 1) 0 1217) 744 7 0)) (n' := 0) (A' := A) (hi' := hi) (vi' := vi) hI hw hok.1 hok.2 ⟨rdI_e ⟨rfl, rfl⟩, by omega, fun r k r0 r1 => by omega⟩ ⟨(o _ _ (by omega) (by omega)).trans b6, b01⟩ (fun q k k0 k1 => (o _ _ (by omega) (by omega)).trans (b2 q k k0 k1)) (fun a k q1 q2 q3 q4 => o _ _ (by omega) (by omega)) (fun a k q => o _ _ (by omega) (by omega))
    exact ⟨_, rfl, hx, t1, t2⟩
theorem xc_back {c y : Int} {s : Sg} (hF : FX (v, n, A, hi, vi, tp, sz, fa)) (hR : Z_back v n A hi vi tp sz fa c y s) : FX s := by
  rcases hR with ⟨-, -, -, rfl⟩ | ⟨-, q, -, rfl⟩
  · exact hF
  · exact ⟨(hF.2.2.1 q).lo fun k a b => bkV_i a (by omega), fun r a b => absurd (show r < 0 from b) (by omega), hF.2.2⟩
abbrev Z_bench (v : Vw) (n : Int) (A : Int → Vw) (hi : Int) (vi : Vw) (tp : Int → Int) (sz fa : Int) : Int → Int → Sg → Prop := fun c y s => (∃ r, rBench tp sz v = .inr r ∧ ¬ v 1 = 12 ∧ c = 0 ∧ y = v 1 + 1 ∧ s = (bootV (us r.2 1 (v 1 + 1)), 0, A, hi, vi, tp, 0, -1)) ∨ (∃ f, rBench tp sz v = .inl f ∧ c = 1 ∧ s = (v, n, A, hi, vi, tp, 0, f)) ∨ (∃ r, rBench tp sz v = .inr r ∧ v 1 = 12 ∧ c = 2 ∧ s = (v, n, A, hi, vi, tp, 0, -1))
theorem uc_bench (hd : 90 ≤ d) (h7 : msh M 760 = some (102, 1)) (hC : CI M v n A hi vi tp sz fa N) (hF : FX (v, n, A, hi, vi, tp, sz, fa)) : CS G d mX0_bench [dR 0, dR 760] M (UW M N (Z_bench v n A hi vi tp sz fa)) := by
  refine CS.mono (s_X0_bench (by omega) hC.1.1.1.1 (s_X1_bench (by omega) hC hF.2.2.2) ?_ ?_) ?_
  · rintro y M1 ⟨r, -, -, -, hco⟩
    exact CO.h7 hC h7 hco
  · rintro a E M1 (⟨f, -, e, -⟩ | ⟨r, -, -, e, -⟩)
    · exact Or.inl e
    · exact Or.inr e
  · rintro r M1 ⟨k1, rfl, h⟩
    rcases h with ⟨rfl, y, M2, ⟨r, hr, h12, hy, hco⟩, rfl⟩ | ⟨rfl, a1, hx⟩ | ⟨rfl, a1, hx⟩
    · exact ⟨_, rfl, y, _, _, Or.inl ⟨r, hr, h12, rfl, hy, rfl⟩, fun _ => mL_v, by omega, (CH.co hC h7 hco (by omega) (by omega)).l⟩
    · rcases hx with ⟨f, hf, e, -, hco⟩ | ⟨r, hr, h12, e, hco⟩
      · exact ⟨_, rfl, 0, _, _, Or.inr (Or.inl ⟨f, hf, rfl, rfl⟩), fun q => absurd q (by omega), by omega, CH.co hC h7 hco (by omega) (by omega)⟩
      · exact absurd e (by simp)
    · rcases hx with ⟨f, hf, e, -, hco⟩ | ⟨r, hr, h12, e, hco⟩
      · exact absurd e (by simp)
      · exact ⟨_, rfl, 0, _, _, Or.inr (Or.inr ⟨r, hr, h12, rfl, rfl⟩), fun q => absurd q (by omega), by omega, CH.co hC h7 hco (by omega) (by omega)⟩
theorem rc_bench {c y : Int} {s : Sg} (hd : 90 ≤ d) (hI : TI M 744 v n A hi vi tp sz fa) (hX : TxS M) (hR : Z_bench v n A hi vi tp sz fa c y s) : CS G d mX8_bench [dR 744] M (VW M c y s) := by
  refine CS.mono (s_X8_bench (by omega) hI hX) ?_
  rintro r M1 ⟨b1, rfl, h1, h2⟩
  rcases hR with ⟨r, hr, h12, rfl, rfl, rfl⟩ | ⟨f, hf, rfl, rfl⟩ | ⟨r, hr, h12, rfl, rfl⟩
  · obtain ⟨e, t1, t3, t2⟩ := (h2 r hr).2 h12
    exact ⟨_, rfl, t3, fun _ => e, ⟨_, fun _ _ _ => rfl, t1⟩, t2⟩
  · obtain ⟨t1, t3, t2⟩ := h1 f hf
    exact ⟨_, rfl, t3, fun q => absurd q (by omega), ⟨_, fun _ _ _ => rfl, t1⟩, t2⟩
  · obtain ⟨t1, t3, t2⟩ := (h2 r hr).1 h12
    exact ⟨_, rfl, t3, fun q => absurd q (by omega), ⟨_, fun _ _ _ => rfl, t1⟩, t2⟩
theorem xc_bench {c y : Int} {s : Sg} (hF : FX (v, n, A, hi, vi, tp, sz, fa)) (hA : okA v) (hz : 0 ≤ sz ∧ sz ≤ 400) (hR : Z_bench v n A hi vi tp sz fa c y s) : FX s := by
  rcases hR with ⟨r, hr, -, -, -, rfl⟩ | ⟨f, -, -, rfl⟩ | ⟨r, -, -, -, rfl⟩
  · exact ⟨FV.bench hz hr hA.1 hF.1, fun r a b => absurd (show r < 0 from b) (by omega), hF.2.2⟩
  · exact hF
  · exact hF
abbrev Z_law (v : Vw) (n : Int) (A : Int → Vw) (hi : Int) (vi : Vw) (tp : Int → Int) (sz fa : Int) : Int → Int → Sg → Prop := fun c y s => (∃ r, rLaws tp sz (fun k => v (k + 849)) = .inr r ∧ c = 0 ∧ y = r.1 ∧ s = (lawV v r.1 r.2.2, 0, A, hi, vi, tp, 0, -1)) ∨ (∃ f, rLaws tp sz (fun k => v (k + 849)) = .inl f ∧ c = 1 ∧ s = (v, n, A, hi, vi, tp, 0, f))
theorem uc_law (hd : 90 ≤ d) (h7 : msh M 760 = some (102, 1)) (hC : CI M v n A hi vi tp sz fa N) (hF : FX (v, n, A, hi, vi, tp, sz, fa)) : CS G d mX0_law [dR 0, dR 760] M (UW M N (Z_law v n A hi vi tp sz fa)) := by
  refine CS.mono (s_X0_law (by omega) hC.1.1.1.1 (s_X1_law (by omega) hC hF.2.2.2) ?_ ?_) ?_
  · rintro y M1 ⟨r, -, -, hco⟩
    exact CO.h7 hC h7 hco
  · rintro a E M1 ⟨f, -, e, -⟩
    exact e
  · rintro r M1 ⟨k1, rfl, h⟩
    rcases h with ⟨rfl, y, M2, ⟨r, hr, hy, hco⟩, rfl⟩ | ⟨rfl, a1, ⟨f, hf, -, -, hco⟩⟩
    · exact ⟨_, rfl, y, _, _, Or.inl ⟨r, hr, rfl, hy, rfl⟩, fun _ => mL_v, by omega, (CH.co hC h7 hco (by omega) (by omega)).l⟩
    · exact ⟨_, rfl, 0, _, _, Or.inr ⟨f, hf, rfl, rfl⟩, fun q => absurd q (by omega), by omega, CH.co hC h7 hco (by omega) (by omega)⟩
theorem rc_law {c y : Int} {s : Sg} (hd : 90 ≤ d) (hI : TI M 744 v n A hi vi tp sz fa) (hX : TxS M) (hR : Z_law v n A hi vi tp sz fa c y s) : CS G d mX8_law [dR 744] M (VW M c y s) := by
  refine CS.mono (s_X8_law (by omega) hI hX) ?_
  rintro r M1 ⟨b1, rfl, h1, h2⟩
  rcases hR with ⟨r, hr, rfl, rfl, rfl⟩ | ⟨f, hf, rfl, rfl⟩
  · obtain ⟨e, t1, t3, t2⟩ := h2 r hr
    exact ⟨_, rfl, t3, fun _ => e, ⟨_, fun _ _ _ => rfl, t1⟩, t2⟩
  · obtain ⟨v', he, t1, t3, t2⟩ := h1 f hf
    exact ⟨_, rfl, t3, fun q => absurd q (by omega), ⟨v', fun k _ b => he k b, t1⟩, t2⟩
theorem xc_law {c y : Int} {s : Sg} (hF : FX (v, n, A, hi, vi, tp, sz, fa)) (hR : Z_law v n A hi vi tp sz fa c y s) : FX s := by
  rcases hR with ⟨r, -, -, -, rfl⟩ | ⟨f, -, -, rfl⟩
  · exact ⟨hF.1.law, fun r a b => absurd (show r < 0 from b) (by omega), hF.2.2⟩
  · exact hF
end U

