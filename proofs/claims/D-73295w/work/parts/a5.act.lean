/-! GuestView: acts -/
def ChO (p b c i x y q : Int) (v : Vw) : Prop := (b = p ∧ c = 11 ∧ i = 1 ∧ y = x) ∨ (b = p ∧ c = 9 ∧ i = 3 ∧ y = x) ∨ (b = p ∧ c = 12 ∧ i = 4 ∧ y = x) ∨ (b = p ∧ c = 13 ∧ i = 5 ∧ 2 * y = x) ∨ (b = p ∧ c = 14 ∧ i = 6 ∧ y = x) ∨ (b = p ∧ c = 15 ∧ i = 7 ∧ y = x) ∨ (b = p ∧ c = 17 ∧ i = 9 ∧ y = x) ∨ (b = p ∧ c = 18 ∧ i = 11 ∧ y = x) ∨ (b = p + 5 ∧ (0 ≤ c ∧ c < 10) ∧ i = 12 + c ∧ y = x) ∨ (b = p + 6 ∧ (0 ≤ c ∧ c < 8) ∧ i = 22 + c ∧ y = x) ∨ ((0 ≤ q ∧ q < v 0) ∧ b = p + 13 + 4 * q ∧ (c = 4 ∧ i = 31 + 9 * q ∨ c = 5 ∧ i = 32 + 9 * q) ∧ y = x)
theorem LawR.ch {sh : Sh} {f : Ci} {cr : Cr} {B T p b c i x y : Int} {v : Vw} (h : LawR sh f cr B T p v) (hL : lawOK v) (hb : b < B) (hc : ¬ (b = p ∧ c = 10)) (hi : i < 368) (hi2 : ¬ i = 2) : LawR sh (up f b c y) cr B T p (us v i x) :=
  (h.same (fun a a1 a2 => ⟨rfl, fun k => rdU_n (by omega), fun k => rfl⟩) (Int.le_refl T) (rdU_n (by omega)) fun n => rfl).lo hL (us_n (by omega)) fun k a b => us_n (by omega)
theorem RelS.ch {sh : Sh} {f : Ci} {cr : Cr} {B T p N b c i x y q : Int} {v : Vw} (h : RelS sh f cr B T p v N) (hv : okB v) (hL : lawOK v) (hc : ChO p b c i x y q v) (hi : i < 30 ∨ i = 32 + 9 * q) (hB : p + 44 < B) : RelS sh (up f b c y) cr B T p (us v i x) N := by
  have h8 := hv.n8
  have hv0 := hv.1.1
  have hc' := hc
  unfold ChO at hc'
  have hr : p ≤ b ∧ b ≤ p + 44 ∧ ¬ (b = p ∧ c = 10) ∧ i < 368 ∧ ¬ i = 2 ∧ ¬ i = 0 := by omega
  refine ⟨h.1.ch (q := q) hv hc, fun k w a b' c' e => ?_, h.2.2.ch hL (by omega) hr.2.2.1 hr.2.2.2.1 hr.2.2.2.2.1⟩
  have e0 : us v i x 0 = v 0 := us_n (by omega)
  rw [e0] at b'
  rw [rdU_n (by omega), witV_lo (hv.op k a b') fun j j0 j1 j2 => us_n (by omega)]
  exact h.2.1 k w a b' c' e
section X1
variable {G : GW} {d : Nat} {M : Mem} {a b c e k n x op w st hi sz fa N i p o T : Int} {v vi u : Vw} {A : Int → Vw} {tp : Int → Int}
theorem StOk.wr {g : Ci} (h : StOk M p u N) (hg : ∀ b k, (p ≤ b ∧ b ≤ p + 44) ∨ 761 ≤ b → g b k = mci M b k) : StOk (wI M g) p u N :=
  h.kp (P := fun b => (p ≤ b ∧ b ≤ p + 44) ∨ 761 ≤ b) (fun b hb => ⟨rfl, fun k => hg b k hb, fun k => rfl, fun k => rfl⟩) (fun b x y => Or.inr x) (fun b x y z => Or.inl ⟨x, y⟩) (Nat.le_refl _)
theorem CI1.wr {g : Ci} (h : CI1 M) (hg : ∀ b k, (b < 0 ∨ 761 ≤ b) → g b k = mci M b k) (hI : SkI g) : CI1 (wI M g) :=
  h.of (fun b hb => ⟨rfl, fun k => hg b k (by omega), fun k => rfl, fun k => rfl⟩) (fun b _ _ => rfl) (fun b k _ _ _ => rfl) h.2.2.2.1 hI (Nat.le_refl _)
theorem SkI.wr {f g : Ci} (h : SkI f) (hg : ∀ b, g b 6 = f b 6 ∨ b01 (g b 6)) : SkI g := by
  have e : ∀ b, b01 (f b 6) → b01 (g b 6) := fun b q => by
    rcases hg b with r | r
    · rw [r]; exact q
    · exact r
  exact ⟨fun p hp => ⟨e _ (h.1 p hp).1, e _ (h.1 p hp).2⟩, e _ h.2.1, e _ h.2.2.1, e _ h.2.2.2.1, e _ h.2.2.2.2⟩
theorem RelA.sk {sh : Sh} {f : Ci} {cr : Cr} {B T p N : Int} {v : Vw} (h : RelA sh f cr B T p v N) : b01 (f (p + 8) 6) ∧ b01 (f (p + 11) 6) := by
  have h1 := h.2.1.2.2.1
  have h2 := h.2.2.2.2.1
  rw [show p + 7 + 1 = p + 8 by omega] at h1
  rw [show p + 10 + 1 = p + 11 by omega] at h2
  exact ⟨h1, h2⟩
/-- now is another bench, under the same law; what is tried may be others -/
theorem CI.now {g : Ci} {v' : Vw} {N' : Int} (h : CI M v n A hi vi tp sz fa N) (hg : ∀ b k, ¬ (54 ≤ b ∧ b ≤ 98) → ¬ (189 ≤ b ∧ b < 203) → g b k = mci M b k) (hs : b01 (g 189 6) ∧ b01 (g 191 6) ∧ b01 (g 194 6) ∧ b01 (g 197 6)) (hSt : StOk (wI M g) 54 v' N') (hN : N ≤ N') (he : ∀ k, 368 ≤ k → k < 1217 → v' k = v k) : CO M v' n A hi vi tp sz fa N' 0 0 (wI M g) := by
  obtain ⟨h1, h2, ⟨a1, a2, a3, a4⟩, ⟨⟨b1, b2⟩, b3, ⟨b4, b5, b6⟩, b7⟩⟩ := h
  have st : ∀ p u, (p = 99 ∨ (204 ≤ p ∧ p ≤ 699)) → StOk M p u N → StOk (wI M g) p u N' := fun p u hp h => (h.wr fun b k q => hg b k (by omega) (by omega)).up hN
  refine ⟨⟨h1.wr (fun b k q => hg b k (by omega) (by omega)) ?_, hSt, ⟨(hg _ _ (by omega) (by omega)).trans a1, a2, by rw [show mci (wI M g) 0 15 = mci M 0 15 from hg _ _ (by omega) (by omega)]; exact a3, fun j x y => ?_⟩, ⟨⟨(hg _ _ (by omega) (by omega)).trans b1, b2⟩, fun q => st _ _ (by omega) (b3 q), ⟨(funext fun k => hg _ _ (by omega) (by omega)).trans b4, (hg _ _ (by omega) (by omega)).trans b5, b6⟩, (hg _ _ (by omega) (by omega)).trans b7⟩⟩, CR.w fun b k q => hg b k (by omega) (by omega)⟩
  · have hsk := hSt.2.2.sk
    have hI := h1.2.2.2.2.1
    refine ⟨fun p hp => ?_, hs⟩
    by_cases q : p = 54
    · subst q
      exact hsk
    · rw [hg (p + 8) 6 (by unfold SB at hp; omega) (by unfold SB at hp; omega), hg (p + 11) 6 (by unfold SB at hp; omega) (by unfold SB at hp; omega)]
      exact hI.1 p hp
  · rw [show mci (wI M g) 0 15 = mci M 0 15 from hg _ _ (by omega) (by omega)]
    refine (st _ _ (by omega) (a4 j x y)).lo fun k k0 k1 => ?_
    by_cases q : k < 368
    · rw [ov_i ⟨k0, q⟩, ov_i ⟨k0, q⟩]
    · rw [ov_o (by omega), ov_o (by omega)]
      exact he k (by omega) k1
/-- a state is as another one -/
theorem be_ok (hd : 13 ≤ d) (h : CI1 M) (hp : SB p) (ho : SB o) (hpo : ¬ p = o) (hSt : StOk M o u N) : CS G d mX3_be [dR p, dR o] M (postN fun M1 => (∃ g, M1 = wI (mD M (o + 2) 0 (p + 2) 0 12) g) ∧ (∀ b k, ¬ (p ≤ b ∧ b ≤ p + 44) → mci M1 b k = mci M b k) ∧ CI1 M1 ∧ StOk M1 p u N ∧ ∀ q u' N', SB q → ¬ q = p → StOk M q u' N' → StOk M1 q u' N') := by
  obtain ⟨hS, hTab, hTx, hLn, hSk, hnx⟩ := id h
  have hdj : p + 44 < o ∨ o + 44 < p := by unfold SB at hp ho; omega
  have hpb : 8 ≤ p ∧ p ≤ 699 := by unfold SB at hp; omega
  have hob : 8 ≤ o ∧ o ≤ 699 := by unfold SB at ho; omega
  refine (s_X3_be hd (hS.2.2.2.1 p hp) (hS.2.2.2.1 o ho) hSt.2.2 hSt.1 hdj (by omega) (hSk.1 p hp) (hLn o (Or.inl ho)).o).mono fun r M1 q => ?_
  obtain ⟨e1, g, e2, hRA, hF⟩ := q
  subst e2
  have ecr : ∀ b k, ¬ b = p + 2 → mcr (wI (mD M (o + 2) 0 (p + 2) 0 12) g) b k = mcr M b k := fun b k q => crD_o (by omega)
  have hkp : Kp (fun b => ¬ (p ≤ b ∧ b ≤ p + 44)) M (wI (mD M (o + 2) 0 (p + 2) 0 12) g) := fun b hb => ⟨rfl, fun k => hF b k hb, fun k => ecr b k (by omega), fun k => rfl⟩
  have hsk := hRA.sk
  refine ⟨e1, ⟨g, rfl⟩, fun b k q => hF b k q, h.of (hkp.mono fun b hb => by omega) (fun b _ _ => rfl) (fun b k _ _ q => ecr b k fun q2 => q (Or.inr (by rw [q2, show p + 2 - 2 = p by omega]; exact hp))) (fun q hq => ?_) ?_ (Nat.le_refl _), ⟨hSt.1, hSt.2.1, hRA⟩, fun q u' N' hq hqp hSq => hSq.kp hkp (fun b x y => by omega) (fun b x y z => by unfold SB at hp hq; omega) (Nat.le_refl _)⟩
  · by_cases e : q = p
    · subst e
      intro k b k0 k1 hb
      have e3 : mcr (wI (mD M (o + 2) 0 (q + 2) 0 12) g) (q + 2) k = mcr M (o + 2) (0 + (k - 0)) := crD_i ⟨rfl, by omega, by omega⟩
      rw [e3, show (0 : Int) + (k - 0) = k by omega] at hb
      exact hLn o (Or.inl ho) k b k0 k1 hb
    · exact (hLn q hq).of (fun b _ _ => rfl) (fun k _ _ => ecr _ _ (by omega)) (Int.le_refl _)
  · have hc : ∀ b, ¬ (p ≤ b ∧ b ≤ p + 44) → mci (wI (mD M (o + 2) 0 (p + 2) 0 12) g) b 6 = mci M b 6 := fun b q => hF b 6 q
    have hp2 : ¬ (p ≤ 189 ∧ 189 ≤ p + 44) ∧ ¬ (p ≤ 191 ∧ 191 ≤ p + 44) ∧ ¬ (p ≤ 194 ∧ 194 ≤ p + 44) ∧ ¬ (p ≤ 197 ∧ 197 ≤ p + 44) := by unfold SB at hp; omega
    refine ⟨fun q hq => ?_, by rw [hc _ hp2.1]; exact hSk.2.1, by rw [hc _ hp2.2.1]; exact hSk.2.2.1, by rw [hc _ hp2.2.2.1]; exact hSk.2.2.2.1, by rw [hc _ hp2.2.2.2]; exact hSk.2.2.2.2⟩
    by_cases e : q = p
    · subst e
      exact hsk
    · rw [hc _ (by unfold SB at hp hq; omega), hc _ (by unfold SB at hp hq; omega)]
      exact hSk.1 q hq
theorem s_X1_reboots (hd : 13 ≤ d) (hS : SkC (msh M) (mcr M)) (hRS : RelS (msh M) (mci M) (mcr M) 761 T 54 v N) (hvB : okB v) (hsk : b01 (mci M (54 + 7 + 1) 6) ∧ b01 (mci M (54 + 10 + 1) 6)) : CS G d mX1_reboots [dR 0] M (postN fun M1 => ∃ g, M1 = wI M g ∧ RelA (msh M) g (mcr M) 761 T 54 (bootV v) N ∧ Fo 61 66 (mci M) g) := by
  obtain ⟨⟨s0, -⟩, ⟨c0, c1, -⟩, -, hSt, -⟩ := id hS
  have hs54 := hSt 54 (by unfold SB; omega)
  obtain ⟨p0, p1, ⟨d0, d1, d2, d3, d4, d5, d6, d7⟩, ⟨t1, t2, t3, t4, t5, t6⟩, p5, p6, p7⟩ := id hs54
  refine CS.mkQ (by decide) (Nat.le_of_ble_eq_true rfl) fun Q hQ => ?_
  refine x_aload_n dX1_reboots_0 rfl rfl ?_
  refine g_getR (kI := 1) rfl dX1_reboots_1 fX1_22_1 (by first | assumption | first | assumption | (simp (disch := omega) only [shI, shR, shL, shC, shD, shW, sh_V, shN_e, shN_n, crI, crL, crC, crW, crV, crR_e, crR_n, crN_e, crN_n, ciR, ciL, ciD, ciN_e, ciN_n, rdI_e, rdI_n, rdC_i, rdC_o, rdW, rdU_e, rdU_n, rdLW, clI, clR, clC, clD, clW, clV, clN_e, clN_n, clL_e, clL_n]; done) | (simp (disch := omega) only [shI, shR, shL, shC, shD, shW, sh_V, shN_e, shN_n, crI, crL, crC, crW, crV, crR_e, crR_n, crN_e, crN_n, ciR, ciL, ciD, ciN_e, ciN_n, rdI_e, rdI_n, rdC_i, rdC_o, rdW, rdU_e, rdU_n, rdLW, clI, clR, clC, clD, clW, clV, clN_e, clN_n, clL_e, clL_n] <;> first | assumption | rfl | omega)) (by first | assumption | first | assumption | (simp (disch := omega) only [shI, shR, shL, shC, shD, shW, sh_V, shN_e, shN_n, crI, crL, crC, crW, crV, crR_e, crR_n, crN_e, crN_n, ciR, ciL, ciD, ciN_e, ciN_n, rdI_e, rdI_n, rdC_i, rdC_o, rdW, rdU_e, rdU_n, rdLW, clI, clR, clC, clD, clW, clV, clN_e, clN_n, clL_e, clL_n]; done) | (simp (disch := omega) only [shI, shR, shL, shC, shD, shW, sh_V, shN_e, shN_n, crI, crL, crC, crW, crV, crR_e, crR_n, crN_e, crN_n, ciR, ciL, ciD, ciN_e, ciN_n, rdI_e, rdI_n, rdC_i, rdC_o, rdW, rdU_e, rdU_n, rdLW, clI, clR, clC, clD, clW, clV, clN_e, clN_n, clL_e, clL_n] <;> first | assumption | rfl | omega)) ?_
  refine x_aload_n dX1_reboots_4 rfl rfl ?_
  refine g_getR (kI := 1) rfl dX1_reboots_5 fX1_22_1 (by first | assumption | first | assumption | (simp (disch := omega) only [shI, shR, shL, shC, shD, shW, sh_V, shN_e, shN_n, crI, crL, crC, crW, crV, crR_e, crR_n, crN_e, crN_n, ciR, ciL, ciD, ciN_e, ciN_n, rdI_e, rdI_n, rdC_i, rdC_o, rdW, rdU_e, rdU_n, rdLW, clI, clR, clC, clD, clW, clV, clN_e, clN_n, clL_e, clL_n]; done) | (simp (disch := omega) only [shI, shR, shL, shC, shD, shW, sh_V, shN_e, shN_n, crI, crL, crC, crW, crV, crR_e, crR_n, crN_e, crN_n, ciR, ciL, ciD, ciN_e, ciN_n, rdI_e, rdI_n, rdC_i, rdC_o, rdW, rdU_e, rdU_n, rdLW, clI, clR, clC, clD, clW, clV, clN_e, clN_n, clL_e, clL_n] <;> first | assumption | rfl | omega)) (by first | assumption | first | assumption | (simp (disch := omega) only [shI, shR, shL, shC, shD, shW, sh_V, shN_e, shN_n, crI, crL, crC, crW, crV, crR_e, crR_n, crN_e, crN_n, ciR, ciL, ciD, ciN_e, ciN_n, rdI_e, rdI_n, rdC_i, rdC_o, rdW, rdU_e, rdU_n, rdLW, clI, clR, clC, clD, clW, clV, clN_e, clN_n, clL_e, clL_n]; done) | (simp (disch := omega) only [shI, shR, shL, shC, shD, shW, sh_V, shN_e, shN_n, crI, crL, crC, crW, crV, crR_e, crR_n, crN_e, crN_n, ciR, ciL, ciD, ciN_e, ciN_n, rdI_e, rdI_n, rdC_i, rdC_o, rdW, rdU_e, rdU_n, rdLW, clI, clR, clC, clD, clW, clV, clN_e, clN_n, clL_e, clL_n] <;> first | assumption | rfl | omega)) ?_
  refine g_getR (kI := 6) rfl dX1_reboots_8 fX1_76_3 (by first | assumption | first | assumption | (simp (disch := omega) only [shI, shR, shL, shC, shD, shW, sh_V, shN_e, shN_n, crI, crL, crC, crW, crV, crR_e, crR_n, crN_e, crN_n, ciR, ciL, ciD, ciN_e, ciN_n, rdI_e, rdI_n, rdC_i, rdC_o, rdW, rdU_e, rdU_n, rdLW, clI, clR, clC, clD, clW, clV, clN_e, clN_n, clL_e, clL_n]; done) | (simp (disch := omega) only [shI, shR, shL, shC, shD, shW, sh_V, shN_e, shN_n, crI, crL, crC, crW, crV, crR_e, crR_n, crN_e, crN_n, ciR, ciL, ciD, ciN_e, ciN_n, rdI_e, rdI_n, rdC_i, rdC_o, rdW, rdU_e, rdU_n, rdLW, clI, clR, clC, clD, clW, clV, clN_e, clN_n, clL_e, clL_n] <;> first | assumption | rfl | omega)) (by first | assumption | first | assumption | (simp (disch := omega) only [shI, shR, shL, shC, shD, shW, sh_V, shN_e, shN_n, crI, crL, crC, crW, crV, crR_e, crR_n, crN_e, crN_n, ciR, ciL, ciD, ciN_e, ciN_n, rdI_e, rdI_n, rdC_i, rdC_o, rdW, rdU_e, rdU_n, rdLW, clI, clR, clC, clD, clW, clV, clN_e, clN_n, clL_e, clL_n]; done) | (simp (disch := omega) only [shI, shR, shL, shC, shD, shW, sh_V, shN_e, shN_n, crI, crL, crC, crW, crV, crR_e, crR_n, crN_e, crN_n, ciR, ciL, ciD, ciN_e, ciN_n, rdI_e, rdI_n, rdC_i, rdC_o, rdW, rdU_e, rdU_n, rdLW, clI, clR, clC, clD, clW, clV, clN_e, clN_n, clL_e, clL_n] <;> first | assumption | rfl | omega)) ?_
  refine x_aload_n dX1_reboots_11 rfl rfl ?_
  refine g_getR (kI := 1) rfl dX1_reboots_12 fX1_22_1 (by first | assumption | first | assumption | (simp (disch := omega) only [shI, shR, shL, shC, shD, shW, sh_V, shN_e, shN_n, crI, crL, crC, crW, crV, crR_e, crR_n, crN_e, crN_n, ciR, ciL, ciD, ciN_e, ciN_n, rdI_e, rdI_n, rdC_i, rdC_o, rdW, rdU_e, rdU_n, rdLW, clI, clR, clC, clD, clW, clV, clN_e, clN_n, clL_e, clL_n]; done) | (simp (disch := omega) only [shI, shR, shL, shC, shD, shW, sh_V, shN_e, shN_n, crI, crL, crC, crW, crV, crR_e, crR_n, crN_e, crN_n, ciR, ciL, ciD, ciN_e, ciN_n, rdI_e, rdI_n, rdC_i, rdC_o, rdW, rdU_e, rdU_n, rdLW, clI, clR, clC, clD, clW, clV, clN_e, clN_n, clL_e, clL_n] <;> first | assumption | rfl | omega)) (by first | assumption | first | assumption | (simp (disch := omega) only [shI, shR, shL, shC, shD, shW, sh_V, shN_e, shN_n, crI, crL, crC, crW, crV, crR_e, crR_n, crN_e, crN_n, ciR, ciL, ciD, ciN_e, ciN_n, rdI_e, rdI_n, rdC_i, rdC_o, rdW, rdU_e, rdU_n, rdLW, clI, clR, clC, clD, clW, clV, clN_e, clN_n, clL_e, clL_n]; done) | (simp (disch := omega) only [shI, shR, shL, shC, shD, shW, sh_V, shN_e, shN_n, crI, crL, crC, crW, crV, crR_e, crR_n, crN_e, crN_n, ciR, ciL, ciD, ciN_e, ciN_n, rdI_e, rdI_n, rdC_i, rdC_o, rdW, rdU_e, rdU_n, rdLW, clI, clR, clC, clD, clW, clV, clN_e, clN_n, clL_e, clL_n] <;> first | assumption | rfl | omega)) ?_
  refine g_getR (kI := 7) rfl dX1_reboots_15 fX1_79_3 (by first | assumption | first | assumption | (simp (disch := omega) only [shI, shR, shL, shC, shD, shW, sh_V, shN_e, shN_n, crI, crL, crC, crW, crV, crR_e, crR_n, crN_e, crN_n, ciR, ciL, ciD, ciN_e, ciN_n, rdI_e, rdI_n, rdC_i, rdC_o, rdW, rdU_e, rdU_n, rdLW, clI, clR, clC, clD, clW, clV, clN_e, clN_n, clL_e, clL_n]; done) | (simp (disch := omega) only [shI, shR, shL, shC, shD, shW, sh_V, shN_e, shN_n, crI, crL, crC, crW, crV, crR_e, crR_n, crN_e, crN_n, ciR, ciL, ciD, ciN_e, ciN_n, rdI_e, rdI_n, rdC_i, rdC_o, rdW, rdU_e, rdU_n, rdLW, clI, clR, clC, clD, clW, clV, clN_e, clN_n, clL_e, clL_n] <;> first | assumption | rfl | omega)) (by first | assumption | first | assumption | (simp (disch := omega) only [shI, shR, shL, shC, shD, shW, sh_V, shN_e, shN_n, crI, crL, crC, crW, crV, crR_e, crR_n, crN_e, crN_n, ciR, ciL, ciD, ciN_e, ciN_n, rdI_e, rdI_n, rdC_i, rdC_o, rdW, rdU_e, rdU_n, rdLW, clI, clR, clC, clD, clW, clV, clN_e, clN_n, clL_e, clL_n]; done) | (simp (disch := omega) only [shI, shR, shL, shC, shD, shW, sh_V, shN_e, shN_n, crI, crL, crC, crW, crV, crR_e, crR_n, crN_e, crN_n, ciR, ciL, ciD, ciN_e, ciN_n, rdI_e, rdI_n, rdC_i, rdC_o, rdW, rdU_e, rdU_n, rdLW, clI, clR, clC, clD, clW, clV, clN_e, clN_n, clL_e, clL_n] <;> first | assumption | rfl | omega)) ?_
  refine g_callN (vs := [_, _, _]) (d' := d - 1) rfl (s_X3_boots (by omega) hs54 p5 p6 hRS.1 hvB (Or.inl rfl) (Or.inr (Or.inl rfl)) (by omega)) dX1_reboots_18 kX1_82 (by omega) (by decide) rfl (Nat.le_of_ble_eq_true rfl) (rcv_o (by first | assumption | first | assumption | (simp (disch := omega) only [shI, shR, shL, shC, shD, shW, sh_V, shN_e, shN_n, crI, crL, crC, crW, crV, crR_e, crR_n, crN_e, crN_n, ciR, ciL, ciD, ciN_e, ciN_n, rdI_e, rdI_n, rdC_i, rdC_o, rdW, rdU_e, rdU_n, rdLW, clI, clR, clC, clD, clW, clV, clN_e, clN_n, clL_e, clL_n]; done) | (simp (disch := omega) only [shI, shR, shL, shC, shD, shW, sh_V, shN_e, shN_n, crI, crL, crC, crW, crV, crR_e, crR_n, crN_e, crN_n, ciR, ciL, ciD, ciN_e, ciN_n, rdI_e, rdI_n, rdC_i, rdC_o, rdW, rdU_e, rdU_n, rdLW, clI, clR, clC, clD, clW, clV, clN_e, clN_n, clL_e, clL_n] <;> first | assumption | rfl | omega)) rfl) (fun M18 h18 => ?_)
  obtain ⟨g18, hM18, a18, b18, f18⟩ := h18
  refine x_vreturn rfl dX1_reboots_21 ?_
  subst hM18
  refine hQ _ _ ⟨rfl, g18, rfl, ⟨?_, RelG.boot (Or.inl rfl) a18 hsk.1, ?_⟩, fun b k q => f18 b k (by omega) (by omega)⟩
  · have h := hRS.fr (g := g18) hvB (fun b k q1 q2 q3 => f18 b k (by omega) (by omega)) (by omega)
    exact h.eqB hvB bootV_eqB
  · rw [bootV_eqB 5 (by omega)]
    exact RelG.boot (Or.inr rfl) b18 hsk.2
theorem s_X1_remembers (hd : 16 ≤ d) (hC : CI M v n A hi vi tp sz fa N) : CS G d mX1_remembers [dR 0] M (postN fun M1 => CO M v (remN n) (remA A n v) hi vi tp sz fa N 0 0 M1) := by
  obtain ⟨hC1, hC54, hCA, hCR⟩ := id hC; obtain ⟨hS, hTab, hTx, hLn, hSk, hnx⟩ := id hC1; obtain ⟨hA, hL, hR⟩ := id hC54; obtain ⟨⟨s0, s199, s200, s201, s202, s203⟩, ⟨c0, c1, c2, c3, c4, c5, c6, c7, c8, c9, c10, c11, c12⟩, c203, hSt, m189, m191, g193, g196, ⟨⟨r2, r3, r4, r5, r6, r7, r53⟩, ⟨w0, w1, w2, w3, w4, w5, w6⟩, wx1, wx2, wx3⟩⟩ := id hS; have hv := hA.1; have hv8 := hv.n8; have hv0 := hv.1.1; have hv3 := hv.2.2.2.1; have hs54 := hSt 54 (by unfold SB; omega); obtain ⟨p0, p1, ⟨d0, d1, d2, d3, d4, d5, d6, d7⟩, ⟨t1, t2, t3, t4, t5, t6⟩, p5, p6, p7⟩ := id hs54; have t7 : msh M (54 + 7) = some (4, 0) := p5.2.1; have t10 : msh M (54 + 10) = some (4, 0) := p6.2.1; obtain ⟨hB, hW, hLw⟩ := id hR.1; obtain ⟨b1, b2, b3, b4, b5, b6, b7, b8, b9, b10, b11, b12, b13, b14, b15⟩ := id hB; obtain ⟨hn, hn2, hat, hAc⟩ := id hCA; obtain ⟨⟨hki, hhi⟩, hIm, ⟨htp, hsz, hsz2⟩, hfa⟩ := id hCR
  have hpS : SB (204 + 45 * mci M 0 15) := by unfold SB; omega
  have hpt := (hSt _ hpS).2.1
  refine CS.mkQ (by decide) (Nat.le_of_ble_eq_true rfl) fun Q hQ => ?_
  refine x_aload_n dX1_remembers_0 rfl rfl ?_
  refine g_getR (kI := 4) rfl dX1_remembers_1 fX1_69_1 (by first | assumption | first | assumption | (simp (disch := omega) only [shI, shR, shL, shC, shD, shW, sh_V, shN_e, shN_n, crI, crL, crC, crW, crV, crR_e, crR_n, crN_e, crN_n, ciR, ciL, ciD, ciN_e, ciN_n, rdI_e, rdI_n, rdC_i, rdC_o, rdW, rdU_e, rdU_n, rdLW, clI, clR, clC, clD, clW, clV, clN_e, clN_n, clL_e, clL_n]; done) | (simp (disch := omega) only [shI, shR, shL, shC, shD, shW, sh_V, shN_e, shN_n, crI, crL, crC, crW, crV, crR_e, crR_n, crN_e, crN_n, ciR, ciL, ciD, ciN_e, ciN_n, rdI_e, rdI_n, rdC_i, rdC_o, rdW, rdU_e, rdU_n, rdLW, clI, clR, clC, clD, clW, clV, clN_e, clN_n, clL_e, clL_n] <;> first | assumption | rfl | omega)) (by first | assumption | first | assumption | (simp (disch := omega) only [shI, shR, shL, shC, shD, shW, sh_V, shN_e, shN_n, crI, crL, crC, crW, crV, crR_e, crR_n, crN_e, crN_n, ciR, ciL, ciD, ciN_e, ciN_n, rdI_e, rdI_n, rdC_i, rdC_o, rdW, rdU_e, rdU_n, rdLW, clI, clR, clC, clD, clW, clV, clN_e, clN_n, clL_e, clL_n]; done) | (simp (disch := omega) only [shI, shR, shL, shC, shD, shW, sh_V, shN_e, shN_n, crI, crL, crC, crW, crV, crR_e, crR_n, crN_e, crN_n, ciR, ciL, ciD, ciN_e, ciN_n, rdI_e, rdI_n, rdC_i, rdC_o, rdW, rdU_e, rdU_n, rdLW, clI, clR, clC, clD, clW, clV, clN_e, clN_n, clL_e, clL_n] <;> first | assumption | rfl | omega)) ?_
  refine x_aload_n dX1_remembers_4 rfl rfl ?_
  refine g_getI (kI := 15) rfl dX1_remembers_5 fX1_310_1 (by first | assumption | first | assumption | (simp (disch := omega) only [shI, shR, shL, shC, shD, shW, sh_V, shN_e, shN_n, crI, crL, crC, crW, crV, crR_e, crR_n, crN_e, crN_n, ciR, ciL, ciD, ciN_e, ciN_n, rdI_e, rdI_n, rdC_i, rdC_o, rdW, rdU_e, rdU_n, rdLW, clI, clR, clC, clD, clW, clV, clN_e, clN_n, clL_e, clL_n]; done) | (simp (disch := omega) only [shI, shR, shL, shC, shD, shW, sh_V, shN_e, shN_n, crI, crL, crC, crW, crV, crR_e, crR_n, crN_e, crN_n, ciR, ciL, ciD, ciN_e, ciN_n, rdI_e, rdI_n, rdC_i, rdC_o, rdW, rdU_e, rdU_n, rdLW, clI, clR, clC, clD, clW, clV, clN_e, clN_n, clL_e, clL_n] <;> first | assumption | rfl | omega)) ?_
  try simp (disch := omega) only [rdI_e, rdI_n, rdC_i, rdC_o, rdW, rdR, rdU_e, rdU_n, rdLW, Int.add_zero, e15, e14]
  refine x_aald (t := 123) rfl (by decide) dX1_remembers_8 (by first | assumption | first | assumption | (simp (disch := omega) only [shI, shR, shL, shC, shD, shW, sh_V, shN_e, shN_n, crI, crL, crC, crW, crV, crR_e, crR_n, crN_e, crN_n, ciR, ciL, ciD, ciN_e, ciN_n, rdI_e, rdI_n, rdC_i, rdC_o, rdW, rdU_e, rdU_n, rdLW, clI, clR, clC, clD, clW, clV, clN_e, clN_n, clL_e, clL_n]; done) | (simp (disch := omega) only [shI, shR, shL, shC, shD, shW, sh_V, shN_e, shN_n, crI, crL, crC, crW, crV, crR_e, crR_n, crN_e, crN_n, ciR, ciL, ciD, ciN_e, ciN_n, rdI_e, rdI_n, rdC_i, rdC_o, rdW, rdU_e, rdU_n, rdLW, clI, clR, clC, clD, clW, clV, clN_e, clN_n, clL_e, clL_n] <;> first | assumption | rfl | omega)) (by omega) (by omega) (by exact c203 _ (by omega) (by omega)) ?_
  refine x_aload_n dX1_remembers_9 rfl rfl ?_
  refine g_getR (kI := 1) rfl dX1_remembers_10 fX1_22_1 (by first | assumption | first | assumption | (simp (disch := omega) only [shI, shR, shL, shC, shD, shW, sh_V, shN_e, shN_n, crI, crL, crC, crW, crV, crR_e, crR_n, crN_e, crN_n, ciR, ciL, ciD, ciN_e, ciN_n, rdI_e, rdI_n, rdC_i, rdC_o, rdW, rdU_e, rdU_n, rdLW, clI, clR, clC, clD, clW, clV, clN_e, clN_n, clL_e, clL_n]; done) | (simp (disch := omega) only [shI, shR, shL, shC, shD, shW, sh_V, shN_e, shN_n, crI, crL, crC, crW, crV, crR_e, crR_n, crN_e, crN_n, ciR, ciL, ciD, ciN_e, ciN_n, rdI_e, rdI_n, rdC_i, rdC_o, rdW, rdU_e, rdU_n, rdLW, clI, clR, clC, clD, clW, clV, clN_e, clN_n, clL_e, clL_n] <;> first | assumption | rfl | omega)) (by first | assumption | first | assumption | (simp (disch := omega) only [shI, shR, shL, shC, shD, shW, sh_V, shN_e, shN_n, crI, crL, crC, crW, crV, crR_e, crR_n, crN_e, crN_n, ciR, ciL, ciD, ciN_e, ciN_n, rdI_e, rdI_n, rdC_i, rdC_o, rdW, rdU_e, rdU_n, rdLW, clI, clR, clC, clD, clW, clV, clN_e, clN_n, clL_e, clL_n]; done) | (simp (disch := omega) only [shI, shR, shL, shC, shD, shW, sh_V, shN_e, shN_n, crI, crL, crC, crW, crV, crR_e, crR_n, crN_e, crN_n, ciR, ciL, ciD, ciN_e, ciN_n, rdI_e, rdI_n, rdC_i, rdC_o, rdW, rdU_e, rdU_n, rdLW, clI, clR, clC, clD, clW, clV, clN_e, clN_n, clL_e, clL_n] <;> first | assumption | rfl | omega)) ?_
  refine g_callN (vs := [_, _]) (d' := d - 1) rfl (be_ok (p := 204 + 45 * mci M 0 15) (o := 54) (by omega) hC1 hpS (by unfold SB; omega) (by omega) hC54) dX1_remembers_13 kX1_153 (by omega) (by decide) rfl (Nat.le_of_ble_eq_true rfl) (rcv_o (by first | assumption | first | assumption | (simp (disch := omega) only [shI, shR, shL, shC, shD, shW, sh_V, shN_e, shN_n, crI, crL, crC, crW, crV, crR_e, crR_n, crN_e, crN_n, ciR, ciL, ciD, ciN_e, ciN_n, rdI_e, rdI_n, rdC_i, rdC_o, rdW, rdU_e, rdU_n, rdLW, clI, clR, clC, clD, clW, clV, clN_e, clN_n, clL_e, clL_n]; done) | (simp (disch := omega) only [shI, shR, shL, shC, shD, shW, sh_V, shN_e, shN_n, crI, crL, crC, crW, crV, crR_e, crR_n, crN_e, crN_n, ciR, ciL, ciD, ciN_e, ciN_n, rdI_e, rdI_n, rdC_i, rdC_o, rdW, rdU_e, rdU_n, rdLW, clI, clR, clC, clD, clW, clV, clN_e, clN_n, clL_e, clL_n] <;> first | assumption | rfl | omega)) rfl) (fun M13 h13 => ?_)
  obtain ⟨⟨g13, hM13⟩, f13, q13, y13, z13⟩ := h13
  have s0' : msh M13 0 = some (1, 0) := q13.1.1.1
  have e15 : mci M13 0 15 = mci M 0 15 := f13 _ _ (by omega)
  have e14 : mci M13 0 14 = n := (f13 _ _ (by omega)).trans hn
  have c13 : ∀ k, mci M13 0 k = mci M 0 k := fun k => f13 _ _ (by omega)
  have nx13 : mnx M13 = mnx M := by rw [hM13]; rfl
  have ns13 : mns M13 = mns M := by rw [hM13]; rfl
  have kp13 : Kp (fun b => b < 0 ∨ 744 ≤ b) M M13 := fun b hb => ⟨by rw [hM13]; rfl, fun k => f13 b k (by omega), fun k => by rw [hM13]; exact crD_o (by omega), fun k => by rw [hM13]; rfl⟩
  have tp13 : mci M13 3 = mci M 3 := funext fun k => f13 _ _ (by omega)
  have sz13 : mci M13 2 7 = mci M 2 7 := f13 _ _ (by omega)
  clear hM13
  refine x_aload_n dX1_remembers_16 rfl rfl ?_
  refine x_aload_n dX1_remembers_17 rfl rfl ?_
  refine g_getI (kI := 15) rfl dX1_remembers_18 fX1_310_1 (by first | assumption | first | assumption | (simp (disch := omega) only [shI, shR, shL, shC, shD, shW, sh_V, shN_e, shN_n, crI, crL, crC, crW, crV, crR_e, crR_n, crN_e, crN_n, ciR, ciL, ciD, ciN_e, ciN_n, rdI_e, rdI_n, rdC_i, rdC_o, rdW, rdU_e, rdU_n, rdLW, clI, clR, clC, clD, clW, clV, clN_e, clN_n, clL_e, clL_n]; done) | (simp (disch := omega) only [shI, shR, shL, shC, shD, shW, sh_V, shN_e, shN_n, crI, crL, crC, crW, crV, crR_e, crR_n, crN_e, crN_n, ciR, ciL, ciD, ciN_e, ciN_n, rdI_e, rdI_n, rdC_i, rdC_o, rdW, rdU_e, rdU_n, rdLW, clI, clR, clC, clD, clW, clV, clN_e, clN_n, clL_e, clL_n] <;> first | assumption | rfl | omega)) ?_
  try simp (disch := omega) only [rdI_e, rdI_n, rdC_i, rdC_o, rdW, rdR, rdU_e, rdU_n, rdLW, Int.add_zero, e15, e14]
  refine x_iconst dX1_remembers_21 rfl ?_
  first | refine x_iaddN dX1_remembers_22 (by unfold i32; omega) ?_ | refine x_iadd dX1_remembers_22 ?_
  refine x_bipush dX1_remembers_23 rfl ?_
  first | refine x_iremN dX1_remembers_25 (by omega) (by omega) ?_ | refine x_irem dX1_remembers_25 (by omega) ?_
  refine g_putI (kI := 15) rfl dX1_remembers_26 fX1_310_1 (by first | assumption | first | assumption | (simp (disch := omega) only [shI, shR, shL, shC, shD, shW, sh_V, shN_e, shN_n, crI, crL, crC, crW, crV, crR_e, crR_n, crN_e, crN_n, ciR, ciL, ciD, ciN_e, ciN_n, rdI_e, rdI_n, rdC_i, rdC_o, rdW, rdU_e, rdU_n, rdLW, clI, clR, clC, clD, clW, clV, clN_e, clN_n, clL_e, clL_n]; done) | (simp (disch := omega) only [shI, shR, shL, shC, shD, shW, sh_V, shN_e, shN_n, crI, crL, crC, crW, crV, crR_e, crR_n, crN_e, crN_n, ciR, ciL, ciD, ciN_e, ciN_n, rdI_e, rdI_n, rdC_i, rdC_o, rdW, rdU_e, rdU_n, rdLW, clI, clR, clC, clD, clW, clV, clN_e, clN_n, clL_e, clL_n] <;> first | assumption | rfl | omega)) ?_
  refine x_aload_n dX1_remembers_29 rfl rfl ?_
  refine x_bipush dX1_remembers_30 rfl ?_
  refine x_aload_n dX1_remembers_32 rfl rfl ?_
  refine g_getI (kI := 14) rfl dX1_remembers_33 fX1_157_1 (by first | assumption | first | assumption | (simp (disch := omega) only [shI, shR, shL, shC, shD, shW, sh_V, shN_e, shN_n, crI, crL, crC, crW, crV, crR_e, crR_n, crN_e, crN_n, ciR, ciL, ciD, ciN_e, ciN_n, rdI_e, rdI_n, rdC_i, rdC_o, rdW, rdU_e, rdU_n, rdLW, clI, clR, clC, clD, clW, clV, clN_e, clN_n, clL_e, clL_n]; done) | (simp (disch := omega) only [shI, shR, shL, shC, shD, shW, sh_V, shN_e, shN_n, crI, crL, crC, crW, crV, crR_e, crR_n, crN_e, crN_n, ciR, ciL, ciD, ciN_e, ciN_n, rdI_e, rdI_n, rdC_i, rdC_o, rdW, rdU_e, rdU_n, rdLW, clI, clR, clC, clD, clW, clV, clN_e, clN_n, clL_e, clL_n] <;> first | assumption | rfl | omega)) ?_
  try simp (disch := omega) only [rdI_e, rdI_n, rdC_i, rdC_o, rdW, rdR, rdU_e, rdU_n, rdLW, Int.add_zero, e15, e14]
  refine x_iconst dX1_remembers_36 rfl ?_
  first | refine x_iaddN dX1_remembers_37 (by unfold i32; omega) ?_ | refine x_iadd dX1_remembers_37 ?_
  refine g_callI (vs := [_, _]) (d' := d - 1) rfl (s_min (by omega)) dX1_remembers_38 kX1_313 (by omega) (by decide) rfl (Nat.le_of_ble_eq_true rfl) (rcv_n) (fun x38 M38 h38 => ?_)
  obtain ⟨e38, f38⟩ := h38
  have f38' := f38.symm
  subst f38'
  refine g_putI (kI := 14) rfl dX1_remembers_41 fX1_157_1 (by first | assumption | first | assumption | (simp (disch := omega) only [shI, shR, shL, shC, shD, shW, sh_V, shN_e, shN_n, crI, crL, crC, crW, crV, crR_e, crR_n, crN_e, crN_n, ciR, ciL, ciD, ciN_e, ciN_n, rdI_e, rdI_n, rdC_i, rdC_o, rdW, rdU_e, rdU_n, rdLW, clI, clR, clC, clD, clW, clV, clN_e, clN_n, clL_e, clL_n]; done) | (simp (disch := omega) only [shI, shR, shL, shC, shD, shW, sh_V, shN_e, shN_n, crI, crL, crC, crW, crV, crR_e, crR_n, crN_e, crN_n, ciR, ciL, ciD, ciN_e, ciN_n, rdI_e, rdI_n, rdC_i, rdC_o, rdW, rdU_e, rdU_n, rdLW, clI, clR, clC, clD, clW, clV, clN_e, clN_n, clL_e, clL_n] <;> first | assumption | rfl | omega)) ?_
  refine x_vreturn rfl dX1_remembers_44 ?_
  refine hQ _ _ ⟨rfl, ?_⟩
  have ex : x38 = remN n := by unfold remN; split <;> omega
  subst ex
  have eF : ∀ b k, ¬ b = 0 → mci (mI (mI M13 0 15 ((mci M 0 15 + 1) % 12)) 0 14 (remN n)) b k = mci M13 b k := fun b k q => by
    rw [rdI_n (by omega), rdI_n (by omega)]
  have w1 := q13.wr (g := mci (mI (mI M13 0 15 ((mci M 0 15 + 1) % 12)) 0 14 (remN n))) (fun b k q => eF b k (by omega)) (q13.2.2.2.2.1.wr fun b => Or.inl (by rw [rdI_n (by omega), rdI_n (by omega)]))
  have st : ∀ p u N, 8 ≤ p → StOk M13 p u N → StOk (mI (mI M13 0 15 ((mci M 0 15 + 1) % 12)) 0 14 (remN n)) p u N := fun p u N hp h => h.wr (g := mci (mI (mI M13 0 15 ((mci M 0 15 + 1) % 12)) 0 14 (remN n))) fun b k q => eF b k (by omega)
  have sv : ∀ q u N, SB q → ¬ q = 204 + 45 * mci M 0 15 → StOk M q u N → StOk (mI (mI M13 0 15 ((mci M 0 15 + 1) % 12)) 0 14 (remN n)) q u N := fun q u N hq hqp h => st q u N (by unfold SB at hq; omega) (z13 q u N hq hqp h)
  have en : 1 ≤ remN n ∧ remN n ≤ 12 := by unfold remN; split <;> omega
  refine ⟨⟨w1, sv 54 v N (by unfold SB; omega) (by omega) hC54, ⟨rdI_e ⟨rfl, rfl⟩, by omega, ?_, fun j j0 j1 => ?_⟩, ⟨⟨(rdI_n (by omega)).trans ((rdI_n (by omega)).trans ((c13 16).trans hki)), hhi⟩, fun q => sv 99 vi N (by unfold SB; omega) (by omega) (hIm q), ⟨(funext fun k => eF _ _ (by omega)).trans (tp13.trans htp), (eF _ _ (by omega)).trans (sz13.trans hsz), hsz2⟩, (rdI_n (by omega)).trans ((rdI_n (by omega)).trans ((c13 13).trans hfa))⟩⟩, (kp13.mono fun b hb => by omega).trans fun b hb => ⟨rfl, fun k => eF b k (by omega), fun k => rfl, fun k => rfl⟩, by show mnx M ≤ mnx M13; omega, by show mnx M13 ≤ mnx M + 0; omega, by show mns M13 ≤ mns M + 0; omega⟩
  · rw [rdI_n (by omega), rdI_e ⟨rfl, rfl⟩]
    omega
  · rw [show mci (mI (mI M13 0 15 ((mci M 0 15 + 1) % 12)) 0 14 (remN n)) 0 15 = (mci M 0 15 + 1) % 12 from (rdI_n (by omega)).trans (rdI_e ⟨rfl, rfl⟩)]
    by_cases q : j = 0
    · subst q
      rw [show ((mci M 0 15 + 1) % 12 - 1 - 0) % 12 = mci M 0 15 by omega]
      have e1 : ov (remA A n v (remN n - 1 - 0)) v = v := by
        unfold remA
        rw [if_pos (by omega)]
        exact ov_s
      rw [e1]
      exact st _ _ _ (by omega) y13
    · rw [show ((mci M 0 15 + 1) % 12 - 1 - j) % 12 = (mci M 0 15 - 1 - (j - 1)) % 12 by omega]
      have e1 : remA A n v (remN n - 1 - j) = A (n - 1 - (j - 1)) := by
        unfold remA
        rw [if_neg (by omega)]
        by_cases q12 : n = 12
        · rw [if_pos q12]
          have : remN n = 12 := by unfold remN; rw [if_pos q12]
          exact congrArg A (by omega)
        · rw [if_neg q12]
          have : remN n = n + 1 := by unfold remN; rw [if_neg q12]
          exact congrArg A (by omega)
      rw [e1]
      have hj : j - 1 < n := by unfold remN at j1; split at j1 <;> omega
      exact sv _ _ _ (by unfold SB; omega) (by omega) (hAc (j - 1) (by omega) hj)
theorem s_X1_boot (hd : 18 ≤ d) (hC : CI M v n A hi vi tp sz fa N) : CS G d mX1_boot [dR 0] M (postN fun M1 => CO M (bootV v) (remN n) (remA A n v) hi vi tp sz fa N 0 0 M1) := by
  obtain ⟨hC1, hC54, hCA, hCR⟩ := id hC; obtain ⟨hS, hTab, hTx, hLn, hSk, hnx⟩ := id hC1; obtain ⟨hA, hL, hR⟩ := id hC54; obtain ⟨⟨s0, s199, s200, s201, s202, s203⟩, ⟨c0, c1, c2, c3, c4, c5, c6, c7, c8, c9, c10, c11, c12⟩, c203, hSt, m189, m191, g193, g196, ⟨⟨r2, r3, r4, r5, r6, r7, r53⟩, ⟨w0, w1, w2, w3, w4, w5, w6⟩, wx1, wx2, wx3⟩⟩ := id hS; have hv := hA.1; have hv8 := hv.n8; have hv0 := hv.1.1; have hv3 := hv.2.2.2.1; have hs54 := hSt 54 (by unfold SB; omega); obtain ⟨p0, p1, ⟨d0, d1, d2, d3, d4, d5, d6, d7⟩, ⟨t1, t2, t3, t4, t5, t6⟩, p5, p6, p7⟩ := id hs54; have t7 : msh M (54 + 7) = some (4, 0) := p5.2.1; have t10 : msh M (54 + 10) = some (4, 0) := p6.2.1; obtain ⟨hB, hW, hLw⟩ := id hR.1; obtain ⟨b1, b2, b3, b4, b5, b6, b7, b8, b9, b10, b11, b12, b13, b14, b15⟩ := id hB; obtain ⟨hn, hn2, hat, hAc⟩ := id hCA; obtain ⟨⟨hki, hhi⟩, hIm, ⟨htp, hsz, hsz2⟩, hfa⟩ := id hCR
  refine CS.mkQ (by decide) (Nat.le_of_ble_eq_true rfl) fun Q hQ => ?_
  refine x_aload_n dX1_boot_0 rfl rfl ?_
  refine g_callN (vs := [_]) (d' := d - 1) rfl (s_X1_remembers (by omega) hC) dX1_boot_1 kX1_323 (by omega) (by decide) rfl (Nat.le_of_ble_eq_true rfl) (rcv_o (by first | assumption | first | assumption | (simp (disch := omega) only [shI, shR, shL, shC, shD, shW, sh_V, shN_e, shN_n, crI, crL, crC, crW, crV, crR_e, crR_n, crN_e, crN_n, ciR, ciL, ciD, ciN_e, ciN_n, rdI_e, rdI_n, rdC_i, rdC_o, rdW, rdU_e, rdU_n, rdLW, clI, clR, clC, clD, clW, clV, clN_e, clN_n, clL_e, clL_n]; done) | (simp (disch := omega) only [shI, shR, shL, shC, shD, shW, sh_V, shN_e, shN_n, crI, crL, crC, crW, crV, crR_e, crR_n, crN_e, crN_n, ciR, ciL, ciD, ciN_e, ciN_n, rdI_e, rdI_n, rdC_i, rdC_o, rdW, rdU_e, rdU_n, rdLW, clI, clR, clC, clD, clW, clV, clN_e, clN_n, clL_e, clL_n] <;> first | assumption | rfl | omega)) rfl) (fun M1 h1 => ?_)
  obtain ⟨hC, hCr⟩ := h1
  obtain ⟨hC1, hC54, hCA, hCR⟩ := id hC; obtain ⟨hS, hTab, hTx, hLn, hSk, hnx⟩ := id hC1; obtain ⟨hA, hL, hR⟩ := id hC54; obtain ⟨⟨s0, s199, s200, s201, s202, s203⟩, ⟨c0, c1, c2, c3, c4, c5, c6, c7, c8, c9, c10, c11, c12⟩, c203, hSt, m189, m191, g193, g196, ⟨⟨r2, r3, r4, r5, r6, r7, r53⟩, ⟨w0, w1, w2, w3, w4, w5, w6⟩, wx1, wx2, wx3⟩⟩ := id hS; have hv := hA.1; have hv8 := hv.n8; have hv0 := hv.1.1; have hv3 := hv.2.2.2.1; have hs54 := hSt 54 (by unfold SB; omega); obtain ⟨p0, p1, ⟨d0, d1, d2, d3, d4, d5, d6, d7⟩, ⟨t1, t2, t3, t4, t5, t6⟩, p5, p6, p7⟩ := id hs54; have t7 : msh (M1) (54 + 7) = some (4, 0) := p5.2.1; have t10 : msh (M1) (54 + 10) = some (4, 0) := p6.2.1; obtain ⟨hB, hW, hLw⟩ := id hR.1; obtain ⟨b1, b2, b3, b4, b5, b6, b7, b8, b9, b10, b11, b12, b13, b14, b15⟩ := id hB; obtain ⟨hn, hn2, hat, hAc⟩ := id hCA; obtain ⟨⟨hki, hhi⟩, hIm, ⟨htp, hsz, hsz2⟩, hfa⟩ := id hCR
  have hRS := hR.1
  have hvB := hv
  have hsk : b01 (mci M1 (54 + 7 + 1) 6) ∧ b01 (mci M1 (54 + 10 + 1) 6) := ⟨hR.2.1.2.2.1, hR.2.2.2.2.1⟩
  refine x_aload_n dX1_boot_4 rfl rfl ?_
  refine g_callN (vs := [_]) (d' := d - 1) rfl (s_X1_reboots (by omega) hS hRS hvB hsk) dX1_boot_5 kX1_330 (by omega) (by decide) rfl (Nat.le_of_ble_eq_true rfl) (rcv_o (by first | assumption | first | assumption | (simp (disch := omega) only [shI, shR, shL, shC, shD, shW, sh_V, shN_e, shN_n, crI, crL, crC, crW, crV, crR_e, crR_n, crN_e, crN_n, ciR, ciL, ciD, ciN_e, ciN_n, rdI_e, rdI_n, rdC_i, rdC_o, rdW, rdU_e, rdU_n, rdLW, clI, clR, clC, clD, clW, clV, clN_e, clN_n, clL_e, clL_n]; done) | (simp (disch := omega) only [shI, shR, shL, shC, shD, shW, sh_V, shN_e, shN_n, crI, crL, crC, crW, crV, crR_e, crR_n, crN_e, crN_n, ciR, ciL, ciD, ciN_e, ciN_n, rdI_e, rdI_n, rdC_i, rdC_o, rdW, rdU_e, rdU_n, rdLW, clI, clR, clC, clD, clW, clV, clN_e, clN_n, clL_e, clL_n] <;> first | assumption | rfl | omega)) rfl) (fun M5 h5 => ?_)
  obtain ⟨g5, hM5, r5, f5⟩ := h5
  refine x_vreturn rfl dX1_boot_8 ?_
  subst hM5
  have hx := hC.now (g := g5) (v' := bootV v) (N' := N) (fun b k q1 q2 => f5 b k (by omega)) ⟨by rw [f5 _ _ (by omega)]; exact hSk.2.1, by rw [f5 _ _ (by omega)]; exact hSk.2.2.1, by rw [f5 _ _ (by omega)]; exact hSk.2.2.2.1, by rw [f5 _ _ (by omega)]; exact hSk.2.2.2.2⟩ ⟨bootV_ok hv, hL.lo (bootV_eqB 2 (by omega)) (fun k a b => bootV_eqB k (by omega)), r5⟩ (Int.le_refl _) (fun k a b => bootV_eqB k (by omega))
  exact hQ _ _ ⟨rfl, hx.1, hCr.trans hx.2⟩
end X1

