/-! THE COMPONENT: all that lasts of it -/
def SB (p : Int) : Prop := p = 8 ∨ p = 54 ∨ p = 99 ∨ p = 144 ∨ ((204 ≤ p ∧ p ≤ 699) ∧ (p - 204) % 45 = 0)
theorem StS.of {sh sh' : Sh} {cr cr' : Cr} {p : Int} (h : StS sh cr p) (hs : ∀ b, p ≤ b → b ≤ p + 44 → sh' b = sh b) (hc : ∀ b k, p ≤ b → b ≤ p + 44 → b ≠ p + 2 → cr' b k = cr b k) : StS sh' cr' p := by
  obtain ⟨p0, p1, ⟨c0, c1, c2, c3, c4, c5, c6, c7⟩, ⟨t1, t2, t3, t4, t5, t6⟩, p5, p6, p7⟩ := h
  have gu : ∀ q, p + 7 ≤ q → q ≤ p + 10 → GuS sh cr q → GuS sh' cr' q := by
    intro q q0 q1 hq
    obtain ⟨h0, h1, h2, h3, h4, h5, h6⟩ := hq
    exact ⟨h0, (hs _ (by omega) (by omega)).trans h1, (hc _ _ (by omega) (by omega) (by omega)).trans h2, h3, (hs _ (by omega) (by omega)).trans h4, (hc _ _ (by omega) (by omega) (by omega)).trans h5, (hs _ (by omega) (by omega)).trans h6⟩
  have cc : ∀ k, cr' p k = cr p k := fun k => hc _ _ (by omega) (by omega) (by omega)
  refine ⟨p0, (hs _ (by omega) (by omega)).trans p1, ⟨(cc _).trans c0, (cc _).trans c1, (cc _).trans c2, (cc _).trans c3, (cc _).trans c4, (cc _).trans c5, (cc _).trans c6, (cc _).trans c7⟩, ⟨(hs _ (by omega) (by omega)).trans t1, (hs _ (by omega) (by omega)).trans t2, (hs _ (by omega) (by omega)).trans t3, (hs _ (by omega) (by omega)).trans t4, (hs _ (by omega) (by omega)).trans t5, (hs _ (by omega) (by omega)).trans t6⟩, gu _ (by omega) (by omega) p5, gu _ (by omega) (by omega) p6, fun k a b => ?_⟩
  obtain ⟨k1, o0, o1, o2, o3, o4, o5, o6, o7⟩ := p7 k a b
  exact ⟨(hc _ _ (by omega) (by omega) (by omega)).trans k1, o0, (hs _ (by omega) (by omega)).trans o1, (hc _ _ (by omega) (by omega) (by omega)).trans o2, (hc _ _ (by omega) (by omega) (by omega)).trans o3, (hc _ _ (by omega) (by omega) (by omega)).trans o4, (hs _ (by omega) (by omega)).trans o5, (hs _ (by omega) (by omega)).trans o6, (hs _ (by omega) (by omega)).trans o7⟩
/-- the reader's cells -/
def RdC (sh : Sh) (cr : Cr) : Prop :=
  (sh 2 = some (2, 0) ∧ sh 3 = some (101, 400) ∧ sh 4 = some (140, 7) ∧ sh 5 = some (140, 3) ∧ sh 6 = some (140, 11) ∧ sh 7 = some (134, 12) ∧ sh 53 = some (7, 0)) ∧
  (cr 2 0 = some 3 ∧ cr 2 1 = some 4 ∧ cr 2 2 = some 5 ∧ cr 2 3 = some 6 ∧ cr 2 4 = some 7 ∧ cr 2 5 = some 8 ∧ cr 2 6 = some 53) ∧
  (∀ k, 0 ≤ k → k < 7 → cr 4 k = some (-(10 + 2 * k))) ∧ (∀ k, 0 ≤ k → k < 3 → cr 5 k = some (-(10 + 2 * (7 + k)))) ∧ ∀ k, 0 ≤ k → k < 11 → cr 6 k = some (-(10 + 2 * (10 + k)))
/-- all cells of the component -/
def SkC (sh : Sh) (cr : Cr) : Prop :=
  (sh 0 = some (1, 0) ∧ sh 199 = some (100, 8) ∧ sh 200 = some (100, 256) ∧ sh 201 = some (100, 10) ∧ sh 202 = some (100, 81) ∧ sh 203 = some (123, 12)) ∧
  (cr 0 0 = some 2 ∧ cr 0 1 = some 54 ∧ cr 0 2 = some 99 ∧ cr 0 3 = some 144 ∧ cr 0 4 = some 203 ∧ cr 0 5 = some 189 ∧ cr 0 6 = some 191 ∧ cr 0 7 = some 193 ∧ cr 0 8 = some 196 ∧ cr 0 9 = some 199 ∧ cr 0 10 = some 200 ∧ cr 0 11 = some 201 ∧ cr 0 12 = some 202) ∧
  (∀ k, 0 ≤ k → k < 12 → cr 203 k = some (204 + 45 * k)) ∧ (∀ p, SB p → StS sh cr p) ∧ MacS sh cr 189 ∧ MacS sh cr 191 ∧ GuS sh cr 193 ∧ GuS sh cr 196 ∧ RdC sh cr
theorem SkC.of {sh sh' : Sh} {cr cr' : Cr} (h : SkC sh cr) (hs : ∀ b, 0 ≤ b → b < 744 → sh' b = sh b) (hc : ∀ b k, 0 ≤ b → b < 744 → ¬ (b = 7 ∨ SB (b - 2)) → cr' b k = cr b k) : SkC sh' cr' := by
  obtain ⟨⟨s0, s1, s2, s3, s4, s5⟩, ⟨c0, c1, c2, c3, c4, c5, c6, c7, c8, c9, c10, c11, c12⟩, ca, hSt, m1, m2, g1, g2, ⟨⟨r1, r2, r3, r4, r5, r6, r7⟩, ⟨w1, w2, w3, w4, w5, w6, w7⟩, x1, x2, x3⟩⟩ := h
  have nb : ∀ b : Int, b = 0 ∨ b = 2 ∨ b = 4 ∨ b = 5 ∨ b = 6 ∨ (189 ≤ b ∧ b ≤ 203) → ¬ (b = 7 ∨ SB (b - 2)) := fun b h => by
    unfold SB
    omega
  have cc : ∀ k, cr' 0 k = cr 0 k := fun k => hc _ _ (by omega) (by omega) (nb _ (by omega))
  have c2' : ∀ k, cr' 2 k = cr 2 k := fun k => hc _ _ (by omega) (by omega) (nb _ (by omega))
  have mm : ∀ a, 189 ≤ a → a ≤ 202 → MacS sh cr a → MacS sh' cr' a := by
    intro a a0 a1 ha
    obtain ⟨h3, h4, h5, h6⟩ := ha
    exact ⟨h3, (hs _ (by omega) (by omega)).trans h4, (hc _ _ (by omega) (by omega) (nb _ (by omega))).trans h5, (hs _ (by omega) (by omega)).trans h6⟩
  have gg : ∀ a, 189 ≤ a → a ≤ 201 → GuS sh cr a → GuS sh' cr' a := by
    intro a a0 a1 ha
    obtain ⟨h3, h4, h5, h6⟩ := ha
    exact ⟨h3, (hs _ (by omega) (by omega)).trans h4, (hc _ _ (by omega) (by omega) (nb _ (by omega))).trans h5, mm _ (by omega) (by omega) h6⟩
  refine ⟨⟨(hs _ (by omega) (by omega)).trans s0, (hs _ (by omega) (by omega)).trans s1, (hs _ (by omega) (by omega)).trans s2, (hs _ (by omega) (by omega)).trans s3, (hs _ (by omega) (by omega)).trans s4, (hs _ (by omega) (by omega)).trans s5⟩,
    ⟨(cc _).trans c0, (cc _).trans c1, (cc _).trans c2, (cc _).trans c3, (cc _).trans c4, (cc _).trans c5, (cc _).trans c6, (cc _).trans c7, (cc _).trans c8, (cc _).trans c9, (cc _).trans c10, (cc _).trans c11, (cc _).trans c12⟩,
    fun k a b => (hc _ _ (by omega) (by omega) (nb _ (by omega))).trans (ca k a b), fun p hp => (hSt p hp).of (fun b a1 a2 => hs b (by unfold SB at hp; omega) (by unfold SB at hp; omega)) (fun b k a1 a2 a3 => hc b k (by unfold SB at hp; omega) (by unfold SB at hp; omega) (by unfold SB at hp ⊢; omega)), mm _ (by omega) (by omega) m1, mm _ (by omega) (by omega) m2, gg _ (by omega) (by omega) g1, gg _ (by omega) (by omega) g2,
    ⟨⟨(hs _ (by omega) (by omega)).trans r1, (hs _ (by omega) (by omega)).trans r2, (hs _ (by omega) (by omega)).trans r3, (hs _ (by omega) (by omega)).trans r4, (hs _ (by omega) (by omega)).trans r5, (hs _ (by omega) (by omega)).trans r6, (hs _ (by omega) (by omega)).trans r7⟩, ⟨(c2' _).trans w1, (c2' _).trans w2, (c2' _).trans w3, (c2' _).trans w4, (c2' _).trans w5, (c2' _).trans w6, (c2' _).trans w7⟩, fun k a b => (hc _ _ (by omega) (by omega) (nb _ (by omega))).trans (x1 k a b), fun k a b => (hc _ _ (by omega) (by omega) (nb _ (by omega))).trans (x2 k a b), fun k a b => (hc _ _ (by omega) (by omega) (nb _ (by omega))).trans (x3 k a b)⟩⟩
/-- a row of lines: lines behind all that lasts, or nothing -/
def LinC (sh : Sh) (cr : Cr) (T p : Int) : Prop := ∀ k b, 0 ≤ k → k < 12 → cr (p + 2) k = some b → (761 ≤ b ∧ b < T) ∧ ∃ t : Nat, (t = 15 ∨ t = 16 ∨ t = 17) ∧ sh b = some (t, 0)
theorem LinC.o {sh : Sh} {cr : Cr} {T p : Int} (h : LinC sh cr T p) : LinO sh cr p := fun k b a c e => (h k b a c e).2
theorem LinC.of {sh sh' : Sh} {cr cr' : Cr} {T T' p : Int} (h : LinC sh cr T p) (hs : ∀ b, 761 ≤ b → b < T → sh' b = sh b) (hc : ∀ k, 0 ≤ k → k < 12 → cr' (p + 2) k = cr (p + 2) k) (hT : T ≤ T') : LinC sh' cr' T' p := fun k b a c e => by
  rw [hc k a c] at e
  obtain ⟨h1, t, h2, h3⟩ := h k b a c e
  exact ⟨by omega, t, h2, (hs b h1.1 h1.2).trans h3⟩
/-- what is left of skips -/
abbrev b01 (x : Int) : Prop := x = 0 ∨ x = 1
def SkI (f : Ci) : Prop := (∀ p, SB p → b01 (f (p + 8) 6) ∧ b01 (f (p + 11) 6)) ∧ b01 (f 189 6) ∧ b01 (f 191 6) ∧ b01 (f 194 6) ∧ b01 (f 197 6)
/-- what was remembered, under the law that is -/
def ov (a v : Vw) : Vw := fun k => if 0 ≤ k ∧ k < 368 then a k else v k
theorem ov_i {a v : Vw} {k : Int} (h : 0 ≤ k ∧ k < 368) : ov a v k = a k := if_pos h
theorem ov_o {a v : Vw} {k : Int} (h : ¬ (0 ≤ k ∧ k < 368)) : ov a v k = v k := if_neg h
theorem ov_ov {a b v : Vw} : ov a (ov b v) = ov a v := funext fun k => by
  by_cases h : 0 ≤ k ∧ k < 368
  · rw [ov_i h, ov_i h]
  · rw [ov_o h, ov_o h, ov_o h]
theorem ov_s {v : Vw} : ov v v = v := funext fun k => by
  by_cases h : 0 ≤ k ∧ k < 368
  · rw [ov_i h]
  · rw [ov_o h]
/-- the state at p is the bench u, which is one -/
def StOk (M : Mem) (p : Int) (u : Vw) (N : Int) : Prop := okA u ∧ lawOK u ∧ RelA (msh M) (mci M) (mcr M) 761 (mnx M) p u N
def CI1 (M : Mem) : Prop := SkC (msh M) (mcr M) ∧ TabS (msh M) (mci M) ∧ TxS M ∧ (∀ p, SB p ∨ p = 5 → LinC (msh M) (mcr M) (mnx M) p) ∧ SkI (mci M) ∧ 761 ≤ mnx M
def CIA (M : Mem) (v : Vw) (n : Int) (A : Int → Vw) (N : Int) : Prop := mci M 0 14 = n ∧ (0 ≤ n ∧ n ≤ 12) ∧ (0 ≤ mci M 0 15 ∧ mci M 0 15 < 12) ∧ ∀ j, 0 ≤ j → j < n → StOk M (204 + 45 * ((mci M 0 15 - 1 - j) % 12)) (ov (A (n - 1 - j)) v) N
def CIR (M : Mem) (hi : Int) (vi : Vw) (tp : Int → Int) (sz fa N : Int) : Prop := (mci M 0 16 = hi ∧ (hi = 0 ∨ hi = 1)) ∧ (hi = 1 → StOk M 99 vi N) ∧ (mci M 3 = tp ∧ mci M 2 7 = sz ∧ 0 ≤ sz ∧ sz ≤ 400) ∧ mci M 0 13 = fa
/-- all that lasts of the component -/
def CI (M : Mem) (v : Vw) (n : Int) (A : Int → Vw) (hi : Int) (vi : Vw) (tp : Int → Int) (sz fa N : Int) : Prop := CI1 M ∧ StOk M 54 v N ∧ CIA M v n A N ∧ CIR M hi vi tp sz fa N
section CI
variable {M M1 M2 : Mem} {v vi u : Vw} {n hi sz fa N p : Int} {A : Int → Vw} {tp : Int → Int} {P : Int → Prop}
theorem Kp.same (h : Kp P M M1) (hP : ∀ b : Int, 761 ≤ b → b < mnx M → P b) : Same 761 (mnx M) (msh M) (mci M) (mcr M) (msh M1) (mci M1) (mcr M1) := fun a a0 a1 => ⟨(h a (hP a a0 a1)).1, (h a (hP a a0 a1)).2.1, (h a (hP a a0 a1)).2.2.1⟩
/-- a state that was not touched, but for its facts -/
theorem StOk.kp (h : StOk M p u N) (hk : Kp P M M1) (hP : ∀ b : Int, 761 ≤ b → b < mnx M → P b) (hp : ∀ b, p ≤ b → b ≤ p + 44 → b ≠ p + 3 → P b) (hn : mnx M ≤ mnx M1) : StOk M1 p u N :=
  ⟨h.1, h.2.1, h.2.2.kp h.1.1 (hk.same hP) (by omega) (fun b k b0 b1 b2 => (hk b (hp b b0 b1 b2)).2.1 k) (fun k => (hk _ (hp _ (by omega) (by omega) (by omega))).2.2.1 k)⟩
theorem StOk.up {N' : Int} (h : StOk M p u N) (hN : N ≤ N') : StOk M p u N' := ⟨h.1, h.2.1, h.2.2.N hN⟩
theorem StOk.lo {u' : Vw} (h : StOk M p u N) (he : ∀ k, 0 ≤ k → k < 1217 → u' k = u k) : StOk M p u' N :=
  ⟨h.1.lo fun k a b => he k a (by omega), h.2.1.lo (he 2 (by omega) (by omega)) fun k a b => he k (by omega) b, h.2.2.lo h.1.1 h.2.1 he⟩
theorem CI1.of (h : CI1 M) (hk : Kp (fun b => b < 0 ∨ 761 ≤ b ∧ b < mnx M) M M1) (hs : ∀ b, 0 ≤ b → b < 744 → msh M1 b = msh M b) (hc : ∀ b k, 0 ≤ b → b < 744 → ¬ (b = 7 ∨ SB (b - 2)) → mcr M1 b k = mcr M b k) (hL : ∀ p, SB p ∨ p = 5 → LinC (msh M1) (mcr M1) (mnx M1) p) (hI : SkI (mci M1)) (hn : mnx M ≤ mnx M1) : CI1 M1 := by
  obtain ⟨h1, h2, h3, h4, h5, h6⟩ := h
  have o := fun (b : Int) (hb : b < 0) => hk b (Or.inl hb)
  exact ⟨h1.of hs hc, ⟨(o _ (by omega)).1.trans h2.1, fun p k a b c e => ((o _ (by omega)).2.1 _).trans (h2.2 p k a b c e)⟩, h3.of (fun a ha => (o a ha).1) (fun a k ha => (o a ha).2.1 k) (fun a k ha => (o a ha).2.2.1 k), hL, hI, by omega⟩
/-- other cells than those of the component are touched -/
theorem CI.kp (h : CI M v n A hi vi tp sz fa N) (hk : Kp (fun b => b < 744 ∨ 761 ≤ b ∧ b < mnx M) M M1) (hn : mnx M ≤ mnx M1) : CI M1 v n A hi vi tp sz fa N := by
  obtain ⟨h1, h2, ⟨a1, a2, a3, a4⟩, ⟨⟨b1, b2⟩, b3, ⟨b4, b5, b6⟩, b7⟩⟩ := h
  have ci : ∀ b k, b < 744 → mci M1 b k = mci M b k := fun b k hb => (hk b (Or.inl hb)).2.1 k
  have st : ∀ p u, p ≤ 699 → StOk M p u N → StOk M1 p u N := fun p u hp h => h.kp hk (fun b x y => Or.inr ⟨x, y⟩) (fun b x y z => Or.inl (by omega)) hn
  refine ⟨h1.of (hk.mono fun b hb => by omega) (fun b x y => (hk b (Or.inl y)).1) (fun b k x y z => (hk b (Or.inl y)).2.2.1 k) (fun p hp => (h1.2.2.2.1 p hp).of (fun b x y => (hk b (Or.inr ⟨x, y⟩)).1) (fun k x y => (hk _ (Or.inl (by unfold SB at hp; omega))).2.2.1 k) (by omega)) ?_ hn, st _ _ (by omega) h2, ⟨(ci _ _ (by omega)).trans a1, a2, by rw [ci _ _ (by omega)]; exact a3, fun j x y => by rw [ci _ _ (by omega)]; exact st _ _ (by omega) (a4 j x y)⟩, ⟨⟨(ci _ _ (by omega)).trans b1, b2⟩, fun q => st _ _ (by omega) (b3 q), ⟨(funext fun k => ci _ _ (by omega)).trans b4, (ci _ _ (by omega)).trans b5, b6⟩, (ci _ _ (by omega)).trans b7⟩⟩
  obtain ⟨i1, i2, i3, i4, i5⟩ := h1.2.2.2.2.1
  refine ⟨fun p hp => ?_, by rw [ci _ _ (by omega)]; exact i2, by rw [ci _ _ (by omega)]; exact i3, by rw [ci _ _ (by omega)]; exact i4, by rw [ci _ _ (by omega)]; exact i5⟩
  rw [ci _ _ (by unfold SB at hp; omega), ci _ _ (by unfold SB at hp; omega)]
  exact i1 p hp
theorem CI.tr (h : CI M v n A hi vi tp sz fa N) (hr : TR 744 M M1) : CI M1 v n A hi vi tp sz fa N := by
  obtain ⟨g, l, e, f1, f2⟩ := hr
  subst e
  refine h.kp (fun b hb => ⟨rfl, fun k => f1 b k ?_, fun k => rfl, fun k => f2 b k ?_⟩) (Nat.le_refl _)
  · rcases hb with q | q <;> omega
  · rcases hb with q | q <;> omega
/-- what a call of the component leaves of all else -/
def CR (M M1 : Mem) (c s : Nat) : Prop := Kp (fun b => b < 0 ∨ 744 ≤ b ∧ b < mnx M) M M1 ∧ mnx M ≤ mnx M1 ∧ mnx M1 ≤ mnx M + c ∧ mns M1 ≤ mns M + s
theorem CR.trans {c s c' s' : Nat} (h : CR M M1 c s) (h' : CR M1 M2 c' s') : CR M M2 (c + c') (s + s') := by
  obtain ⟨a1, a2, a3, a4⟩ := h
  obtain ⟨b1, b2, b3, b4⟩ := h'
  exact ⟨a1.trans (b1.mono fun b hb => by omega), by omega, by omega, by omega⟩
theorem CR.le {c s c' s' : Nat} (h : CR M M1 c s) (hc : c ≤ c') (hs : s ≤ s') : CR M M1 c' s' := ⟨h.1, h.2.1, by have := h.2.2.1; omega, by have := h.2.2.2; omega⟩
theorem TI.kp {m : Int} (h : TI M m v n A hi vi tp sz fa) (hk : Kp (fun b => m ≤ b ∧ b ≤ m + 15) M M1) : TI M1 m v n A hi vi tp sz fa := by
  obtain ⟨⟨⟨p0, p1, ⟨c1, c2, c3, c4, c5, c6, c7, c8, c9, c10, c11, c12, c13, c14, c15⟩, ⟨t1, t2, t3, t4, t5, t6, t7, t8, t9, t10, t11, t12, t13, t14, t15⟩⟩, p2, p3, p4, p5, p6⟩, ⟨s1, s2, s3⟩, ⟨⟨a1, a2⟩, b, c, ⟨d1, d2⟩, e⟩⟩ := h
  have sh : ∀ b, m ≤ b → b ≤ m + 15 → msh M1 b = msh M b := fun b x y => (hk b ⟨x, y⟩).1
  have ci : ∀ b k, m ≤ b → b ≤ m + 15 → mci M1 b k = mci M b k := fun b k x y => (hk b ⟨x, y⟩).2.1 k
  have cc : ∀ k, mcr M1 m k = mcr M m k := fun k => (hk m ⟨by omega, by omega⟩).2.2.1 k
  have cl : ∀ b k, m ≤ b → b ≤ m + 15 → mcl M1 b k = mcl M b k := fun b k x y => (hk b ⟨x, y⟩).2.2.2 k
  refine ⟨⟨⟨p0, (sh _ (by omega) (by omega)).trans p1, ⟨(cc _).trans c1, (cc _).trans c2, (cc _).trans c3, (cc _).trans c4, (cc _).trans c5, (cc _).trans c6, (cc _).trans c7, (cc _).trans c8, (cc _).trans c9, (cc _).trans c10, (cc _).trans c11, (cc _).trans c12, (cc _).trans c13, (cc _).trans c14, (cc _).trans c15⟩, ⟨(sh _ (by omega) (by omega)).trans t1, (sh _ (by omega) (by omega)).trans t2, (sh _ (by omega) (by omega)).trans t3, (sh _ (by omega) (by omega)).trans t4, (sh _ (by omega) (by omega)).trans t5, (sh _ (by omega) (by omega)).trans t6, (sh _ (by omega) (by omega)).trans t7, (sh _ (by omega) (by omega)).trans t8, (sh _ (by omega) (by omega)).trans t9, (sh _ (by omega) (by omega)).trans t10, (sh _ (by omega) (by omega)).trans t11, (sh _ (by omega) (by omega)).trans t12, (sh _ (by omega) (by omega)).trans t13, (sh _ (by omega) (by omega)).trans t14, (sh _ (by omega) (by omega)).trans t15⟩⟩, (funext fun k => ci _ _ (by omega) (by omega)).trans p2, p3, p4, KnOk.at p5 (fun p => ci _ _ (by omega) (by omega)) (fun p => cl _ _ (by omega) (by omega)), sk01.at p6 (ci _ _ (by omega) (by omega))⟩, ActsOk.at ⟨s1, s2, s3⟩ (ci _ _ (by omega) (by omega)) (fun k => ci _ _ (by omega) (by omega)), RestOk.at ⟨⟨a1, a2⟩, b, c, ⟨d1, d2⟩, e⟩ (fun k q => ci _ _ (by omega) (by omega)) (fun a k q => ci _ _ (by omega) (by omega))⟩
/-- what a call of the component that only asks leaves -/
def CQ (M M1 : Mem) (c s : Nat) : Prop := Kp (fun b => b < 57 ∨ (57 < b ∧ b < 189) ∨ (203 ≤ b ∧ b < mnx M)) M M1 ∧ (∀ b, 189 ≤ b ∧ b < 203 ∨ b = 57 → msh M1 b = msh M b ∧ ∀ k, mcr M1 b k = mcr M b k) ∧ (b01 (mci M1 189 6) ∧ b01 (mci M1 191 6) ∧ b01 (mci M1 194 6) ∧ b01 (mci M1 197 6)) ∧ mnx M ≤ mnx M1 ∧ mnx M1 ≤ mnx M + c ∧ mns M1 ≤ mns M + s
/-- where such a call may write -/
def FQ (f g : Ci) : Prop := ∀ b k, ¬ (189 ≤ b ∧ b < 203) → b ≠ 57 → g b k = f b k
theorem FQ.rfl {f : Ci} : FQ f f := fun _ _ _ _ => _root_.rfl
theorem FQ.trans {f g h : Ci} (a : FQ f g) (b : FQ g h) : FQ f h := fun c k p q => (b c k p q).trans (a c k p q)
theorem Fo.fq {lo hi : Int} {f g : Ci} (h : Fo lo hi f g) (hl : 189 ≤ lo ∧ hi < 203 ∨ lo = 57 ∧ hi = 57) : FQ f g := fun b k p q => h b k (by omega)
theorem CQ.w {g : Ci} (h : FQ (mci M) g) (hb : b01 (g 189 6) ∧ b01 (g 191 6) ∧ b01 (g 194 6) ∧ b01 (g 197 6)) : CQ M (wI M g) 0 0 :=
  ⟨fun b hb => ⟨rfl, fun k => h b k (by omega) (by omega), fun k => rfl, fun k => rfl⟩, fun b _ => ⟨rfl, fun k => rfl⟩, hb, Nat.le_refl _, Nat.le_refl _, Nat.le_refl _⟩
theorem CQ.trans {c s c' s' : Nat} (h : CQ M M1 c s) (h' : CQ M1 M2 c' s') : CQ M M2 (c + c') (s + s') := by
  obtain ⟨a1, a2, a3, a4, a5, a6⟩ := h
  obtain ⟨b1, b2, b3, b4, b5, b6⟩ := h'
  exact ⟨a1.trans (b1.mono fun b hb => by omega), fun b hb => ⟨(b2 b hb).1.trans (a2 b hb).1, fun k => ((b2 b hb).2 k).trans ((a2 b hb).2 k)⟩, b3, by omega, by omega, by omega⟩
theorem CQ.le {c s c' s' : Nat} (h : CQ M M1 c s) (hc : c ≤ c') (hs : s ≤ s') : CQ M M1 c' s' := ⟨h.1, h.2.1, h.2.2.1, h.2.2.2.1, by have := h.2.2.2.2.1; omega, by have := h.2.2.2.2.2; omega⟩
theorem CI.cq {c s : Nat} (h : CI M v n A hi vi tp sz fa N) (hq : CQ M M1 c s) : CI M1 v n A hi vi tp sz fa N := by
  obtain ⟨h1, h2, ⟨a1, a2, a3, a4⟩, ⟨⟨b1, b2⟩, b3, ⟨b4, b5, b6⟩, b7⟩⟩ := h
  obtain ⟨hk, q2, q3, q4, q5, q6⟩ := hq
  have hn : (203 : Int) ≤ mnx M := by have := h1.2.2.2.2.2; omega
  have h61 := h1.2.2.2.2.2
  have ci : ∀ b k, b < 189 → b ≠ 57 → mci M1 b k = mci M b k := fun b k hb h5 => (hk b (by omega)).2.1 k
  have st : ∀ p u, (p = 54 ∨ p = 99 ∨ (204 ≤ p ∧ p ≤ 699)) → StOk M p u N → StOk M1 p u N := fun p u hp h => h.kp hk (fun b x y => Or.inr (Or.inr ⟨by omega, y⟩)) (fun b x y z => by omega) q4
  have sh : ∀ b : Int, b < mnx M → msh M1 b = msh M b ∧ ∀ k, mcr M1 b k = mcr M b k := fun b hb => by
    by_cases q : 189 ≤ b ∧ b < 203 ∨ b = 57
    · exact q2 b q
    · exact ⟨(hk b (by omega)).1, (hk b (by omega)).2.2.1⟩
  refine ⟨h1.of (hk.mono fun b hb => by omega) (fun b x y => (sh b (by omega)).1) (fun b k x y z => (sh b (by omega)).2 k) (fun p hp => (h1.2.2.2.1 p hp).of (fun b x y => (sh b y).1) (fun k x y => (sh _ (by unfold SB at hp; omega)).2 k) (by omega)) ?_ q4, st _ _ (by omega) h2, ⟨(ci _ _ (by omega) (by omega)).trans a1, a2, by rw [ci _ _ (by omega) (by omega)]; exact a3, fun j x y => by rw [ci _ _ (by omega) (by omega)]; exact st _ _ (by omega) (a4 j x y)⟩, ⟨⟨(ci _ _ (by omega) (by omega)).trans b1, b2⟩, fun q => st _ _ (by omega) (b3 q), ⟨(funext fun k => ci _ _ (by omega) (by omega)).trans b4, (ci _ _ (by omega) (by omega)).trans b5, b6⟩, (ci _ _ (by omega) (by omega)).trans b7⟩⟩
  obtain ⟨i1, i2, i3, i4, i5⟩ := h1.2.2.2.2.1
  refine ⟨fun p hp => ?_, q3⟩
  have e : ∀ b, SB p → b = p + 8 ∨ b = p + 11 → mci M1 b 6 = mci M b 6 := fun b x y => (hk b (by unfold SB at x; omega)).2.1 6
  rw [e _ hp (Or.inl rfl), e _ hp (Or.inr rfl)]
  exact i1 p hp
theorem CQ.cr {c s : Nat} (hq : CQ M M1 c s) : CR M M1 c s := by
  obtain ⟨hk, q2, q3, q4, q5, q6⟩ := hq
  exact ⟨hk.mono fun b hb => by omega, q4, q5, q6⟩
theorem CQ.x (hI : SkI (mci M)) : CQ M (mX M 6) 1 6 := ⟨fun b _ => ⟨rfl, fun k => rfl, fun k => rfl, fun k => rfl⟩, fun b _ => ⟨rfl, fun k => rfl⟩, hI.2, Nat.le_succ _, Nat.le_refl _, Nat.le_refl _⟩
end CI

