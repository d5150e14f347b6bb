/-! Reader of laws: the lines, in the row -/
/-- as Dr, but the row of lines is another one, too -/
def Dl (M M1 : Mem) (c s : Int) : Prop := (∀ b : Int, b < mnx M → msh M1 b = msh M b ∧ (∀ k, ¬ (b = 2 ∧ 9 ≤ k) → ¬ (b = 53 ∧ k = 6) → ¬ ((8 ≤ b ∧ b ≤ 52) ∧ ¬ (15 ≤ b ∧ b ≤ 20) ∧ ¬ (b = 8 ∧ k = 10)) → mci M1 b k = mci M b k) ∧ (∀ k, ¬ b = 7 → mcr M1 b k = mcr M b k) ∧ ∀ k, mcl M1 b k = mcl M b k) ∧ mnx M ≤ mnx M1 ∧ (mnx M1 : Int) ≤ mnx M + c ∧ (mns M1 : Int) ≤ mns M + s
theorem Dz.l {M M1 : Mem} {c s : Int} (h : Dz M M1 c s) : Dl M M1 c s := by
  obtain ⟨c', s', ⟨h1, h2, h3, h4⟩, h5, h6⟩ := h
  exact ⟨fun b hb => ⟨(h1 b hb).1, (h1 b hb).2.1, fun k _ => (h1 b hb).2.2.1 k, (h1 b hb).2.2.2⟩, h2, by omega, by omega⟩
theorem Dl.trans {M M1 M2 : Mem} {c s c' s' : Int} (h : Dl M M1 c s) (h' : Dl M1 M2 c' s') : Dl M M2 (c + c') (s + s') := by
  obtain ⟨h1, h2, h3, h4⟩ := h
  obtain ⟨g1, g2, g3, g4⟩ := h'
  refine ⟨fun b hb => ?_, by omega, by omega, by omega⟩
  obtain ⟨a1, a2, a3, a4⟩ := h1 b hb
  obtain ⟨b1, b2, b3, b4⟩ := g1 b (by omega)
  exact ⟨b1.trans a1, fun k q1 q2 q3 => (b2 k q1 q2 q3).trans (a2 k q1 q2 q3), fun k q => (b3 k q).trans (a3 k q), fun k => (b4 k).trans (a4 k)⟩
theorem Dl.le {M M1 : Mem} {c s c' s' : Int} (h : Dl M M1 c s) (hc : c ≤ c') (hs : s ≤ s') : Dl M M1 c' s' := ⟨h.1, h.2.1, by have := h.2.2.1; omega, by have := h.2.2.2; omega⟩
theorem RdX.dl {M M1 : Mem} {tp : Int → Int} {e : Int} {c s : Int} (h : RdX M tp e) (hd : Dl M M1 c s) (hn : 54 ≤ mnx M) : RdX M1 tp e := by
  obtain ⟨⟨⟨r0, r3, r4, r5, r6, r7, r53⟩, ⟨c0, c1, c2, c3, c4, c5, c6⟩, x1, x2, x3⟩, he, htp, he2, hX, hB⟩ := h
  have sh : ∀ b : Int, b < 54 → msh M1 b = msh M b := fun b hb => (hd.1 b (by omega)).1
  have cc : ∀ (b k : Int), b < 54 → ¬ b = 7 → mcr M1 b k = mcr M b k := fun b k hb q => (hd.1 b (by omega)).2.2.1 k q
  have ci : ∀ (b k : Int), b < 8 → ¬ (b = 2 ∧ 9 ≤ k) → mci M1 b k = mci M b k := fun b k hb q => (hd.1 b (by omega)).2.1 k q (by omega) (by omega)
  exact ⟨⟨⟨(sh _ (by omega)).trans r0, (sh _ (by omega)).trans r3, (sh _ (by omega)).trans r4, (sh _ (by omega)).trans r5, (sh _ (by omega)).trans r6, (sh _ (by omega)).trans r7, (sh _ (by omega)).trans r53⟩, ⟨(cc _ _ (by omega) (by omega)).trans c0, (cc _ _ (by omega) (by omega)).trans c1, (cc _ _ (by omega) (by omega)).trans c2, (cc _ _ (by omega) (by omega)).trans c3, (cc _ _ (by omega) (by omega)).trans c4, (cc _ _ (by omega) (by omega)).trans c5, (cc _ _ (by omega) (by omega)).trans c6⟩, fun k a b => (cc _ _ (by omega) (by omega)).trans (x1 k a b), fun k a b => (cc _ _ (by omega) (by omega)).trans (x2 k a b), fun k a b => (cc _ _ (by omega) (by omega)).trans (x3 k a b)⟩,
    (ci _ _ (by omega) (by omega)).trans he, (funext fun k => ci _ _ (by omega) (by omega)).trans htp, he2, hX.of (fun a q => sh a (by omega)) (fun a k q => ci a k (by omega) (by omega)) (fun a k q => cc a k (by omega) (by omega)), hB⟩
theorem Dl.same {M M1 : Mem} {B T x y : Int} (h : Dl M M1 x y) (hB : 54 ≤ B) (hT : T ≤ mnx M) : Same B T (msh M) (mci M) (mcr M) (msh M1) (mci M1) (mcr M1) :=
  fun a a0 a1 => ⟨(h.1 a (by omega)).1, fun k => (h.1 a (by omega)).2.1 k (by omega) (by omega) (by omega), fun k => (h.1 a (by omega)).2.2.1 k (by omega)⟩
theorem holdV_ext {u u' : Vw} {fc : Int → Int} {j : Int} (h1 : u' (371 + 4 * j) = u (371 + 4 * j)) (h2 : u' (372 + 4 * j) = u (372 + 4 * j)) (hc : ∀ i, u (371 + 4 * j) ≤ i → i < u (372 + 4 * j) → u' (417 + 2 * i) = u (417 + 2 * i) ∧ u' (418 + 2 * i) = u (418 + 2 * i)) : holdV u' fc j ↔ holdV u fc j := by
  unfold holdV
  rw [h1, h2, runC_lo _ _ _ fun i a b => hc i a (by omega)]
theorem holdV_nil {v : Vw} {fc : Int → Int} {n : Int} (h : v (372 + 4 * n) = v (371 + 4 * n)) : holdV v fc n := by
  unfold holdV
  rw [h, show (v (371 + 4 * n) - v (371 + 4 * n)).toNat = 0 by omega]
  exact trivial
theorem holdV_one {v : Vw} {fc : Int → Int} {n : Int} {P : Prop} (h : runC v fc (v (372 + 4 * n) - v (371 + 4 * n)).toNat (v (371 + 4 * n)) [] = [vP P]) : P ↔ holdV v fc n := by
  unfold holdV
  rw [h]
  show P ↔ some (vP P) = some (1 : Int)
  constructor
  · intro q
    rw [vP_t q]
  · intro q
    exact vP_1.mp (Option.some.inj q)
theorem LineD.ext {sh : Sh} {ci : Ci} {cr : Cr} {B T l n : Int} {u u' : Vw} (h : LineD sh ci cr B T l u n) (h1 : ∀ k, 369 + 4 * n ≤ k → k ≤ 372 + 4 * n → u' k = u k) (hc : ∀ i, u (371 + 4 * n) ≤ i → i < u (372 + 4 * n) → u' (417 + 2 * i) = u (417 + 2 * i) ∧ u' (418 + 2 * i) = u (418 + 2 * i)) : LineD sh ci cr B T l u' n := by
  obtain ⟨hb, g1, g2⟩ := h
  have e0 := h1 (370 + 4 * n) (by omega) (by omega)
  have e1 := h1 (371 + 4 * n) (by omega) (by omega)
  have e2 := h1 (372 + 4 * n) (by omega) (by omega)
  refine ⟨hb, by rw [e0, e1]; exact g1, ?_⟩
  rcases g2 with ⟨a, b⟩ | ⟨c, P, a, b, d⟩
  · exact Or.inl ⟨a, fun fc => (holdV_ext e1 e2 hc).mpr (b fc)⟩
  · exact Or.inr ⟨c, P, a, b, fun fc hf => (d fc hf).trans (holdV_ext e1 e2 hc).symm⟩
/-- the lines in the row are those of a law -/
def LnI (M : Mem) (u : Vw) (n : Int) : Prop := ∀ j, 0 ≤ j → j < n → ∃ l, mcr M 7 j = some l ∧ (0 ≤ u (369 + 4 * j) ∧ u (369 + 4 * j) ≤ 2) ∧ msh M l = some (15 + (u (369 + 4 * j)).toNat, 0) ∧ LineD (msh M) (mci M) (mcr M) 761 (mnx M) l u j
/-- a new line at Y, in the row -/
def mLn (M : Mem) (Y : Int) (t : Nat) (z : Int) (r : Option Int) (i : Int) : Mem := mR (mR (mI (mNx M Y t 0 2) Y 0 z) Y 1 r) 7 i (some Y)
section LN
variable {M : Mem} {Y z i a k : Int} {t : Nat} {r : Option Int}
theorem mLn_l (hY : ((mnx M : Nat) : Int) = Y) (h7 : 761 ≤ Y) : Dl M (mLn M Y t z r i) 1 2 :=
  ⟨fun b hb => ⟨if_neg (by omega), fun k _ _ _ => (rdI_n (by omega)).trans (if_neg (by omega)), fun k q => (crR_n (by omega)).trans ((crR_n (by omega)).trans (if_neg (by omega))), fun k => if_neg (by omega)⟩, Nat.le_succ _, by show ((mnx M + 1 : Nat) : Int) ≤ mnx M + 1; omega, by show ((mns M + 2 : Nat) : Int) ≤ mns M + 2; omega⟩
theorem mLn_P {q : Int} (h7 : 761 ≤ Y) : mR (mR (mI (mNx (mP M q) Y t 0 2) Y 0 z) Y 1 r) 7 i (some Y) = mP (mLn M Y t z r i) q := by
  rw [mP_n (by omega), mP_c (by omega), mP_r, mP_r]
  rfl
theorem mLn_i {w u : Vw} {K : Int} (hY : ((mnx M : Nat) : Int) = Y) (h7 : 761 ≤ Y) (h0 : 0 ≤ i) (hK : 0 ≤ K ∧ K ≤ 2) (hI : LnI M w i) (hl : ∀ j, 0 ≤ j → j < i → lineOK w j) (he : ∀ j, 0 ≤ j → j < i → (∀ k, 369 + 4 * j ≤ k → k ≤ 372 + 4 * j → u k = w k) ∧ ∀ i, w (371 + 4 * j) ≤ i → i < w (372 + 4 * j) → u (417 + 2 * i) = w (417 + 2 * i) ∧ u (418 + 2 * i) = w (418 + 2 * i))
    (e1 : u (369 + 4 * i) = K) (e2 : u (370 + 4 * i) = z) (e3 : 0 ≤ z ∧ z ≤ 40 ∧ 0 ≤ u (371 + 4 * i)) (hr : (r = none ∧ ∀ fc, holdV u fc i) ∨ ∃ c P, r = some c ∧ CD (msh M) (mci M) (mcr M) 761 (mnx M) 20 c P ∧ ∀ fc, FcOk fc → (P fc ↔ holdV u fc i)) : LnI (mLn M Y (15 + K.toNat) z r i) u (i + 1) := by
  have hd := mLn_l (t := 15 + K.toNat) (z := z) (r := r) (i := i) hY h7
  have hs : Same 761 (mnx M) (msh M) (mci M) (mcr M) (msh (mLn M Y (15 + K.toNat) z r i)) (mci (mLn M Y (15 + K.toNat) z r i)) (mcr (mLn M Y (15 + K.toNat) z r i)) := hd.same (by omega) (Int.le_refl _)
  have hn : ((mnx M : Nat) : Int) ≤ mnx (mLn M Y (15 + K.toNat) z r i) := by
    show ((mnx M : Nat) : Int) ≤ ((mnx M + 1 : Nat) : Int)
    omega
  intro j j0 j1
  by_cases q : j = i
  · subst q
    refine ⟨Y, crR_e ⟨rfl, rfl⟩, by rw [e1]; exact hK, by rw [e1]; exact if_pos rfl, ⟨h7, by show Y < ((mnx M + 1 : Nat) : Int); omega⟩, ⟨(rdI_e ⟨rfl, rfl⟩).trans e2.symm, by rw [e2]; exact e3.1, by rw [e2]; exact e3.2.1, e3.2.2⟩, ?_⟩
    have ec : mcr (mLn M Y (15 + K.toNat) z r j) Y 1 = r := (crR_n (by omega)).trans (crR_e ⟨rfl, rfl⟩)
    rcases hr with ⟨a, b⟩ | ⟨c, P, a, b, d⟩
    · exact Or.inl ⟨ec.trans a, b⟩
    · exact Or.inr ⟨c, P, ec.trans a, CD.same hs hn _ _ _ b, d⟩
  · obtain ⟨l, l1, l2, l3, l4⟩ := hI j j0 (by omega)
    obtain ⟨h1, h2⟩ := he j j0 (by omega)
    have e9 : u (369 + 4 * j) = w (369 + 4 * j) := h1 _ (by omega) (by omega)
    refine ⟨l, (crR_n (by omega)).trans ((crR_n (by omega)).trans ((if_neg (by omega)).trans l1)), by rw [e9]; exact l2, by rw [e9]; exact (hs l l4.1.1 l4.1.2).1.trans l3, ?_⟩
    exact (l4.same hs hn).ext h1 h2
theorem mLn_c {T : Int} (hY : ((mnx M : Nat) : Int) = Y) (h7 : 761 ≤ Y) (ht : t = 15 ∨ t = 16 ∨ t = 17) (h : LinC (msh M) (mcr M) (mnx M) 5) : LinC (msh (mLn M Y t z r i)) (mcr (mLn M Y t z r i)) (mnx (mLn M Y t z r i)) 5 := by
  have hn : ((mnx (mLn M Y t z r i) : Nat) : Int) = Y + 1 := by
    show ((mnx M + 1 : Nat) : Int) = Y + 1
    omega
  intro k b k0 k1 hb
  rw [hn]
  by_cases q : k = i
  · have e : mcr (mLn M Y t z r i) (5 + 2) k = some Y := crR_e ⟨by omega, q⟩
    rw [e] at hb
    cases hb
    exact ⟨⟨h7, by omega⟩, t, ht, if_pos rfl⟩
  · have e : mcr (mLn M Y t z r i) (5 + 2) k = mcr M (5 + 2) k := (crR_n (by omega)).trans ((crR_n (by omega)).trans (if_neg (by omega)))
    rw [e] at hb
    obtain ⟨h1, t', h2, h3⟩ := h k b k0 k1 hb
    exact ⟨⟨h1.1, by omega⟩, t', h2, (if_neg (by omega)).trans h3⟩
end LN
theorem CI.dl {M M1 : Mem} {v vi : Vw} {n hi sz fa N : Int} {A : Int → Vw} {tp : Int → Int} {c s : Nat} (h : CI M v n A hi vi tp sz fa N) (hd : Dl M M1 c s) (h5 : LinC (msh M1) (mcr M1) (mnx M1) 5) : CO M v n A hi vi tp sz fa N c s M1 := by
  obtain ⟨h1, h2, ⟨a1, a2, a3, a4⟩, ⟨⟨b1, b2⟩, b3, ⟨b4, b5, b6⟩, b7⟩⟩ := h
  have hL := h1.2.2.2.2.2
  obtain ⟨q1, q2, q3, q4⟩ := hd
  have sh : ∀ b : Int, b < mnx M → msh M1 b = msh M b := fun b hb => (q1 b hb).1
  have cc : ∀ (b k : Int), b < mnx M → ¬ b = 7 → mcr M1 b k = mcr M b k := fun b k hb q => (q1 b hb).2.2.1 k q
  have ci : ∀ (b k : Int), b < mnx M → ¬ (b = 2 ∧ 9 ≤ k) → ¬ (b = 53 ∧ k = 6) → ¬ ((8 ≤ b ∧ b ≤ 52) ∧ ¬ (15 ≤ b ∧ b ≤ 20)) → mci M1 b k = mci M b k := fun b k hb x y z => (q1 b hb).2.1 k x y (by omega)
  have hk : Kp (fun b => b < 0 ∨ (54 ≤ b ∧ b < mnx M)) M M1 := fun b hb => ⟨sh b (by omega), fun k => ci b k (by omega) (by omega) (by omega) (by omega), fun k => cc b k (by omega) (by omega), fun k => (q1 b (by omega)).2.2.2 k⟩
  have st : ∀ p u, 54 ≤ p → p ≤ 699 → StOk M p u N → StOk M1 p u N := fun p u hp hp2 h => h.kp hk (fun b x y => Or.inr ⟨by omega, y⟩) (fun b x y z => Or.inr ⟨by omega, by omega⟩) q2
  refine ⟨⟨h1.of (hk.mono fun b hb => by omega) (fun b x y => sh b (by omega)) (fun b k x y z => cc b k (by omega) (fun q => z (Or.inl q))) (fun p hp => ?_) ?_ q2, st _ _ (by omega) (by omega) h2, ⟨(ci _ _ (by omega) (by omega) (by omega) (by omega)).trans a1, a2, by rw [ci 0 15 (by omega) (by omega) (by omega) (by omega)]; exact a3, fun j x y => by rw [ci 0 15 (by omega) (by omega) (by omega) (by omega)]; exact st _ _ (by omega) (by omega) (a4 j x y)⟩, ⟨⟨(ci _ _ (by omega) (by omega) (by omega) (by omega)).trans b1, b2⟩, fun q => st _ _ (by omega) (by omega) (b3 q), ⟨(funext fun k => ci _ _ (by omega) (by omega) (by omega) (by omega)).trans b4, (ci _ _ (by omega) (by omega) (by omega) (by omega)).trans b5, b6⟩, (ci _ _ (by omega) (by omega) (by omega) (by omega)).trans b7⟩⟩, hk.mono fun b hb => by omega, q2, by omega, by omega⟩
  · by_cases q5 : p = 5
    · subst q5
      exact h5
    · exact (h1.2.2.2.1 p hp).of (fun b x y => sh b y) (fun k x y => cc _ _ (by unfold SB at hp; omega) (by unfold SB at hp; omega)) (by omega)
  obtain ⟨i1, i2, i3, i4, i5⟩ := h1.2.2.2.2.1
  refine ⟨fun p hp => ?_, by rw [ci _ _ (by omega) (by omega) (by omega) (by omega)]; exact i2, by rw [ci _ _ (by omega) (by omega) (by omega) (by omega)]; exact i3, by rw [ci _ _ (by omega) (by omega) (by omega) (by omega)]; exact i4, by rw [ci _ _ (by omega) (by omega) (by omega) (by omega)]; exact i5⟩
  have e1 : mci M1 (p + 8) 6 = mci M (p + 8) 6 := ci _ _ (by unfold SB at hp; omega) (by unfold SB at hp; omega) (by unfold SB at hp; omega) (by unfold SB at hp; omega)
  have e2 : mci M1 (p + 11) 6 = mci M (p + 11) 6 := ci _ _ (by unfold SB at hp; omega) (by unfold SB at hp; omega) (by unfold SB at hp; omega) (by unfold SB at hp; omega)
  rw [e1, e2]
  exact i1 p hp
section X2
variable {G : GW} {d : Nat} {M : Mem} {p e lo hi k n x a b c sz fa N : Int} {tp : Int → Int} {u v vi : Vw} {A : Int → Vw}
/-- a line of these: it lies in the row -/
theorem line_end {Q : Res → Mem → Prop} {M' : Mem} {q' z i K Y : Int} {r : Option Int} (hd : 16 ≤ d) (hR : RdX M' tp e) (hY : ((mnx M' : Nat) : Int) = Y) (h7 : 761 ≤ Y) (hi : 0 ≤ i ∧ i < 12) (hK : 0 ≤ K ∧ K ≤ 2) (k : WP G d mX2_laws 7 [some (dR 2), some (dI e), some (dI (i + 1)), some (dI K), some (dI z), some (dO r)] [] (mP (mLn M' Y (15 + K.toNat) z r i) q') Q) : WP G d mX2_laws 83 [some (dR 2), some (dI e), some (dI i), some (dI K), some (dI z), none] [dO r] (mP M' q') Q := by
  obtain ⟨⟨⟨r0, r3, r4, r5, r6, r7, r53⟩, ⟨c0, c1, c2, c3, c4, c5, c6⟩, -⟩, -⟩ := id hR
  have hnxP : ((mnx (mP M' q') : Nat) : Int) = Y := hY
  rcases (show K = 0 ∨ K = 1 ∨ K = 2 by omega) with q | q | q
  · subst q
    refine x_astore (L' := [some _, some _, some _, some _, some _, some _]) dX2_laws_83 (by decide) rfl ?_
    refine x_aload_n dX2_laws_85 rfl rfl ?_
    refine g_getR (kI := 4) rfl dX2_laws_86 fX2_70_2 (by first | assumption | first | assumption | (simp (disch := omega) only [shI, shR, shL, shC, shD, shW, sh_V, shN_e, shN_n, crI, crL, crC, crW, crV, crR_e, crR_n, crN_e, crN_n, ciR, ciL, ciD, ciN_e, ciN_n, rdI_e, rdI_n, rdC_i, rdC_o, rdW, rdU_e, rdU_n, rdLW, clI, clR, clC, clD, clW, clV, clN_e, clN_n, clL_e, clL_n]; done) | (simp (disch := omega) only [shI, shR, shL, shC, shD, shW, sh_V, shN_e, shN_n, crI, crL, crC, crW, crV, crR_e, crR_n, crN_e, crN_n, ciR, ciL, ciD, ciN_e, ciN_n, rdI_e, rdI_n, rdC_i, rdC_o, rdW, rdU_e, rdU_n, rdLW, clI, clR, clC, clD, clW, clV, clN_e, clN_n, clL_e, clL_n] <;> first | assumption | rfl | omega)) (by first | assumption | first | assumption | (simp (disch := omega) only [shI, shR, shL, shC, shD, shW, sh_V, shN_e, shN_n, crI, crL, crC, crW, crV, crR_e, crR_n, crN_e, crN_n, ciR, ciL, ciD, ciN_e, ciN_n, rdI_e, rdI_n, rdC_i, rdC_o, rdW, rdU_e, rdU_n, rdLW, clI, clR, clC, clD, clW, clV, clN_e, clN_n, clL_e, clL_n]; done) | (simp (disch := omega) only [shI, shR, shL, shC, shD, shW, sh_V, shN_e, shN_n, crI, crL, crC, crW, crV, crR_e, crR_n, crN_e, crN_n, ciR, ciL, ciD, ciN_e, ciN_n, rdI_e, rdI_n, rdC_i, rdC_o, rdW, rdU_e, rdU_n, rdLW, clI, clR, clC, clD, clW, clV, clN_e, clN_n, clL_e, clL_n] <;> first | assumption | rfl | omega)) ?_
    refine x_iload_n dX2_laws_89 rfl rfl ?_
    refine x_iload_n dX2_laws_90 rfl rfl ?_
    refine x_if_ne (tgt := 108) dX2_laws_91 (by decide) (fun h91 => ?_) (fun h91 => ?_)
    · simp at h91
    · refine x_newX (x := Y) (by first | (simp only [nxI, nxR, nxL, nxC, nxD, nxW, nxV, nxN]; done) | (simp only [nxI, nxR, nxL, nxC, nxD, nxW, nxV, nxN]; omega) | omega) (t := 15) rfl q1232 q1233 q176 dX2_laws_94 ?_
      refine x_dup dX2_laws_97 rfl ?_
      refine x_iload dX2_laws_98 rfl ?_
      refine x_aload dX2_laws_100 rfl ?_
      refine g_callN (vs := [_, _, _]) (d' := d - 1) rfl (s_X15_init (by omega) (by omega) (by first | assumption | (simp (disch := omega) only [shI, shR, shL, shC, shD, shW, sh_V, shN_e, shN_n, crI, crL, crC, crW, crV, crR_e, crR_n, crN_e, crN_n, ciR, ciL, ciD, ciN_e, ciN_n, rdI_e, rdI_n, rdC_i, rdC_o, rdW, rdU_e, rdU_n, rdLW, clI, clR, clC, clD, clW, clV, clN_e, clN_n, clL_e, clL_n]; done) | (simp (disch := omega) only [shI, shR, shL, shC, shD, shW, sh_V, shN_e, shN_n, crI, crL, crC, crW, crV, crR_e, crR_n, crN_e, crN_n, ciR, ciL, ciD, ciN_e, ciN_n, rdI_e, rdI_n, rdC_i, rdC_o, rdW, rdU_e, rdU_n, rdLW, clI, clR, clC, clD, clW, clV, clN_e, clN_n, clL_e, clL_n] <;> first | assumption | rfl | omega))) dX2_laws_102 kX2_226 (by omega) (by decide) rfl (Nat.le_of_ble_eq_true rfl) (rcv_o (by first | assumption | first | assumption | (simp (disch := omega) only [shI, shR, shL, shC, shD, shW, sh_V, shN_e, shN_n, crI, crL, crC, crW, crV, crR_e, crR_n, crN_e, crN_n, ciR, ciL, ciD, ciN_e, ciN_n, rdI_e, rdI_n, rdC_i, rdC_o, rdW, rdU_e, rdU_n, rdLW, clI, clR, clC, clD, clW, clV, clN_e, clN_n, clL_e, clL_n]; done) | (simp (disch := omega) only [shI, shR, shL, shC, shD, shW, sh_V, shN_e, shN_n, crI, crL, crC, crW, crV, crR_e, crR_n, crN_e, crN_n, ciR, ciL, ciD, ciN_e, ciN_n, rdI_e, rdI_n, rdC_i, rdC_o, rdW, rdU_e, rdU_n, rdLW, clI, clR, clC, clD, clW, clV, clN_e, clN_n, clL_e, clL_n] <;> first | assumption | rfl | omega)) rfl) (fun M102 h102 => ?_)
      subst h102
      refine x_goto (tgt := 138) dX2_laws_105 (by decide) ?_
      refine x_aast (t := 134) (by decide) rfl (by omega) dX2_laws_138 (by first | assumption | first | assumption | (simp (disch := omega) only [shI, shR, shL, shC, shD, shW, sh_V, shN_e, shN_n, crI, crL, crC, crW, crV, crR_e, crR_n, crN_e, crN_n, ciR, ciL, ciD, ciN_e, ciN_n, rdI_e, rdI_n, rdC_i, rdC_o, rdW, rdU_e, rdU_n, rdLW, clI, clR, clC, clD, clW, clV, clN_e, clN_n, clL_e, clL_n]; done) | (simp (disch := omega) only [shI, shR, shL, shC, shD, shW, sh_V, shN_e, shN_n, crI, crL, crC, crW, crV, crR_e, crR_n, crN_e, crN_n, ciR, ciL, ciD, ciN_e, ciN_n, rdI_e, rdI_n, rdC_i, rdC_o, rdW, rdU_e, rdU_n, rdLW, clI, clR, clC, clD, clW, clV, clN_e, clN_n, clL_e, clL_n] <;> first | assumption | rfl | omega)) (by omega) (by omega) (any_ob (tb := 15) rfl (if_pos rfl) (Or.inr q2462)) ?_
      refine WP.mem (mLn_P h7) ?_
      first | refine x_iincN (L' := [some _, some _, some _, some _, some _, some _]) dX2_laws_139 rfl (by decide) (by unfold i32; omega) rfl ?_ | refine x_iinc (L' := [some _, some _, some _, some _, some _, some _]) dX2_laws_139 rfl (by decide) rfl ?_
      refine x_goto (tgt := 7) dX2_laws_142 (by decide) ?_
      exact k
  · subst q
    refine x_astore (L' := [some _, some _, some _, some _, some _, some _]) dX2_laws_83 (by decide) rfl ?_
    refine x_aload_n dX2_laws_85 rfl rfl ?_
    refine g_getR (kI := 4) rfl dX2_laws_86 fX2_70_2 (by first | assumption | first | assumption | (simp (disch := omega) only [shI, shR, shL, shC, shD, shW, sh_V, shN_e, shN_n, crI, crL, crC, crW, crV, crR_e, crR_n, crN_e, crN_n, ciR, ciL, ciD, ciN_e, ciN_n, rdI_e, rdI_n, rdC_i, rdC_o, rdW, rdU_e, rdU_n, rdLW, clI, clR, clC, clD, clW, clV, clN_e, clN_n, clL_e, clL_n]; done) | (simp (disch := omega) only [shI, shR, shL, shC, shD, shW, sh_V, shN_e, shN_n, crI, crL, crC, crW, crV, crR_e, crR_n, crN_e, crN_n, ciR, ciL, ciD, ciN_e, ciN_n, rdI_e, rdI_n, rdC_i, rdC_o, rdW, rdU_e, rdU_n, rdLW, clI, clR, clC, clD, clW, clV, clN_e, clN_n, clL_e, clL_n] <;> first | assumption | rfl | omega)) (by first | assumption | first | assumption | (simp (disch := omega) only [shI, shR, shL, shC, shD, shW, sh_V, shN_e, shN_n, crI, crL, crC, crW, crV, crR_e, crR_n, crN_e, crN_n, ciR, ciL, ciD, ciN_e, ciN_n, rdI_e, rdI_n, rdC_i, rdC_o, rdW, rdU_e, rdU_n, rdLW, clI, clR, clC, clD, clW, clV, clN_e, clN_n, clL_e, clL_n]; done) | (simp (disch := omega) only [shI, shR, shL, shC, shD, shW, sh_V, shN_e, shN_n, crI, crL, crC, crW, crV, crR_e, crR_n, crN_e, crN_n, ciR, ciL, ciD, ciN_e, ciN_n, rdI_e, rdI_n, rdC_i, rdC_o, rdW, rdU_e, rdU_n, rdLW, clI, clR, clC, clD, clW, clV, clN_e, clN_n, clL_e, clL_n] <;> first | assumption | rfl | omega)) ?_
    refine x_iload_n dX2_laws_89 rfl rfl ?_
    refine x_iload_n dX2_laws_90 rfl rfl ?_
    refine x_if_ne (tgt := 108) dX2_laws_91 (by decide) (fun h91 => ?_) (fun h91 => ?_)
    · refine x_iload_n dX2_laws_108 rfl rfl ?_
      refine x_iconst dX2_laws_109 rfl ?_
      refine x_icmp_ne (tgt := 127) dX2_laws_110 (by decide) (fun h110 => ?_) (fun h110 => ?_)
      · simp at h110
      · refine x_newX (x := Y) (by first | (simp only [nxI, nxR, nxL, nxC, nxD, nxW, nxV, nxN]; done) | (simp only [nxI, nxR, nxL, nxC, nxD, nxW, nxV, nxN]; omega) | omega) (t := 16) rfl q1248 q1249 q177 dX2_laws_113 ?_
        refine x_dup dX2_laws_116 rfl ?_
        refine x_iload dX2_laws_117 rfl ?_
        refine x_aload dX2_laws_119 rfl ?_
        refine g_callN (vs := [_, _, _]) (d' := d - 1) rfl (s_X16_init (by omega) (by omega) (by first | assumption | (simp (disch := omega) only [shI, shR, shL, shC, shD, shW, sh_V, shN_e, shN_n, crI, crL, crC, crW, crV, crR_e, crR_n, crN_e, crN_n, ciR, ciL, ciD, ciN_e, ciN_n, rdI_e, rdI_n, rdC_i, rdC_o, rdW, rdU_e, rdU_n, rdLW, clI, clR, clC, clD, clW, clV, clN_e, clN_n, clL_e, clL_n]; done) | (simp (disch := omega) only [shI, shR, shL, shC, shD, shW, sh_V, shN_e, shN_n, crI, crL, crC, crW, crV, crR_e, crR_n, crN_e, crN_n, ciR, ciL, ciD, ciN_e, ciN_n, rdI_e, rdI_n, rdC_i, rdC_o, rdW, rdU_e, rdU_n, rdLW, clI, clR, clC, clD, clW, clV, clN_e, clN_n, clL_e, clL_n] <;> first | assumption | rfl | omega))) dX2_laws_121 kX2_231 (by omega) (by decide) rfl (Nat.le_of_ble_eq_true rfl) (rcv_o (by first | assumption | first | assumption | (simp (disch := omega) only [shI, shR, shL, shC, shD, shW, sh_V, shN_e, shN_n, crI, crL, crC, crW, crV, crR_e, crR_n, crN_e, crN_n, ciR, ciL, ciD, ciN_e, ciN_n, rdI_e, rdI_n, rdC_i, rdC_o, rdW, rdU_e, rdU_n, rdLW, clI, clR, clC, clD, clW, clV, clN_e, clN_n, clL_e, clL_n]; done) | (simp (disch := omega) only [shI, shR, shL, shC, shD, shW, sh_V, shN_e, shN_n, crI, crL, crC, crW, crV, crR_e, crR_n, crN_e, crN_n, ciR, ciL, ciD, ciN_e, ciN_n, rdI_e, rdI_n, rdC_i, rdC_o, rdW, rdU_e, rdU_n, rdLW, clI, clR, clC, clD, clW, clV, clN_e, clN_n, clL_e, clL_n] <;> first | assumption | rfl | omega)) rfl) (fun M121 h121 => ?_)
        subst h121
        refine x_goto (tgt := 138) dX2_laws_124 (by decide) ?_
        refine x_aast (t := 134) (by decide) rfl (by omega) dX2_laws_138 (by first | assumption | first | assumption | (simp (disch := omega) only [shI, shR, shL, shC, shD, shW, sh_V, shN_e, shN_n, crI, crL, crC, crW, crV, crR_e, crR_n, crN_e, crN_n, ciR, ciL, ciD, ciN_e, ciN_n, rdI_e, rdI_n, rdC_i, rdC_o, rdW, rdU_e, rdU_n, rdLW, clI, clR, clC, clD, clW, clV, clN_e, clN_n, clL_e, clL_n]; done) | (simp (disch := omega) only [shI, shR, shL, shC, shD, shW, sh_V, shN_e, shN_n, crI, crL, crC, crW, crV, crR_e, crR_n, crN_e, crN_n, ciR, ciL, ciD, ciN_e, ciN_n, rdI_e, rdI_n, rdC_i, rdC_o, rdW, rdU_e, rdU_n, rdLW, clI, clR, clC, clD, clW, clV, clN_e, clN_n, clL_e, clL_n] <;> first | assumption | rfl | omega)) (by omega) (by omega) (any_ob (tb := 16) rfl (if_pos rfl) (Or.inr q2463)) ?_
        refine WP.mem (mLn_P h7) ?_
        first | refine x_iincN (L' := [some _, some _, some _, some _, some _, some _]) dX2_laws_139 rfl (by decide) (by unfold i32; omega) rfl ?_ | refine x_iinc (L' := [some _, some _, some _, some _, some _, some _]) dX2_laws_139 rfl (by decide) rfl ?_
        refine x_goto (tgt := 7) dX2_laws_142 (by decide) ?_
        exact k
    · simp at h91
  · subst q
    refine x_astore (L' := [some _, some _, some _, some _, some _, some _]) dX2_laws_83 (by decide) rfl ?_
    refine x_aload_n dX2_laws_85 rfl rfl ?_
    refine g_getR (kI := 4) rfl dX2_laws_86 fX2_70_2 (by first | assumption | first | assumption | (simp (disch := omega) only [shI, shR, shL, shC, shD, shW, sh_V, shN_e, shN_n, crI, crL, crC, crW, crV, crR_e, crR_n, crN_e, crN_n, ciR, ciL, ciD, ciN_e, ciN_n, rdI_e, rdI_n, rdC_i, rdC_o, rdW, rdU_e, rdU_n, rdLW, clI, clR, clC, clD, clW, clV, clN_e, clN_n, clL_e, clL_n]; done) | (simp (disch := omega) only [shI, shR, shL, shC, shD, shW, sh_V, shN_e, shN_n, crI, crL, crC, crW, crV, crR_e, crR_n, crN_e, crN_n, ciR, ciL, ciD, ciN_e, ciN_n, rdI_e, rdI_n, rdC_i, rdC_o, rdW, rdU_e, rdU_n, rdLW, clI, clR, clC, clD, clW, clV, clN_e, clN_n, clL_e, clL_n] <;> first | assumption | rfl | omega)) (by first | assumption | first | assumption | (simp (disch := omega) only [shI, shR, shL, shC, shD, shW, sh_V, shN_e, shN_n, crI, crL, crC, crW, crV, crR_e, crR_n, crN_e, crN_n, ciR, ciL, ciD, ciN_e, ciN_n, rdI_e, rdI_n, rdC_i, rdC_o, rdW, rdU_e, rdU_n, rdLW, clI, clR, clC, clD, clW, clV, clN_e, clN_n, clL_e, clL_n]; done) | (simp (disch := omega) only [shI, shR, shL, shC, shD, shW, sh_V, shN_e, shN_n, crI, crL, crC, crW, crV, crR_e, crR_n, crN_e, crN_n, ciR, ciL, ciD, ciN_e, ciN_n, rdI_e, rdI_n, rdC_i, rdC_o, rdW, rdU_e, rdU_n, rdLW, clI, clR, clC, clD, clW, clV, clN_e, clN_n, clL_e, clL_n] <;> first | assumption | rfl | omega)) ?_
    refine x_iload_n dX2_laws_89 rfl rfl ?_
    refine x_iload_n dX2_laws_90 rfl rfl ?_
    refine x_if_ne (tgt := 108) dX2_laws_91 (by decide) (fun h91 => ?_) (fun h91 => ?_)
    · refine x_iload_n dX2_laws_108 rfl rfl ?_
      refine x_iconst dX2_laws_109 rfl ?_
      refine x_icmp_ne (tgt := 127) dX2_laws_110 (by decide) (fun h110 => ?_) (fun h110 => ?_)
      · refine x_newX (x := Y) (by first | (simp only [nxI, nxR, nxL, nxC, nxD, nxW, nxV, nxN]; done) | (simp only [nxI, nxR, nxL, nxC, nxD, nxW, nxV, nxN]; omega) | omega) (t := 17) rfl q1257 q1258 q178 dX2_laws_127 ?_
        refine x_dup dX2_laws_130 rfl ?_
        refine x_iload dX2_laws_131 rfl ?_
        refine x_aload dX2_laws_133 rfl ?_
        refine g_callN (vs := [_, _, _]) (d' := d - 1) rfl (s_X17_init (by omega) (by omega) (by first | assumption | (simp (disch := omega) only [shI, shR, shL, shC, shD, shW, sh_V, shN_e, shN_n, crI, crL, crC, crW, crV, crR_e, crR_n, crN_e, crN_n, ciR, ciL, ciD, ciN_e, ciN_n, rdI_e, rdI_n, rdC_i, rdC_o, rdW, rdU_e, rdU_n, rdLW, clI, clR, clC, clD, clW, clV, clN_e, clN_n, clL_e, clL_n]; done) | (simp (disch := omega) only [shI, shR, shL, shC, shD, shW, sh_V, shN_e, shN_n, crI, crL, crC, crW, crV, crR_e, crR_n, crN_e, crN_n, ciR, ciL, ciD, ciN_e, ciN_n, rdI_e, rdI_n, rdC_i, rdC_o, rdW, rdU_e, rdU_n, rdLW, clI, clR, clC, clD, clW, clV, clN_e, clN_n, clL_e, clL_n] <;> first | assumption | rfl | omega))) dX2_laws_135 kX2_234 (by omega) (by decide) rfl (Nat.le_of_ble_eq_true rfl) (rcv_o (by first | assumption | first | assumption | (simp (disch := omega) only [shI, shR, shL, shC, shD, shW, sh_V, shN_e, shN_n, crI, crL, crC, crW, crV, crR_e, crR_n, crN_e, crN_n, ciR, ciL, ciD, ciN_e, ciN_n, rdI_e, rdI_n, rdC_i, rdC_o, rdW, rdU_e, rdU_n, rdLW, clI, clR, clC, clD, clW, clV, clN_e, clN_n, clL_e, clL_n]; done) | (simp (disch := omega) only [shI, shR, shL, shC, shD, shW, sh_V, shN_e, shN_n, crI, crL, crC, crW, crV, crR_e, crR_n, crN_e, crN_n, ciR, ciL, ciD, ciN_e, ciN_n, rdI_e, rdI_n, rdC_i, rdC_o, rdW, rdU_e, rdU_n, rdLW, clI, clR, clC, clD, clW, clV, clN_e, clN_n, clL_e, clL_n] <;> first | assumption | rfl | omega)) rfl) (fun M135 h135 => ?_)
        subst h135
        refine x_aast (t := 134) (by decide) rfl (by omega) dX2_laws_138 (by first | assumption | first | assumption | (simp (disch := omega) only [shI, shR, shL, shC, shD, shW, sh_V, shN_e, shN_n, crI, crL, crC, crW, crV, crR_e, crR_n, crN_e, crN_n, ciR, ciL, ciD, ciN_e, ciN_n, rdI_e, rdI_n, rdC_i, rdC_o, rdW, rdU_e, rdU_n, rdLW, clI, clR, clC, clD, clW, clV, clN_e, clN_n, clL_e, clL_n]; done) | (simp (disch := omega) only [shI, shR, shL, shC, shD, shW, sh_V, shN_e, shN_n, crI, crL, crC, crW, crV, crR_e, crR_n, crN_e, crN_n, ciR, ciL, ciD, ciN_e, ciN_n, rdI_e, rdI_n, rdC_i, rdC_o, rdW, rdU_e, rdU_n, rdLW, clI, clR, clC, clD, clW, clV, clN_e, clN_n, clL_e, clL_n] <;> first | assumption | rfl | omega)) (by omega) (by omega) (any_ob (tb := 17) rfl (if_pos rfl) (Or.inr q2464)) ?_
        refine WP.mem (mLn_P h7) ?_
        first | refine x_iincN (L' := [some _, some _, some _, some _, some _, some _]) dX2_laws_139 rfl (by decide) (by unfold i32; omega) rfl ?_ | refine x_iinc (L' := [some _, some _, some _, some _, some _, some _]) dX2_laws_139 rfl (by decide) rfl ?_
        refine x_goto (tgt := 7) dX2_laws_142 (by decide) ?_
        exact k
      · simp at h110
    · simp at h91
theorem s_X2_laws (hd : 70 ≤ d) (hC : CI M v n A hi vi tp sz fa N) (hTpk : TpOk tp) (he : 0 ≤ e ∧ e ≤ 400) : CS G d mX2_laws [dR 2, dI e] M (orT (postI fun y M1 => ∃ r, rLaws tp e u = .inr r ∧ y = r.1 ∧ LnI M1 r.2.2 r.1 ∧ CO M v n A hi vi tp sz fa N 1300 5000 M1) (fun a E M1 => ∃ f, rLaws tp e u = .inl f ∧ a = 53 ∧ E = RX7 ∧ mci M1 53 6 = f ∧ CO M v n A hi vi tp sz fa N 1300 5000 M1)) := by
  obtain ⟨hC1, hC54, hCA, hCR⟩ := id hC; obtain ⟨hS, hTab, hTx, hLn, hSk, hnx⟩ := id hC1; obtain ⟨hA, hL, hR⟩ := id hC54; obtain ⟨⟨s0, s199, s200, s201, s202, s203⟩, ⟨c0, c1, c2, c3, c4, c5, c6, c7, c8, c9, c10, c11, c12⟩, c203, hSt, m189, m191, g193, g196, ⟨⟨r2, r3, r4, r5, r6, r7, r53⟩, ⟨w0, w1, w2, w3, w4, w5, w6⟩, wx1, wx2, wx3⟩⟩ := id hS; have hv := hA.1; have hv8 := hv.n8; have hv0 := hv.1.1; have hv3 := hv.2.2.2.1; have hs54 := hSt 54 (by unfold SB; omega); obtain ⟨p0, p1, ⟨d0, d1, d2, d3, d4, d5, d6, d7⟩, ⟨t1, t2, t3, t4, t5, t6⟩, p5, p6, p7⟩ := id hs54; have t7 : msh M (54 + 7) = some (4, 0) := p5.2.1; have t10 : msh M (54 + 10) = some (4, 0) := p6.2.1; obtain ⟨hB, hW, hLw⟩ := id hR.1; obtain ⟨b1, b2, b3, b4, b5, b6, b7, b8, b9, b10, b11, b12, b13, b14, b15⟩ := id hB; obtain ⟨hn, hn2, hat, hAc⟩ := id hCA; obtain ⟨⟨hki, hhi⟩, hIm, ⟨htp, hsz, hsz2⟩, hfa⟩ := id hCR
  refine CS.mkQ (by decide) (Nat.le_of_ble_eq_true rfl) fun Q hQ => ?_
  have fin : ∀ MB, CO M v n A hi vi tp sz fa N 0 0 MB → mci MB 2 8 = e → mci MB 2 9 = 0 → mci MB 2 10 = 0 → WP G d mX2_laws 5 [some (dR 2), some (dI e), none, none, none, none] [] MB Q := by
    intro MB hCO e28 e29 e20
    obtain ⟨hCB, hCr⟩ := hCO
    obtain ⟨h1, -, -, -, -, ⟨t1, -, -⟩, -⟩ := id hCB
    have hL := h1.2.2.2.2.2
    have hX : RdX MB tp e := ⟨h1.1.2.2.2.2.2.2.2.2, e28, t1, he, h1.2.2.1, hTpk⟩
    have out : ∀ (MM : Mem) (q x y : Int), Dl MB MM x y → x ≤ 1300 → y ≤ 5000 → LinC (msh MM) (mcr MM) (mnx MM) 5 → CO M v n A hi vi tp sz fa N 1300 5000 MM := fun MM q x y h hx hy h5 => CO.tr hCr (CI.dl (c := 1300) (s := 5000) hCB (h.le hx hy) h5)
    have lp : ∀ (t : Nat) (q P c i : Int) (MM : Mem) (w : Vw) (o3 o4 o5 : Option DV), (12 - i).toNat = t → (0 ≤ i ∧ i ≤ 12) → (0 ≤ q ∧ q ≤ e) → (0 ≤ P ∧ P ≤ e) → (skB tp e q = skB tp e P) → (0 ≤ c ∧ c ≤ P) → (rLaws tp e u = (if skB tp e P = e then .inr (i, c, w) else if i = 0 then rLwl tp e 14 0 (P, c, w) else if tp (skB tp e P) = 59 then rLwl tp e (14 - i).toNat i (skB tp e P + 1, c, w) else .inl (skB tp e P))) → (Dl MB MM (3 * P + i) (12 * P + 2 * i)) → (mci MM 2 10 = 0) → (LinC (msh MM) (mcr MM) (mnx MM) 5) → (LnI MM w i) → (∀ j, 0 ≤ j → j < i → lineOK w j ∧ w (372 + 4 * j) ≤ c) → WP G d mX2_laws 7 [some (dR 2), some (dI e), some (dI i), o3, o4, o5] [] (mP MM q) Q := by
      intro t
      induction t using Nat.strongRecOn with
      | _ t ih =>
        intro q P c i MM w o3 o4 o5 ht i0 h0 hP hq hc hr hD h10 hL5 hI hK
        have hX1 : RdX MM tp e := hX.dl hD (by omega)
        have r2' : msh MM 2 = some (2, 0) := hX1.1.1.1
        have hML : 761 ≤ mnx MM := by have := hD.2.1; omega
        have hs := skB_r (tp := tp) h0.2
        have hsP := skB_r (tp := tp) hP.2
        have bad : ∀ (f a : Int) (E : String) (M1 : Mem) (x y : Int), rLaws tp e u = .inl f → FlZ MM f x y a E M1 → 3 * P + i + x ≤ 1300 → 12 * P + 2 * i + y ≤ 5000 → Q (rT a E) M1 := fun f a E M1 x y h1 h2 h3 h4 => by
          obtain ⟨g1, g2, g3, g4⟩ := h2
          have hn1 := g3.nx
          have hs3 := g3
          obtain ⟨c', s', d1, -⟩ := hs3
          exact hQ _ _ (Or.inr ⟨_, _, rfl, f, h1, g1, g2, g4, out M1 0 _ _ (hD.trans g3.l) h3 h4 (hL5.of (fun b x y => (d1.1 b y).1) (fun k x y => (d1.1 _ (by omega)).2.2.1 k) (by omega))⟩)
        -- a line
        have go : ∀ P1 : Int, P ≤ P1 ∧ P1 ≤ e → i < 12 → rLaws tp e u = rLwl tp e (14 - i).toNat i (P1, c, w) → WP G d mX2_laws 17 [some (dR 2), some (dI e), some (dI i), o3, o4, o5] [] (mP MM (skB tp e P1)) Q := by
          intro P1 hP1 hi12 hr2
          have hPs := skB_r (tp := tp) hP1.2
          have hPw := wdB_r (tp := tp) hPs.2
          have hPi : skB tp e (skB tp e P1) = skB tp e P1 := skB_i _ rfl
          rw [show (14 - i).toNat = (14 - (i + 1)).toNat + 1 by omega, rLwl_s, if_pos hi12] at hr2
          have eL : rLaw tp e i (skB tp e P1) (wdB tp e (skB tp e P1)) c w = (if lawK tp (skB tp e P1) (wdB tp e (skB tp e P1)) < 0 then .inl (skB tp e P1) else (match numP tp e (wdB tp e (skB tp e P1)) 0 40 with
            | none => .inl (skB tp e (wdB tp e (skB tp e P1)))
            | some y =>
              if isW tp (skB tp e y.1) (wdB tp e (skB tp e y.1)) (txB 30) then
                match rCnd tp e (rAtm tp e 6) (wdB tp e (skB tp e y.1), c, us (us (us w (369 + 4 * i) (lawK tp (skB tp e P1) (wdB tp e (skB tp e P1)))) (370 + 4 * i) y.2) (371 + 4 * i) c) with
                | .inl x => .inl x
                | .inr z => .inr (z.1, z.2.1, us z.2.2 (372 + 4 * i) z.2.1)
              else .inr (skB tp e y.1, c, us (us (us (us w (369 + 4 * i) (lawK tp (skB tp e P1) (wdB tp e (skB tp e P1)))) (370 + 4 * i) y.2) (371 + 4 * i) c) (372 + 4 * i) c))) := rfl
          have hok := fun y (h : rLaw tp e i (skB tp e P1) (wdB tp e (skB tp e P1)) c w = .inr y) => rLaw_ok hPw.2 ⟨hc.1, by omega⟩ he.2 ⟨i0.1, hi12⟩ h
          generalize hb : skB tp e P1 = b at hPs hPw hPi hr2 eL hok
          generalize hW : wdB tp e b = W at hPw hr2 eL hok
          have mid : ∀ (K : Int) (o4 o5 : Option DV), lawK tp b W = K → 0 ≤ K ∧ K ≤ 2 → WP G d mX2_laws 56 [some (dR 2), some (dI e), some (dI i), some (dI K), o4, o5] [] (mP MM W) Q := by
            intro K o4 o5 hKK hK2
            rw [hKK, if_neg (by omega)] at eL
            -- a line is there
            have lin : ∀ (r : Option Int) (M' : Mem) (q' z : Int) (y : LgS), rLaw tp e i b W c w = .inr y → 0 ≤ q' ∧ q' ≤ e → skB tp e q' = skB tp e y.1 → Dz MM M' (3 * (y.1 - W)) (12 * (y.1 - W)) → mci M' 2 10 = 0 → y.2.2 (369 + 4 * i) = K → y.2.2 (370 + 4 * i) = z → (r = none ∧ ∀ fc, holdV y.2.2 fc i) ∨ (∃ c P, r = some c ∧ CD (msh M') (mci M') (mcr M') 761 (mnx M') 20 c P ∧ ∀ fc, FcOk fc → (P fc ↔ holdV y.2.2 fc i)) → WP G d mX2_laws 83 [some (dR 2), some (dI e), some (dI i), some (dI K), some (dI z), none] [dO r] (mP M' q') Q := by
              intro r M' q' z y hy hq' hqs' hD' h10' e1 e2 hcn
              obtain ⟨o1, o2, o3', o4', o5'⟩ := hok y hy
              rw [hy] at hr2
              dsimp only at hr2
              have hX' : RdX M' tp e := hX1.dz hD' (by omega)
              have hnM := hD'.nx
              have hsd := hD'.same (B := 54) (T := mnx MM) (Int.le_refl _) (Int.le_refl _)
              generalize hYY : ((mnx M' : Nat) : Int) = Y
              have hY7 : 761 ≤ Y := by omega
              have hYM : ((mnx MM : Nat) : Int) ≤ Y := by omega
              have hcr7 : ∀ k, mcr M' 7 k = mcr MM 7 k := fun k => by
                obtain ⟨c', s', d1, -⟩ := hD'
                exact (d1.1 7 (by omega)).2.2.1 k
              have hI' : LnI M' w i := fun j j0 j1 => by
                obtain ⟨l, l1, l2, l3, l4⟩ := hI j j0 j1
                exact ⟨l, (hcr7 j).trans l1, l2, (hsd l (by have := l4.1.1; omega) l4.1.2).1.trans l3, l4.same (fun a a0 a1 => hsd a (by omega) a1) (by omega)⟩
              have hL5' : LinC (msh M') (mcr M') (mnx M') 5 := hL5.of (fun b x y => (hsd b (by omega) y).1) (fun k x y => hcr7 k) (by omega)
              have hd3 := mLn_l (t := 15 + K.toNat) (z := z) (r := r) (i := i) hYY hY7
              have hlo := o5'
              obtain ⟨w1, w2, w3, -⟩ := hlo
              refine line_end (by omega) hX' hYY hY7 ⟨i0.1, hi12⟩ hK2 ?_
              refine ih _ (by omega) q' y.1 y.2.1 (i + 1) _ y.2.2 _ _ _ rfl (by omega) hq' (by omega) hqs' (by omega) (by rw [if_neg (show ¬ i + 1 = 0 by omega)]; exact hr2) ((hD.trans (hD'.l.trans hd3)).le (by omega) (by omega)) ((rdI_n (by omega)).trans ((ciN_n (by omega)).trans h10')) (mLn_c (T := 0) hYY hY7 (by omega) hL5') (mLn_i hYY hY7 i0.1 hK2 hI' (fun j j0 j1 => (hK j j0 j1).1) (fun j j0 j1 => ?_) e1 e2 (by rw [← e2]; omega) hcn) (fun j j0 j1 => ?_)
              · have hj := hK j j0 j1
                have hj3 := hj.1.2.2.1
                exact ⟨fun k k0 k1 => o4' k (by omega) (by omega), fun i' i1 i2 => ⟨o4' _ (by omega) (by omega), o4' _ (by omega) (by omega)⟩⟩
              · by_cases q : j = i
                · subst q
                  exact ⟨o5', by omega⟩
                · have hj := hK j j0 (by omega)
                  have hj3 := hj.1.2.2.1
                  exact ⟨hj.1.eq (fun k k0 k1 => o4' k (by omega) (by omega)) (fun k k0 k1 => o4' k (by omega) (by omega)), by rw [o4' _ (by omega) (by omega)]; omega⟩
            rcases hnu : numP tp e W 0 40 with _ | ⟨y1, z⟩
            · rw [hnu] at eL
              dsimp only at eL
              rw [eL] at hr2
              dsimp only at hr2
              refine x_aload_n dX2_laws_56 rfl rfl ?_
              refine x_iconst dX2_laws_57 rfl ?_
              refine x_bipush dX2_laws_58 rfl ?_
              refine g_callIX (vs := [_, _, _]) (d' := d - 1) rfl (s_X2_number (by omega) hX1 (by omega)) dX2_laws_60 kX2_124 (by omega) (by decide) rfl (Nat.le_of_ble_eq_true rfl) (rcv_o (by first | assumption | first | assumption | (simp (disch := omega) only [shI, shR, shL, shC, shD, shW, sh_V, shN_e, shN_n, crI, crL, crC, crW, crV, crR_e, crR_n, crN_e, crN_n, ciR, ciL, ciD, ciN_e, ciN_n, rdI_e, rdI_n, rdC_i, rdC_o, rdW, rdU_e, rdU_n, rdLW, clI, clR, clC, clD, clW, clV, clN_e, clN_n, clL_e, clL_n]; done) | (simp (disch := omega) only [shI, shR, shL, shC, shD, shW, sh_V, shN_e, shN_n, crI, crL, crC, crW, crV, crR_e, crR_n, crN_e, crN_n, ciR, ciL, ciD, ciN_e, ciN_n, rdI_e, rdI_n, rdC_i, rdC_o, rdW, rdU_e, rdU_n, rdLW, clI, clR, clC, clD, clW, clV, clN_e, clN_n, clL_e, clL_n] <;> first | assumption | rfl | omega)) rfl) (fun x60 M60 h60 => ?_) (fun a60 E60 M60 h60 => ?_)
              · obtain ⟨z, hz, -⟩ := h60
                rw [hnu] at hz
                cases hz
                skip
              · exact th_nil rfl (bad _ _ _ _ 0 0 hr2 (h60.2.z (Dr.rfl.z (Int.le_refl _) (Int.le_refl _)) (Int.le_refl _) (Int.le_refl _) rfl) (by omega) (by omega))
            · rw [hnu] at eL
              dsimp only at eL
              have hnr := numP_r hPw.2 hnu
              have hs4 := skB_r (tp := tp) hnr.2.1
              have hw4 := wdB_r (tp := tp) hs4.2
              by_cases hIf : isW tp (skB tp e y1) (wdB tp e (skB tp e y1)) (txB 30)
              · rw [if_pos hIf] at eL
                have hrow := row0_at (G := G) (d := d - 1) (t := 6) (c := c) (u := us (us (us w (369 + 4 * i) K) (370 + 4 * i) z) (371 + 4 * i) c) (p := wdB tp e (skB tp e y1)) (by omega) (s_X2_atom 6 (by omega)) hX1 hML (by omega) (by rw [h10]; rfl)
                rcases hx : rCnd tp e (rAtm tp e 6) (wdB tp e (skB tp e y1), c, us (us (us w (369 + 4 * i) K) (370 + 4 * i) z) (371 + 4 * i) c) with f | s
                · rw [hx] at eL
                  dsimp only at eL
                  rw [eL] at hr2
                  dsimp only at hr2
                  refine x_aload_n dX2_laws_56 rfl rfl ?_
                  refine x_iconst dX2_laws_57 rfl ?_
                  refine x_bipush dX2_laws_58 rfl ?_
                  refine g_callIX (vs := [_, _, _]) (d' := d - 1) rfl (s_X2_number (by omega) hX1 (by omega)) dX2_laws_60 kX2_124 (by omega) (by decide) rfl (Nat.le_of_ble_eq_true rfl) (rcv_o (by first | assumption | first | assumption | (simp (disch := omega) only [shI, shR, shL, shC, shD, shW, sh_V, shN_e, shN_n, crI, crL, crC, crW, crV, crR_e, crR_n, crN_e, crN_n, ciR, ciL, ciD, ciN_e, ciN_n, rdI_e, rdI_n, rdC_i, rdC_o, rdW, rdU_e, rdU_n, rdLW, clI, clR, clC, clD, clW, clV, clN_e, clN_n, clL_e, clL_n]; done) | (simp (disch := omega) only [shI, shR, shL, shC, shD, shW, sh_V, shN_e, shN_n, crI, crL, crC, crW, crV, crR_e, crR_n, crN_e, crN_n, ciR, ciL, ciD, ciN_e, ciN_n, rdI_e, rdI_n, rdC_i, rdC_o, rdW, rdU_e, rdU_n, rdLW, clI, clR, clC, clD, clW, clV, clN_e, clN_n, clL_e, clL_n] <;> first | assumption | rfl | omega)) rfl) (fun x60 M60 h60 => ?_) (fun a60 E60 M60 h60 => ?_)
                  · obtain ⟨z', hz, hM⟩ := h60
                    rw [hnu] at hz
                    cases hz
                    subst hM
                    refine x_istore (L' := [some _, some _, some _, some _, some _, _]) dX2_laws_63 (by decide) rfl ?_
                    refine x_aload_n dX2_laws_65 rfl rfl ?_
                    refine x_ldcs dX2_laws_66 (List.mem_of_getElem? (i := 30) rfl) ?_
                    refine g_callI (vs := [_, _]) (d' := d - 1) rfl (s_X2_takes (i := 30) (by omega) hX1 (by omega) (by omega) rfl) dX2_laws_68 kX2_109 (by omega) (by decide) rfl (Nat.le_of_ble_eq_true rfl) (rcv_o (by first | assumption | first | assumption | (simp (disch := omega) only [shI, shR, shL, shC, shD, shW, sh_V, shN_e, shN_n, crI, crL, crC, crW, crV, crR_e, crR_n, crN_e, crN_n, ciR, ciL, ciD, ciN_e, ciN_n, rdI_e, rdI_n, rdC_i, rdC_o, rdW, rdU_e, rdU_n, rdLW, clI, clR, clC, clD, clW, clV, clN_e, clN_n, clL_e, clL_n]; done) | (simp (disch := omega) only [shI, shR, shL, shC, shD, shW, sh_V, shN_e, shN_n, crI, crL, crC, crW, crV, crR_e, crR_n, crN_e, crN_n, ciR, ciL, ciD, ciN_e, ciN_n, rdI_e, rdI_n, rdC_i, rdC_o, rdW, rdU_e, rdU_n, rdLW, clI, clR, clC, clD, clW, clV, clN_e, clN_n, clL_e, clL_n] <;> first | assumption | rfl | omega)) rfl) (fun x68 M68 h68 => ?_)
                    obtain ⟨e68, f68⟩ := h68
                    rw [if_pos hIf] at f68
                    rw [vP_t hIf] at e68
                    subst e68
                    have f68' := f68.symm
                    subst f68'
                    refine x_if_eq (tgt := 82) dX2_laws_71 (by decide) (fun h71 => ?_) (fun h71 => ?_)
                    · try simp only [vP_0, vP_1, vP_n0, vP_n1, Classical.not_not] at h71
                      simp at h71
                    · try simp only [vP_0, vP_1, vP_n0, vP_n1, Classical.not_not] at h71
                      refine x_aload_n dX2_laws_74 rfl rfl ?_
                      refine x_iconst dX2_laws_75 rfl ?_
                      refine g_callRX (vs := [_, _]) (d' := d - 1) rfl (hrow) dX2_laws_76 kX2_221 (by omega) (by decide) rfl (Nat.le_of_ble_eq_true rfl) (rcv_o (by first | assumption | first | assumption | (simp (disch := omega) only [shI, shR, shL, shC, shD, shW, sh_V, shN_e, shN_n, crI, crL, crC, crW, crV, crR_e, crR_n, crN_e, crN_n, ciR, ciL, ciD, ciN_e, ciN_n, rdI_e, rdI_n, rdC_i, rdC_o, rdW, rdU_e, rdU_n, rdLW, clI, clR, clC, clD, clW, clV, clN_e, clN_n, clL_e, clL_n]; done) | (simp (disch := omega) only [shI, shR, shL, shC, shD, shW, sh_V, shN_e, shN_n, crI, crL, crC, crW, crV, crR_e, crR_n, crN_e, crN_n, ciR, ciL, ciD, ciN_e, ciN_n, rdI_e, rdI_n, rdC_i, rdC_o, rdW, rdU_e, rdU_n, rdLW, clI, clR, clC, clD, clW, clV, clN_e, clN_n, clL_e, clL_n] <;> first | assumption | rfl | omega)) rfl) (fun x76 M76 h76 => ?_) (fun a76 E76 M76 h76 => ?_)
                      · obtain ⟨y, P, M', q', a, hy, -⟩ := h76
                        rw [hx] at hy
                        cases hy
                        skip
                      · obtain ⟨f', hf, hz⟩ := h76
                        rw [hx] at hf
                        cases hf
                        exact th_nil rfl (bad _ _ _ _ _ _ hr2 hz (by show 3 * P + i + (3 * (e - wdB tp e (skB tp e y1)) + (4 + 2 * ((6 : Nat) : Int) + 1 + 1)) ≤ 1300; omega) (by show 12 * P + 2 * i + (12 * (e - wdB tp e (skB tp e y1)) + (18 + 6 * ((6 : Nat) : Int) + 3 + 3)) ≤ 5000; omega))
                  · exact absurd h60.1 (by rw [hnu]; exact fun h => nomatch h)
                · rw [hx] at eL
                  dsimp only at eL
                  obtain ⟨g1, g2, g3, g4, -⟩ := rCnd_g (rAtm_g 6) _ _ (by show wdB tp e (skB tp e y1) ≤ e; omega) hx 0
                  have g4' : ∀ k, ¬ (417 + 2 * c ≤ k ∧ k < 417 + 2 * s.2.1) → s.2.2 k = us (us (us w (369 + 4 * i) K) (370 + 4 * i) z) (371 + 4 * i) c k := g4
                  have g1' : wdB tp e (skB tp e y1) ≤ s.1 := g1.1
                  have g2' : c ≤ s.2.1 := g2
                  refine x_aload_n dX2_laws_56 rfl rfl ?_
                  refine x_iconst dX2_laws_57 rfl ?_
                  refine x_bipush dX2_laws_58 rfl ?_
                  refine g_callIX (vs := [_, _, _]) (d' := d - 1) rfl (s_X2_number (by omega) hX1 (by omega)) dX2_laws_60 kX2_124 (by omega) (by decide) rfl (Nat.le_of_ble_eq_true rfl) (rcv_o (by first | assumption | first | assumption | (simp (disch := omega) only [shI, shR, shL, shC, shD, shW, sh_V, shN_e, shN_n, crI, crL, crC, crW, crV, crR_e, crR_n, crN_e, crN_n, ciR, ciL, ciD, ciN_e, ciN_n, rdI_e, rdI_n, rdC_i, rdC_o, rdW, rdU_e, rdU_n, rdLW, clI, clR, clC, clD, clW, clV, clN_e, clN_n, clL_e, clL_n]; done) | (simp (disch := omega) only [shI, shR, shL, shC, shD, shW, sh_V, shN_e, shN_n, crI, crL, crC, crW, crV, crR_e, crR_n, crN_e, crN_n, ciR, ciL, ciD, ciN_e, ciN_n, rdI_e, rdI_n, rdC_i, rdC_o, rdW, rdU_e, rdU_n, rdLW, clI, clR, clC, clD, clW, clV, clN_e, clN_n, clL_e, clL_n] <;> first | assumption | rfl | omega)) rfl) (fun x60 M60 h60 => ?_) (fun a60 E60 M60 h60 => ?_)
                  · obtain ⟨z', hz, hM⟩ := h60
                    rw [hnu] at hz
                    cases hz
                    subst hM
                    refine x_istore (L' := [some _, some _, some _, some _, some _, _]) dX2_laws_63 (by decide) rfl ?_
                    refine x_aload_n dX2_laws_65 rfl rfl ?_
                    refine x_ldcs dX2_laws_66 (List.mem_of_getElem? (i := 30) rfl) ?_
                    refine g_callI (vs := [_, _]) (d' := d - 1) rfl (s_X2_takes (i := 30) (by omega) hX1 (by omega) (by omega) rfl) dX2_laws_68 kX2_109 (by omega) (by decide) rfl (Nat.le_of_ble_eq_true rfl) (rcv_o (by first | assumption | first | assumption | (simp (disch := omega) only [shI, shR, shL, shC, shD, shW, sh_V, shN_e, shN_n, crI, crL, crC, crW, crV, crR_e, crR_n, crN_e, crN_n, ciR, ciL, ciD, ciN_e, ciN_n, rdI_e, rdI_n, rdC_i, rdC_o, rdW, rdU_e, rdU_n, rdLW, clI, clR, clC, clD, clW, clV, clN_e, clN_n, clL_e, clL_n]; done) | (simp (disch := omega) only [shI, shR, shL, shC, shD, shW, sh_V, shN_e, shN_n, crI, crL, crC, crW, crV, crR_e, crR_n, crN_e, crN_n, ciR, ciL, ciD, ciN_e, ciN_n, rdI_e, rdI_n, rdC_i, rdC_o, rdW, rdU_e, rdU_n, rdLW, clI, clR, clC, clD, clW, clV, clN_e, clN_n, clL_e, clL_n] <;> first | assumption | rfl | omega)) rfl) (fun x68 M68 h68 => ?_)
                    obtain ⟨e68, f68⟩ := h68
                    rw [if_pos hIf] at f68
                    rw [vP_t hIf] at e68
                    subst e68
                    have f68' := f68.symm
                    subst f68'
                    refine x_if_eq (tgt := 82) dX2_laws_71 (by decide) (fun h71 => ?_) (fun h71 => ?_)
                    · try simp only [vP_0, vP_1, vP_n0, vP_n1, Classical.not_not] at h71
                      simp at h71
                    · try simp only [vP_0, vP_1, vP_n0, vP_n1, Classical.not_not] at h71
                      refine x_aload_n dX2_laws_74 rfl rfl ?_
                      refine x_iconst dX2_laws_75 rfl ?_
                      refine g_callRX (vs := [_, _]) (d' := d - 1) rfl (hrow) dX2_laws_76 kX2_221 (by omega) (by decide) rfl (Nat.le_of_ble_eq_true rfl) (rcv_o (by first | assumption | first | assumption | (simp (disch := omega) only [shI, shR, shL, shC, shD, shW, sh_V, shN_e, shN_n, crI, crL, crC, crW, crV, crR_e, crR_n, crN_e, crN_n, ciR, ciL, ciD, ciN_e, ciN_n, rdI_e, rdI_n, rdC_i, rdC_o, rdW, rdU_e, rdU_n, rdLW, clI, clR, clC, clD, clW, clV, clN_e, clN_n, clL_e, clL_n]; done) | (simp (disch := omega) only [shI, shR, shL, shC, shD, shW, sh_V, shN_e, shN_n, crI, crL, crC, crW, crV, crR_e, crR_n, crN_e, crN_n, ciR, ciL, ciD, ciN_e, ciN_n, rdI_e, rdI_n, rdC_i, rdC_o, rdW, rdU_e, rdU_n, rdLW, clI, clR, clC, clD, clW, clV, clN_e, clN_n, clL_e, clL_n] <;> first | assumption | rfl | omega)) rfl) (fun x76 M76 h76 => ?_) (fun a76 E76 M76 h76 => ?_)
                      · obtain ⟨y, R, M', q', a, hy, hER, ho, hMM, hq', hqs', hD', hT', hCD⟩ := h76
                        rw [hx] at hy
                        cases hy
                        cases ho
                        subst hMM
                        refine x_goto (tgt := 83) dX2_laws_79 (by decide) ?_
                        refine x_fgt (L' := [some (dR 2), some (dI e), some (dI i), some (dI K), some (dI z), none]) (by repeat (first | exact trivial | refine ⟨rfl, ?_⟩)) (lin (some a) M' q' z _ eL hq' hqs' (hD'.le (by show 3 * (s.1 - wdB tp e (skB tp e y1)) - 0 ≤ 3 * (s.1 - W); omega) (by show 12 * (s.1 - wdB tp e (skB tp e y1)) - 0 ≤ 12 * (s.1 - W); omega)) (hT'.trans h10) ?_ ?_ (Or.inr ⟨a, R, rfl, CD.lo (by omega) _ _ _ (CD.up hCD (by omega)), fun fc hfc => holdV_one ?_⟩))
                        · exact (us_n (by omega)).trans ((g4' _ (by omega)).trans ((us_n (by omega)).trans ((us_n (by omega)).trans (us_e rfl))))
                        · exact (us_n (by omega)).trans ((g4' _ (by omega)).trans ((us_n (by omega)).trans (us_e rfl)))
                        · have k2 : us s.2.2 (372 + 4 * i) s.2.1 (372 + 4 * i) = s.2.1 := us_e rfl
                          have k1 : us s.2.2 (372 + 4 * i) s.2.1 (371 + 4 * i) = c := (us_n (by omega)).trans ((g4' _ (by omega)).trans (us_e rfl))
                          show runC (us s.2.2 (372 + 4 * i) s.2.1) fc (us s.2.2 (372 + 4 * i) s.2.1 (372 + 4 * i) - us s.2.2 (372 + 4 * i) s.2.1 (371 + 4 * i)).toNat (us s.2.2 (372 + 4 * i) s.2.1 (371 + 4 * i)) [] = [vP (R fc)]
                          rw [k2, k1]
                          exact hER (us s.2.2 (372 + 4 * i) s.2.1) fc [] hfc fun i' (i1 : c ≤ i') (i2 : i' < s.2.1) => ⟨us_n (by omega), us_n (by omega)⟩
                      · obtain ⟨f', hf, -⟩ := h76
                        rw [hx] at hf
                        cases hf
                  · exact absurd h60.1 (by rw [hnu]; exact fun h => nomatch h)
              · rw [if_neg hIf] at eL
                refine x_aload_n dX2_laws_56 rfl rfl ?_
                refine x_iconst dX2_laws_57 rfl ?_
                refine x_bipush dX2_laws_58 rfl ?_
                refine g_callIX (vs := [_, _, _]) (d' := d - 1) rfl (s_X2_number (by omega) hX1 (by omega)) dX2_laws_60 kX2_124 (by omega) (by decide) rfl (Nat.le_of_ble_eq_true rfl) (rcv_o (by first | assumption | first | assumption | (simp (disch := omega) only [shI, shR, shL, shC, shD, shW, sh_V, shN_e, shN_n, crI, crL, crC, crW, crV, crR_e, crR_n, crN_e, crN_n, ciR, ciL, ciD, ciN_e, ciN_n, rdI_e, rdI_n, rdC_i, rdC_o, rdW, rdU_e, rdU_n, rdLW, clI, clR, clC, clD, clW, clV, clN_e, clN_n, clL_e, clL_n]; done) | (simp (disch := omega) only [shI, shR, shL, shC, shD, shW, sh_V, shN_e, shN_n, crI, crL, crC, crW, crV, crR_e, crR_n, crN_e, crN_n, ciR, ciL, ciD, ciN_e, ciN_n, rdI_e, rdI_n, rdC_i, rdC_o, rdW, rdU_e, rdU_n, rdLW, clI, clR, clC, clD, clW, clV, clN_e, clN_n, clL_e, clL_n] <;> first | assumption | rfl | omega)) rfl) (fun x60 M60 h60 => ?_) (fun a60 E60 M60 h60 => ?_)
                · obtain ⟨z', hz, hM⟩ := h60
                  rw [hnu] at hz
                  cases hz
                  subst hM
                  refine x_istore (L' := [some _, some _, some _, some _, some _, _]) dX2_laws_63 (by decide) rfl ?_
                  refine x_aload_n dX2_laws_65 rfl rfl ?_
                  refine x_ldcs dX2_laws_66 (List.mem_of_getElem? (i := 30) rfl) ?_
                  refine g_callI (vs := [_, _]) (d' := d - 1) rfl (s_X2_takes (i := 30) (by omega) hX1 (by omega) (by omega) rfl) dX2_laws_68 kX2_109 (by omega) (by decide) rfl (Nat.le_of_ble_eq_true rfl) (rcv_o (by first | assumption | first | assumption | (simp (disch := omega) only [shI, shR, shL, shC, shD, shW, sh_V, shN_e, shN_n, crI, crL, crC, crW, crV, crR_e, crR_n, crN_e, crN_n, ciR, ciL, ciD, ciN_e, ciN_n, rdI_e, rdI_n, rdC_i, rdC_o, rdW, rdU_e, rdU_n, rdLW, clI, clR, clC, clD, clW, clV, clN_e, clN_n, clL_e, clL_n]; done) | (simp (disch := omega) only [shI, shR, shL, shC, shD, shW, sh_V, shN_e, shN_n, crI, crL, crC, crW, crV, crR_e, crR_n, crN_e, crN_n, ciR, ciL, ciD, ciN_e, ciN_n, rdI_e, rdI_n, rdC_i, rdC_o, rdW, rdU_e, rdU_n, rdLW, clI, clR, clC, clD, clW, clV, clN_e, clN_n, clL_e, clL_n] <;> first | assumption | rfl | omega)) rfl) (fun x68 M68 h68 => ?_)
                  obtain ⟨e68, f68⟩ := h68
                  rw [if_neg hIf] at f68
                  rw [vP_f hIf] at e68
                  subst e68
                  have f68' := f68.symm
                  subst f68'
                  refine x_if_eq (tgt := 82) dX2_laws_71 (by decide) (fun h71 => ?_) (fun h71 => ?_)
                  · try simp only [vP_0, vP_1, vP_n0, vP_n1, Classical.not_not] at h71
                    refine x_null dX2_laws_82 ?_
                    refine x_fgt (L' := [some (dR 2), some (dI e), some (dI i), some (dI K), some (dI z), none]) (by repeat (first | exact trivial | refine ⟨rfl, ?_⟩)) (lin none MM (skB tp e y1) z _ eL (by omega) rfl (Dr.rfl.z (by show ((0 : Nat) : Int) ≤ 3 * (skB tp e y1 - W); omega) (by show ((0 : Nat) : Int) ≤ 12 * (skB tp e y1 - W); omega)) h10 ?_ ?_ (Or.inl ⟨rfl, fun fc => holdV_nil ?_⟩))
                    · exact (us_n (by omega)).trans ((us_n (by omega)).trans ((us_n (by omega)).trans (us_e rfl)))
                    · exact (us_n (by omega)).trans ((us_n (by omega)).trans (us_e rfl))
                    · exact (us_e rfl).trans ((us_n (by omega)).trans (us_e rfl)).symm
                  · try simp only [vP_0, vP_1, vP_n0, vP_n1, Classical.not_not] at h71
                    simp at h71
                · exact absurd h60.1 (by rw [hnu]; exact fun h => nomatch h)
          by_cases w25 : isW tp b W (txB 25)
          · refine x_aload_n dX2_laws_17 rfl rfl ?_
            refine x_ldcs dX2_laws_18 (List.mem_of_getElem? (i := 25) rfl) ?_
            refine g_callI (vs := [_, _]) (d' := d - 1) rfl (s_X2_takes (i := 25) (by omega) hX1 (by omega) (by omega) rfl) dX2_laws_20 kX2_109 (by omega) (by decide) rfl (Nat.le_of_ble_eq_true rfl) (rcv_o (by first | assumption | first | assumption | (simp (disch := omega) only [shI, shR, shL, shC, shD, shW, sh_V, shN_e, shN_n, crI, crL, crC, crW, crV, crR_e, crR_n, crN_e, crN_n, ciR, ciL, ciD, ciN_e, ciN_n, rdI_e, rdI_n, rdC_i, rdC_o, rdW, rdU_e, rdU_n, rdLW, clI, clR, clC, clD, clW, clV, clN_e, clN_n, clL_e, clL_n]; done) | (simp (disch := omega) only [shI, shR, shL, shC, shD, shW, sh_V, shN_e, shN_n, crI, crL, crC, crW, crV, crR_e, crR_n, crN_e, crN_n, ciR, ciL, ciD, ciN_e, ciN_n, rdI_e, rdI_n, rdC_i, rdC_o, rdW, rdU_e, rdU_n, rdLW, clI, clR, clC, clD, clW, clV, clN_e, clN_n, clL_e, clL_n] <;> first | assumption | rfl | omega)) rfl) (fun x20 M20 h20 => ?_)
            obtain ⟨e20, f20⟩ := h20
            rw [hPi, hW, if_pos w25] at f20
            rw [hPi, hW, vP_t w25] at e20
            subst e20
            have f20' := f20.symm
            subst f20'
            refine x_if_eq (tgt := 30) dX2_laws_23 (by decide) (fun h23 => ?_) (fun h23 => ?_)
            · try simp only [vP_0, vP_1, vP_n0, vP_n1, Classical.not_not] at h23
              simp at h23
            · try simp only [vP_0, vP_1, vP_n0, vP_n1, Classical.not_not] at h23
              refine x_iconst dX2_laws_26 rfl ?_
              refine x_goto (tgt := 44) dX2_laws_27 (by decide) ?_
              refine x_istore_n (L' := [some _, some _, some _, some _, _, _]) dX2_laws_44 rfl (by decide) rfl ?_
              refine x_iload_n dX2_laws_45 rfl rfl ?_
              refine x_iconst dX2_laws_46 rfl ?_
              refine x_icmp_ne (tgt := 56) dX2_laws_47 (by decide) (fun h47 => ?_) (fun h47 => ?_)
              · exact mid 0 _ _ (if_pos w25) (by omega)
              · omega
          · by_cases w28 : isW tp b W (txB 28)
            · refine x_aload_n dX2_laws_17 rfl rfl ?_
              refine x_ldcs dX2_laws_18 (List.mem_of_getElem? (i := 25) rfl) ?_
              refine g_callI (vs := [_, _]) (d' := d - 1) rfl (s_X2_takes (i := 25) (by omega) hX1 (by omega) (by omega) rfl) dX2_laws_20 kX2_109 (by omega) (by decide) rfl (Nat.le_of_ble_eq_true rfl) (rcv_o (by first | assumption | first | assumption | (simp (disch := omega) only [shI, shR, shL, shC, shD, shW, sh_V, shN_e, shN_n, crI, crL, crC, crW, crV, crR_e, crR_n, crN_e, crN_n, ciR, ciL, ciD, ciN_e, ciN_n, rdI_e, rdI_n, rdC_i, rdC_o, rdW, rdU_e, rdU_n, rdLW, clI, clR, clC, clD, clW, clV, clN_e, clN_n, clL_e, clL_n]; done) | (simp (disch := omega) only [shI, shR, shL, shC, shD, shW, sh_V, shN_e, shN_n, crI, crL, crC, crW, crV, crR_e, crR_n, crN_e, crN_n, ciR, ciL, ciD, ciN_e, ciN_n, rdI_e, rdI_n, rdC_i, rdC_o, rdW, rdU_e, rdU_n, rdLW, clI, clR, clC, clD, clW, clV, clN_e, clN_n, clL_e, clL_n] <;> first | assumption | rfl | omega)) rfl) (fun x20 M20 h20 => ?_)
              obtain ⟨e20, f20⟩ := h20
              rw [hPi, hW, if_neg w25] at f20
              rw [hPi, hW, vP_f w25] at e20
              subst e20
              have f20' := f20.symm
              subst f20'
              refine x_if_eq (tgt := 30) dX2_laws_23 (by decide) (fun h23 => ?_) (fun h23 => ?_)
              · try simp only [vP_0, vP_1, vP_n0, vP_n1, Classical.not_not] at h23
                refine x_aload_n dX2_laws_30 rfl rfl ?_
                refine x_ldcs dX2_laws_31 (List.mem_of_getElem? (i := 28) rfl) ?_
                refine g_callI (vs := [_, _]) (d' := d - 1) rfl (s_X2_takes (i := 28) (by omega) hX1 (by omega) (by omega) rfl) dX2_laws_33 kX2_109 (by omega) (by decide) rfl (Nat.le_of_ble_eq_true rfl) (rcv_o (by first | assumption | first | assumption | (simp (disch := omega) only [shI, shR, shL, shC, shD, shW, sh_V, shN_e, shN_n, crI, crL, crC, crW, crV, crR_e, crR_n, crN_e, crN_n, ciR, ciL, ciD, ciN_e, ciN_n, rdI_e, rdI_n, rdC_i, rdC_o, rdW, rdU_e, rdU_n, rdLW, clI, clR, clC, clD, clW, clV, clN_e, clN_n, clL_e, clL_n]; done) | (simp (disch := omega) only [shI, shR, shL, shC, shD, shW, sh_V, shN_e, shN_n, crI, crL, crC, crW, crV, crR_e, crR_n, crN_e, crN_n, ciR, ciL, ciD, ciN_e, ciN_n, rdI_e, rdI_n, rdC_i, rdC_o, rdW, rdU_e, rdU_n, rdLW, clI, clR, clC, clD, clW, clV, clN_e, clN_n, clL_e, clL_n] <;> first | assumption | rfl | omega)) rfl) (fun x33 M33 h33 => ?_)
                obtain ⟨e33, f33⟩ := h33
                rw [hPi, hW, if_pos w28] at f33
                rw [hPi, hW, vP_t w28] at e33
                subst e33
                have f33' := f33.symm
                subst f33'
                refine x_if_eq (tgt := 43) dX2_laws_36 (by decide) (fun h36 => ?_) (fun h36 => ?_)
                · try simp only [vP_0, vP_1, vP_n0, vP_n1, Classical.not_not] at h36
                  simp at h36
                · try simp only [vP_0, vP_1, vP_n0, vP_n1, Classical.not_not] at h36
                  refine x_iconst dX2_laws_39 rfl ?_
                  refine x_goto (tgt := 44) dX2_laws_40 (by decide) ?_
                  refine x_istore_n (L' := [some _, some _, some _, some _, _, _]) dX2_laws_44 rfl (by decide) rfl ?_
                  refine x_iload_n dX2_laws_45 rfl rfl ?_
                  refine x_iconst dX2_laws_46 rfl ?_
                  refine x_icmp_ne (tgt := 56) dX2_laws_47 (by decide) (fun h47 => ?_) (fun h47 => ?_)
                  · exact mid 1 _ _ ((if_neg w25).trans (if_pos w28)) (by omega)
                  · omega
              · try simp only [vP_0, vP_1, vP_n0, vP_n1, Classical.not_not] at h23
                simp at h23
            · by_cases w29 : isW tp b W (txB 29)
              · refine x_aload_n dX2_laws_17 rfl rfl ?_
                refine x_ldcs dX2_laws_18 (List.mem_of_getElem? (i := 25) rfl) ?_
                refine g_callI (vs := [_, _]) (d' := d - 1) rfl (s_X2_takes (i := 25) (by omega) hX1 (by omega) (by omega) rfl) dX2_laws_20 kX2_109 (by omega) (by decide) rfl (Nat.le_of_ble_eq_true rfl) (rcv_o (by first | assumption | first | assumption | (simp (disch := omega) only [shI, shR, shL, shC, shD, shW, sh_V, shN_e, shN_n, crI, crL, crC, crW, crV, crR_e, crR_n, crN_e, crN_n, ciR, ciL, ciD, ciN_e, ciN_n, rdI_e, rdI_n, rdC_i, rdC_o, rdW, rdU_e, rdU_n, rdLW, clI, clR, clC, clD, clW, clV, clN_e, clN_n, clL_e, clL_n]; done) | (simp (disch := omega) only [shI, shR, shL, shC, shD, shW, sh_V, shN_e, shN_n, crI, crL, crC, crW, crV, crR_e, crR_n, crN_e, crN_n, ciR, ciL, ciD, ciN_e, ciN_n, rdI_e, rdI_n, rdC_i, rdC_o, rdW, rdU_e, rdU_n, rdLW, clI, clR, clC, clD, clW, clV, clN_e, clN_n, clL_e, clL_n] <;> first | assumption | rfl | omega)) rfl) (fun x20 M20 h20 => ?_)
                obtain ⟨e20, f20⟩ := h20
                rw [hPi, hW, if_neg w25] at f20
                rw [hPi, hW, vP_f w25] at e20
                subst e20
                have f20' := f20.symm
                subst f20'
                refine x_if_eq (tgt := 30) dX2_laws_23 (by decide) (fun h23 => ?_) (fun h23 => ?_)
                · try simp only [vP_0, vP_1, vP_n0, vP_n1, Classical.not_not] at h23
                  refine x_aload_n dX2_laws_30 rfl rfl ?_
                  refine x_ldcs dX2_laws_31 (List.mem_of_getElem? (i := 28) rfl) ?_
                  refine g_callI (vs := [_, _]) (d' := d - 1) rfl (s_X2_takes (i := 28) (by omega) hX1 (by omega) (by omega) rfl) dX2_laws_33 kX2_109 (by omega) (by decide) rfl (Nat.le_of_ble_eq_true rfl) (rcv_o (by first | assumption | first | assumption | (simp (disch := omega) only [shI, shR, shL, shC, shD, shW, sh_V, shN_e, shN_n, crI, crL, crC, crW, crV, crR_e, crR_n, crN_e, crN_n, ciR, ciL, ciD, ciN_e, ciN_n, rdI_e, rdI_n, rdC_i, rdC_o, rdW, rdU_e, rdU_n, rdLW, clI, clR, clC, clD, clW, clV, clN_e, clN_n, clL_e, clL_n]; done) | (simp (disch := omega) only [shI, shR, shL, shC, shD, shW, sh_V, shN_e, shN_n, crI, crL, crC, crW, crV, crR_e, crR_n, crN_e, crN_n, ciR, ciL, ciD, ciN_e, ciN_n, rdI_e, rdI_n, rdC_i, rdC_o, rdW, rdU_e, rdU_n, rdLW, clI, clR, clC, clD, clW, clV, clN_e, clN_n, clL_e, clL_n] <;> first | assumption | rfl | omega)) rfl) (fun x33 M33 h33 => ?_)
                  obtain ⟨e33, f33⟩ := h33
                  rw [hPi, hW, if_neg w28] at f33
                  rw [hPi, hW, vP_f w28] at e33
                  subst e33
                  have f33' := f33.symm
                  subst f33'
                  refine x_if_eq (tgt := 43) dX2_laws_36 (by decide) (fun h36 => ?_) (fun h36 => ?_)
                  · try simp only [vP_0, vP_1, vP_n0, vP_n1, Classical.not_not] at h36
                    refine x_iconst dX2_laws_43 rfl ?_
                    refine x_istore_n (L' := [some _, some _, some _, some _, _, _]) dX2_laws_44 rfl (by decide) rfl ?_
                    refine x_iload_n dX2_laws_45 rfl rfl ?_
                    refine x_iconst dX2_laws_46 rfl ?_
                    refine x_icmp_ne (tgt := 56) dX2_laws_47 (by decide) (fun h47 => ?_) (fun h47 => ?_)
                    · omega
                    · refine x_aload_n dX2_laws_50 rfl rfl ?_
                      refine x_ldcs dX2_laws_51 (List.mem_of_getElem? (i := 29) rfl) ?_
                      refine g_callNX (vs := [_, _]) (d' := d - 1) rfl (s_X2_expect (i := 29) (by omega) hX1 (by omega) (by omega) rfl) dX2_laws_53 kX2_120 (by omega) (by decide) rfl (Nat.le_of_ble_eq_true rfl) (rcv_o (by first | assumption | first | assumption | (simp (disch := omega) only [shI, shR, shL, shC, shD, shW, sh_V, shN_e, shN_n, crI, crL, crC, crW, crV, crR_e, crR_n, crN_e, crN_n, ciR, ciL, ciD, ciN_e, ciN_n, rdI_e, rdI_n, rdC_i, rdC_o, rdW, rdU_e, rdU_n, rdLW, clI, clR, clC, clD, clW, clV, clN_e, clN_n, clL_e, clL_n]; done) | (simp (disch := omega) only [shI, shR, shL, shC, shD, shW, sh_V, shN_e, shN_n, crI, crL, crC, crW, crV, crR_e, crR_n, crN_e, crN_n, ciR, ciL, ciD, ciN_e, ciN_n, rdI_e, rdI_n, rdC_i, rdC_o, rdW, rdU_e, rdU_n, rdLW, clI, clR, clC, clD, clW, clV, clN_e, clN_n, clL_e, clL_n] <;> first | assumption | rfl | omega)) rfl) (fun M53 h53 => ?_) (fun a53 E53 M53 h53 => ?_)
                      · obtain ⟨-, f53⟩ := h53
                        rw [hPi, hW] at f53
                        subst f53
                        exact mid 2 _ _ ((if_neg w25).trans ((if_neg w28).trans (if_pos w29))) (by omega)
                      · rw [hPi, hW] at h53
                        exact absurd w29 h53.1
                  · try simp only [vP_0, vP_1, vP_n0, vP_n1, Classical.not_not] at h36
                    simp at h36
                · try simp only [vP_0, vP_1, vP_n0, vP_n1, Classical.not_not] at h23
                  simp at h23
              · have hK9 : lawK tp b W = -1 := (if_neg w25).trans ((if_neg w28).trans (if_neg w29))
                rw [hK9, if_pos (by omega)] at eL
                rw [eL] at hr2
                dsimp only at hr2
                refine x_aload_n dX2_laws_17 rfl rfl ?_
                refine x_ldcs dX2_laws_18 (List.mem_of_getElem? (i := 25) rfl) ?_
                refine g_callI (vs := [_, _]) (d' := d - 1) rfl (s_X2_takes (i := 25) (by omega) hX1 (by omega) (by omega) rfl) dX2_laws_20 kX2_109 (by omega) (by decide) rfl (Nat.le_of_ble_eq_true rfl) (rcv_o (by first | assumption | first | assumption | (simp (disch := omega) only [shI, shR, shL, shC, shD, shW, sh_V, shN_e, shN_n, crI, crL, crC, crW, crV, crR_e, crR_n, crN_e, crN_n, ciR, ciL, ciD, ciN_e, ciN_n, rdI_e, rdI_n, rdC_i, rdC_o, rdW, rdU_e, rdU_n, rdLW, clI, clR, clC, clD, clW, clV, clN_e, clN_n, clL_e, clL_n]; done) | (simp (disch := omega) only [shI, shR, shL, shC, shD, shW, sh_V, shN_e, shN_n, crI, crL, crC, crW, crV, crR_e, crR_n, crN_e, crN_n, ciR, ciL, ciD, ciN_e, ciN_n, rdI_e, rdI_n, rdC_i, rdC_o, rdW, rdU_e, rdU_n, rdLW, clI, clR, clC, clD, clW, clV, clN_e, clN_n, clL_e, clL_n] <;> first | assumption | rfl | omega)) rfl) (fun x20 M20 h20 => ?_)
                obtain ⟨e20, f20⟩ := h20
                rw [hPi, hW, if_neg w25] at f20
                rw [hPi, hW, vP_f w25] at e20
                subst e20
                have f20' := f20.symm
                subst f20'
                refine x_if_eq (tgt := 30) dX2_laws_23 (by decide) (fun h23 => ?_) (fun h23 => ?_)
                · try simp only [vP_0, vP_1, vP_n0, vP_n1, Classical.not_not] at h23
                  refine x_aload_n dX2_laws_30 rfl rfl ?_
                  refine x_ldcs dX2_laws_31 (List.mem_of_getElem? (i := 28) rfl) ?_
                  refine g_callI (vs := [_, _]) (d' := d - 1) rfl (s_X2_takes (i := 28) (by omega) hX1 (by omega) (by omega) rfl) dX2_laws_33 kX2_109 (by omega) (by decide) rfl (Nat.le_of_ble_eq_true rfl) (rcv_o (by first | assumption | first | assumption | (simp (disch := omega) only [shI, shR, shL, shC, shD, shW, sh_V, shN_e, shN_n, crI, crL, crC, crW, crV, crR_e, crR_n, crN_e, crN_n, ciR, ciL, ciD, ciN_e, ciN_n, rdI_e, rdI_n, rdC_i, rdC_o, rdW, rdU_e, rdU_n, rdLW, clI, clR, clC, clD, clW, clV, clN_e, clN_n, clL_e, clL_n]; done) | (simp (disch := omega) only [shI, shR, shL, shC, shD, shW, sh_V, shN_e, shN_n, crI, crL, crC, crW, crV, crR_e, crR_n, crN_e, crN_n, ciR, ciL, ciD, ciN_e, ciN_n, rdI_e, rdI_n, rdC_i, rdC_o, rdW, rdU_e, rdU_n, rdLW, clI, clR, clC, clD, clW, clV, clN_e, clN_n, clL_e, clL_n] <;> first | assumption | rfl | omega)) rfl) (fun x33 M33 h33 => ?_)
                  obtain ⟨e33, f33⟩ := h33
                  rw [hPi, hW, if_neg w28] at f33
                  rw [hPi, hW, vP_f w28] at e33
                  subst e33
                  have f33' := f33.symm
                  subst f33'
                  refine x_if_eq (tgt := 43) dX2_laws_36 (by decide) (fun h36 => ?_) (fun h36 => ?_)
                  · try simp only [vP_0, vP_1, vP_n0, vP_n1, Classical.not_not] at h36
                    refine x_iconst dX2_laws_43 rfl ?_
                    refine x_istore_n (L' := [some _, some _, some _, some _, _, _]) dX2_laws_44 rfl (by decide) rfl ?_
                    refine x_iload_n dX2_laws_45 rfl rfl ?_
                    refine x_iconst dX2_laws_46 rfl ?_
                    refine x_icmp_ne (tgt := 56) dX2_laws_47 (by decide) (fun h47 => ?_) (fun h47 => ?_)
                    · omega
                    · refine x_aload_n dX2_laws_50 rfl rfl ?_
                      refine x_ldcs dX2_laws_51 (List.mem_of_getElem? (i := 29) rfl) ?_
                      refine g_callNX (vs := [_, _]) (d' := d - 1) rfl (s_X2_expect (i := 29) (by omega) hX1 (by omega) (by omega) rfl) dX2_laws_53 kX2_120 (by omega) (by decide) rfl (Nat.le_of_ble_eq_true rfl) (rcv_o (by first | assumption | first | assumption | (simp (disch := omega) only [shI, shR, shL, shC, shD, shW, sh_V, shN_e, shN_n, crI, crL, crC, crW, crV, crR_e, crR_n, crN_e, crN_n, ciR, ciL, ciD, ciN_e, ciN_n, rdI_e, rdI_n, rdC_i, rdC_o, rdW, rdU_e, rdU_n, rdLW, clI, clR, clC, clD, clW, clV, clN_e, clN_n, clL_e, clL_n]; done) | (simp (disch := omega) only [shI, shR, shL, shC, shD, shW, sh_V, shN_e, shN_n, crI, crL, crC, crW, crV, crR_e, crR_n, crN_e, crN_n, ciR, ciL, ciD, ciN_e, ciN_n, rdI_e, rdI_n, rdC_i, rdC_o, rdW, rdU_e, rdU_n, rdLW, clI, clR, clC, clD, clW, clV, clN_e, clN_n, clL_e, clL_n] <;> first | assumption | rfl | omega)) rfl) (fun M53 h53 => ?_) (fun a53 E53 M53 h53 => ?_)
                      · obtain ⟨e53, -⟩ := h53
                        rw [hPi, hW] at e53
                        exact absurd e53 w29
                        skip
                      · rw [hPi, hW] at h53
                        exact th_nil rfl (bad _ _ _ _ 0 0 hr2 (h53.2.z (Dr.rfl.z (Int.le_refl _) (Int.le_refl _)) (Int.le_refl _) (Int.le_refl _) rfl) (by omega) (by omega))
                  · try simp only [vP_0, vP_1, vP_n0, vP_n1, Classical.not_not] at h36
                    simp at h36
                · try simp only [vP_0, vP_1, vP_n0, vP_n1, Classical.not_not] at h23
                  simp at h23
        by_cases hbe : skB tp e q < e
        · rw [← hq] at hr
          rw [if_neg (by omega)] at hr
          by_cases hi0 : i = 0
          · rw [if_pos hi0] at hr
            have hm : moreR tp e q i 12 = .inr (1, skB tp e q) := by
              unfold moreR
              rw [if_pos hbe, if_neg (by omega)]
            refine x_aload_n dX2_laws_7 rfl rfl ?_
            refine x_iload_n dX2_laws_8 rfl rfl ?_
            refine x_bipush dX2_laws_9 rfl ?_
            refine g_callIX (vs := [_, _, _]) (d' := d - 1) rfl (s_X2_more (by omega) hX1 h0 (by omega) (by omega)) dX2_laws_11 kX2_138 (by omega) (by decide) rfl (Nat.le_of_ble_eq_true rfl) (rcv_o (by first | assumption | first | assumption | (simp (disch := omega) only [shI, shR, shL, shC, shD, shW, sh_V, shN_e, shN_n, crI, crL, crC, crW, crV, crR_e, crR_n, crN_e, crN_n, ciR, ciL, ciD, ciN_e, ciN_n, rdI_e, rdI_n, rdC_i, rdC_o, rdW, rdU_e, rdU_n, rdLW, clI, clR, clC, clD, clW, clV, clN_e, clN_n, clL_e, clL_n]; done) | (simp (disch := omega) only [shI, shR, shL, shC, shD, shW, sh_V, shN_e, shN_n, crI, crL, crC, crW, crV, crR_e, crR_n, crN_e, crN_n, ciR, ciL, ciD, ciN_e, ciN_n, rdI_e, rdI_n, rdC_i, rdC_o, rdW, rdU_e, rdU_n, rdLW, clI, clR, clC, clD, clW, clV, clN_e, clN_n, clL_e, clL_n] <;> first | assumption | rfl | omega)) rfl) (fun x11 M11 h11 => ?_) (fun a11 E11 M11 h11 => ?_)
            · obtain ⟨q2, hq2, hM⟩ := h11
              rw [hm] at hq2
              cases hq2
              subst hM
              refine x_if_eq (tgt := 145) dX2_laws_14 (by decide) (fun h14 => ?_) (fun h14 => ?_)
              · simp at h14
              · rw [hq]
                exact go P ⟨Int.le_refl _, hP.2⟩ (by omega) (by rw [hr, hi0]; first | done | rfl)
            · obtain ⟨f', hf, -⟩ := h11
              rw [hm] at hf
              cases hf
          · rw [if_neg hi0] at hr
            by_cases h59 : tp (skB tp e q) = 59
            · rw [if_pos h59] at hr
              by_cases h12 : i = 12
              · have hm : moreR tp e q i 12 = .inl (skB tp e (skB tp e q + 1)) := by
                  unfold moreR
                  rw [if_pos hbe, if_pos (by omega), if_pos h59, if_pos h12]
                rw [show (14 - i).toNat = 1 + 1 by omega, rLwl_s, if_neg (by omega)] at hr
                refine x_aload_n dX2_laws_7 rfl rfl ?_
                refine x_iload_n dX2_laws_8 rfl rfl ?_
                refine x_bipush dX2_laws_9 rfl ?_
                refine g_callIX (vs := [_, _, _]) (d' := d - 1) rfl (s_X2_more (by omega) hX1 h0 (by omega) (by omega)) dX2_laws_11 kX2_138 (by omega) (by decide) rfl (Nat.le_of_ble_eq_true rfl) (rcv_o (by first | assumption | first | assumption | (simp (disch := omega) only [shI, shR, shL, shC, shD, shW, sh_V, shN_e, shN_n, crI, crL, crC, crW, crV, crR_e, crR_n, crN_e, crN_n, ciR, ciL, ciD, ciN_e, ciN_n, rdI_e, rdI_n, rdC_i, rdC_o, rdW, rdU_e, rdU_n, rdLW, clI, clR, clC, clD, clW, clV, clN_e, clN_n, clL_e, clL_n]; done) | (simp (disch := omega) only [shI, shR, shL, shC, shD, shW, sh_V, shN_e, shN_n, crI, crL, crC, crW, crV, crR_e, crR_n, crN_e, crN_n, ciR, ciL, ciD, ciN_e, ciN_n, rdI_e, rdI_n, rdC_i, rdC_o, rdW, rdU_e, rdU_n, rdLW, clI, clR, clC, clD, clW, clV, clN_e, clN_n, clL_e, clL_n] <;> first | assumption | rfl | omega)) rfl) (fun x11 M11 h11 => ?_) (fun a11 E11 M11 h11 => ?_)
                · obtain ⟨q2, hq2, -⟩ := h11
                  rw [hm] at hq2
                  cases hq2
                  skip
                · obtain ⟨f', hf, hx⟩ := h11
                  rw [hm] at hf
                  cases hf
                  exact th_nil rfl (bad _ _ _ _ 0 0 hr (hx.z (Dr.rfl.z (Int.le_refl _) (Int.le_refl _)) (Int.le_refl _) (Int.le_refl _) rfl) (by omega) (by omega))
              · have hm : moreR tp e q i 12 = .inr (1, skB tp e (skB tp e q + 1)) := by
                  unfold moreR
                  rw [if_pos hbe, if_pos (by omega), if_pos h59, if_neg h12]
                refine x_aload_n dX2_laws_7 rfl rfl ?_
                refine x_iload_n dX2_laws_8 rfl rfl ?_
                refine x_bipush dX2_laws_9 rfl ?_
                refine g_callIX (vs := [_, _, _]) (d' := d - 1) rfl (s_X2_more (by omega) hX1 h0 (by omega) (by omega)) dX2_laws_11 kX2_138 (by omega) (by decide) rfl (Nat.le_of_ble_eq_true rfl) (rcv_o (by first | assumption | first | assumption | (simp (disch := omega) only [shI, shR, shL, shC, shD, shW, sh_V, shN_e, shN_n, crI, crL, crC, crW, crV, crR_e, crR_n, crN_e, crN_n, ciR, ciL, ciD, ciN_e, ciN_n, rdI_e, rdI_n, rdC_i, rdC_o, rdW, rdU_e, rdU_n, rdLW, clI, clR, clC, clD, clW, clV, clN_e, clN_n, clL_e, clL_n]; done) | (simp (disch := omega) only [shI, shR, shL, shC, shD, shW, sh_V, shN_e, shN_n, crI, crL, crC, crW, crV, crR_e, crR_n, crN_e, crN_n, ciR, ciL, ciD, ciN_e, ciN_n, rdI_e, rdI_n, rdC_i, rdC_o, rdW, rdU_e, rdU_n, rdLW, clI, clR, clC, clD, clW, clV, clN_e, clN_n, clL_e, clL_n] <;> first | assumption | rfl | omega)) rfl) (fun x11 M11 h11 => ?_) (fun a11 E11 M11 h11 => ?_)
                · obtain ⟨q2, hq2, hM⟩ := h11
                  rw [hm] at hq2
                  cases hq2
                  subst hM
                  refine x_if_eq (tgt := 145) dX2_laws_14 (by decide) (fun h14 => ?_) (fun h14 => ?_)
                  · simp at h14
                  · exact go (skB tp e q + 1) (by omega) (by omega) hr
                · obtain ⟨f', hf, -⟩ := h11
                  rw [hm] at hf
                  cases hf
            · rw [if_neg h59] at hr
              have hm : moreR tp e q i 12 = .inl (skB tp e q) := by
                unfold moreR
                rw [if_pos hbe, if_pos (by omega), if_neg h59]
              refine x_aload_n dX2_laws_7 rfl rfl ?_
              refine x_iload_n dX2_laws_8 rfl rfl ?_
              refine x_bipush dX2_laws_9 rfl ?_
              refine g_callIX (vs := [_, _, _]) (d' := d - 1) rfl (s_X2_more (by omega) hX1 h0 (by omega) (by omega)) dX2_laws_11 kX2_138 (by omega) (by decide) rfl (Nat.le_of_ble_eq_true rfl) (rcv_o (by first | assumption | first | assumption | (simp (disch := omega) only [shI, shR, shL, shC, shD, shW, sh_V, shN_e, shN_n, crI, crL, crC, crW, crV, crR_e, crR_n, crN_e, crN_n, ciR, ciL, ciD, ciN_e, ciN_n, rdI_e, rdI_n, rdC_i, rdC_o, rdW, rdU_e, rdU_n, rdLW, clI, clR, clC, clD, clW, clV, clN_e, clN_n, clL_e, clL_n]; done) | (simp (disch := omega) only [shI, shR, shL, shC, shD, shW, sh_V, shN_e, shN_n, crI, crL, crC, crW, crV, crR_e, crR_n, crN_e, crN_n, ciR, ciL, ciD, ciN_e, ciN_n, rdI_e, rdI_n, rdC_i, rdC_o, rdW, rdU_e, rdU_n, rdLW, clI, clR, clC, clD, clW, clV, clN_e, clN_n, clL_e, clL_n] <;> first | assumption | rfl | omega)) rfl) (fun x11 M11 h11 => ?_) (fun a11 E11 M11 h11 => ?_)
              · obtain ⟨q2, hq2, -⟩ := h11
                rw [hm] at hq2
                cases hq2
                skip
              · obtain ⟨f', hf, hx⟩ := h11
                rw [hm] at hf
                cases hf
                exact th_nil rfl (bad _ _ _ _ 0 0 hr (hx.z (Dr.rfl.z (Int.le_refl _) (Int.le_refl _)) (Int.le_refl _) (Int.le_refl _) rfl) (by omega) (by omega))
        · rw [if_pos (by omega)] at hr
          have hm : moreR tp e q i 12 = .inr (0, skB tp e q) := by
            unfold moreR
            rw [if_neg hbe]
          refine x_aload_n dX2_laws_7 rfl rfl ?_
          refine x_iload_n dX2_laws_8 rfl rfl ?_
          refine x_bipush dX2_laws_9 rfl ?_
          refine g_callIX (vs := [_, _, _]) (d' := d - 1) rfl (s_X2_more (by omega) hX1 h0 (by omega) (by omega)) dX2_laws_11 kX2_138 (by omega) (by decide) rfl (Nat.le_of_ble_eq_true rfl) (rcv_o (by first | assumption | first | assumption | (simp (disch := omega) only [shI, shR, shL, shC, shD, shW, sh_V, shN_e, shN_n, crI, crL, crC, crW, crV, crR_e, crR_n, crN_e, crN_n, ciR, ciL, ciD, ciN_e, ciN_n, rdI_e, rdI_n, rdC_i, rdC_o, rdW, rdU_e, rdU_n, rdLW, clI, clR, clC, clD, clW, clV, clN_e, clN_n, clL_e, clL_n]; done) | (simp (disch := omega) only [shI, shR, shL, shC, shD, shW, sh_V, shN_e, shN_n, crI, crL, crC, crW, crV, crR_e, crR_n, crN_e, crN_n, ciR, ciL, ciD, ciN_e, ciN_n, rdI_e, rdI_n, rdC_i, rdC_o, rdW, rdU_e, rdU_n, rdLW, clI, clR, clC, clD, clW, clV, clN_e, clN_n, clL_e, clL_n] <;> first | assumption | rfl | omega)) rfl) (fun x11 M11 h11 => ?_) (fun a11 E11 M11 h11 => ?_)
          · obtain ⟨q2, hq2, hM⟩ := h11
            rw [hm] at hq2
            cases hq2
            subst hM
            refine x_if_eq (tgt := 145) dX2_laws_14 (by decide) (fun h14 => ?_) (fun h14 => ?_)
            · refine x_iload_n dX2_laws_145 rfl rfl ?_
              refine x_ireturn rfl dX2_laws_146 ?_
              have hDP : Dl MB (mP MM (skB tp e q)) (3 * P + i + 0) (12 * P + 2 * i + 0) := hD.trans (Dr.rfl.P.z (Int.le_refl _) (Int.le_refl _)).l
              refine hQ _ _ (Or.inl ⟨_, rfl, _, hr, rfl, fun j j0 j1 => ?_, out _ 0 _ _ hDP (by omega) (by omega) hL5⟩)
              obtain ⟨l, l1, l2, l3, l4⟩ := hI j j0 j1
              exact ⟨l, l1, l2, l3, l4.same (fun a a0 a1 => ⟨rfl, fun k => mP_o (by omega), fun k => rfl⟩) (Int.le_refl _)⟩
            · simp at h14
          · obtain ⟨f', hf, -⟩ := h11
            rw [hm] at hf
            cases hf
    refine x_iconst dX2_laws_5 rfl ?_
    refine x_istore_n (L' := [some _, some _, some _, none, none, none]) dX2_laws_6 rfl (by decide) rfl ?_
    refine WP.mem (M1 := mP MB 0) (by rw [← e29]; exact mP_z.symm) ?_
    refine lp _ 0 0 0 0 MB u none none none rfl (by omega) (by omega) (by omega) rfl (by omega) ?_ (Dr.rfl.z (Int.le_refl _) (Int.le_refl _)).l e20 (h1.2.2.2.1 5 (Or.inr rfl)) (fun j j0 j1 => by omega) (fun j j0 j1 => by omega)
    unfold rLaws
    first
    | rfl
    | rw [if_pos (show (0 : Int) = 0 from rfl)]
  refine x_aload_n dX2_laws_0 rfl rfl ?_
  refine x_iload_n dX2_laws_1 rfl rfl ?_
  refine g_callN (vs := [_, _]) (d' := d - 1) rfl (s_X2_begins (by omega) r2) dX2_laws_2 kX2_131 (by omega) (by decide) rfl (Nat.le_of_ble_eq_true rfl) (rcv_o (by first | assumption | first | assumption | (simp (disch := omega) only [shI, shR, shL, shC, shD, shW, sh_V, shN_e, shN_n, crI, crL, crC, crW, crV, crR_e, crR_n, crN_e, crN_n, ciR, ciL, ciD, ciN_e, ciN_n, rdI_e, rdI_n, rdC_i, rdC_o, rdW, rdU_e, rdU_n, rdLW, clI, clR, clC, clD, clW, clV, clN_e, clN_n, clL_e, clL_n]; done) | (simp (disch := omega) only [shI, shR, shL, shC, shD, shW, sh_V, shN_e, shN_n, crI, crL, crC, crW, crV, crR_e, crR_n, crN_e, crN_n, ciR, ciL, ciD, ciN_e, ciN_n, rdI_e, rdI_n, rdC_i, rdC_o, rdW, rdU_e, rdU_n, rdLW, clI, clR, clC, clD, clW, clV, clN_e, clN_n, clL_e, clL_n] <;> first | assumption | rfl | omega)) rfl) (fun M2 h2 => ?_)
  subst h2
  have hb := hC.rd (g := mci (mI (mI (mI M 2 8 e) 2 9 0) 2 10 0)) (tp' := tp) (sz' := sz) (fa' := fa) (fun b k q1 q2 q3 => (rdI_n (by omega)).trans ((rdI_n (by omega)).trans (rdI_n (by omega)))) ((funext fun k => (rdI_n (by omega)).trans ((rdI_n (by omega)).trans (rdI_n (by omega)))).trans htp) ((rdI_n (by omega)).trans ((rdI_n (by omega)).trans ((rdI_n (by omega)).trans hsz))) hsz2 ((rdI_n (by omega)).trans ((rdI_n (by omega)).trans ((rdI_n (by omega)).trans hfa)))
  exact fin (mI (mI (mI M 2 8 e) 2 9 0) 2 10 0) hb ((rdI_n (by omega)).trans ((rdI_n (by omega)).trans (rdI_e ⟨rfl, rfl⟩))) ((rdI_n (by omega)).trans (rdI_e ⟨rfl, rfl⟩)) (rdI_e ⟨rfl, rfl⟩)
end X2


