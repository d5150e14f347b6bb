/-! Reader of benches: what it may touch -/
theorem mP_c {M : Mem} {p a i v : Int} (h : ¬ (a = 2 ∧ i = 9)) : mI (mP M p) a i v = mP (mI M a i v) p := by
  refine mem_ext (M := M) fun b k => ?_
  show (if b = a ∧ k = i then v else (if b = 2 ∧ k = 9 then p else mci M b k)) = (if b = 2 ∧ k = 9 then p else (if b = a ∧ k = i then v else mci M b k))
  by_cases h1 : b = a ∧ k = i
  · rw [if_pos h1, if_neg (by omega), if_pos h1]
  · rw [if_neg h1]
    by_cases h2 : b = 2 ∧ k = 9
    · rw [if_pos h2, if_pos h2]
    · rw [if_neg h2, if_neg h2, if_neg h1]
theorem mP_mP {M : Mem} {p q : Int} : mP (mP M p) q = mP M q := mP_w
/-- only numbers of the draft, the reader's place, the fault's place; and new cells -/
def Dr (M M1 : Mem) (c s : Nat) : Prop := (∀ b : Int, b < mnx M → msh M1 b = msh M b ∧ (∀ k, ¬ (b = 2 ∧ 9 ≤ k) → ¬ (b = 53 ∧ k = 6) → ¬ ((8 ≤ b ∧ b ≤ 52) ∧ ¬ (15 ≤ b ∧ b ≤ 20) ∧ ¬ (b = 8 ∧ k = 10)) → mci M1 b k = mci M b k) ∧ (∀ k, mcr M1 b k = mcr M b k) ∧ ∀ k, mcl M1 b k = mcl M b k) ∧ mnx M ≤ mnx M1 ∧ mnx M1 ≤ mnx M + c ∧ mns M1 ≤ mns M + s
theorem Dr.rfl {M : Mem} : Dr M M 0 0 := ⟨fun b _ => ⟨_root_.rfl, fun k _ _ _ => _root_.rfl, fun k => _root_.rfl, fun k => _root_.rfl⟩, Nat.le_refl _, Nat.le_refl _, Nat.le_refl _⟩
theorem Dr.trans {M M1 M2 : Mem} {c s c' s' : Nat} (h : Dr M M1 c s) (h' : Dr M1 M2 c' s') : Dr M M2 (c + c') (s + s') := by
  obtain ⟨h1, h2, h3, h4⟩ := h
  obtain ⟨g1, g2, g3, g4⟩ := h'
  refine ⟨fun b hb => ?_, by omega, by omega, by omega⟩
  obtain ⟨a1, a2, a3, a4⟩ := h1 b hb
  obtain ⟨b1, b2, b3, b4⟩ := g1 b (by omega)
  exact ⟨b1.trans a1, fun k q1 q2 q3 => (b2 k q1 q2 q3).trans (a2 k q1 q2 q3), fun k => (b3 k).trans (a3 k), fun k => (b4 k).trans (a4 k)⟩
theorem Dr.le {M M1 : Mem} {c s c' s' : Nat} (h : Dr M M1 c s) (hc : c ≤ c') (hs : s ≤ s') : Dr M M1 c' s' := ⟨h.1, h.2.1, by have := h.2.2.1; omega, by have := h.2.2.2; omega⟩
theorem Dr.W {M : Mem} {g : Ci} (h : ∀ b k, ¬ (b = 2 ∧ 9 ≤ k) → ¬ (b = 53 ∧ k = 6) → ¬ ((8 ≤ b ∧ b ≤ 52) ∧ ¬ (15 ≤ b ∧ b ≤ 20) ∧ ¬ (b = 8 ∧ k = 10)) → g b k = mci M b k) : Dr M (wI M g) 0 0 :=
  ⟨fun b _ => ⟨_root_.rfl, fun k => h b k, fun k => _root_.rfl, fun k => _root_.rfl⟩, Nat.le_refl _, Nat.le_refl _, Nat.le_refl _⟩
theorem Dr.I {M M1 : Mem} {c s : Nat} {a i v : Int} (h : Dr M M1 c s) (ha : (a = 2 ∧ 9 ≤ i) ∨ (a = 53 ∧ i = 6) ∨ ((8 ≤ a ∧ a ≤ 52) ∧ ¬ (15 ≤ a ∧ a ≤ 20) ∧ ¬ (a = 8 ∧ i = 10))) : Dr M (mI M1 a i v) c s :=
  h.trans (c' := 0) (s' := 0) (Dr.W (g := mci (mI M1 a i v)) fun b k q1 q2 q3 => rdI_n (by omega))
theorem Dr.P {M M1 : Mem} {c s : Nat} {p : Int} (h : Dr M M1 c s) : Dr M (mP M1 p) c s := h.I (by omega)
theorem Dr.N {M M1 : Mem} {c s t sl : Nat} {n : Int} (h : Dr M M1 c s) : Dr M (mN M1 t n sl) (c + 1) (s + sl) := by
  refine h.trans ⟨fun b hb => ?_, Nat.le_succ _, Nat.le_refl _, Nat.le_refl _⟩
  have hne : ¬ b = (mnx M1 : Int) := by omega
  exact ⟨if_neg hne, fun k _ _ _ => if_neg hne, fun k => if_neg hne, fun k => if_neg hne⟩
/-- what the reader of a bench finds -/
def BxH (M : Mem) (tp : Int → Int) (e : Int) : Prop := RdX M tp e ∧ StS (msh M) (mcr M) 8 ∧ 761 ≤ mnx M
theorem RdX.dr {M M1 : Mem} {tp : Int → Int} {e : Int} {c s : Nat} (h : RdX M tp e) (hd : Dr M M1 c s) (hn : 54 ≤ mnx M) : RdX M1 tp e := by
  obtain ⟨⟨⟨r0, r3, r4, r5, r6, r7, r53⟩, ⟨c0, c1, c2, c3, c4, c5, c6⟩, x1, x2, x3⟩, he, htp, he2, hX, hB⟩ := h
  have sh : ∀ b : Int, b < 54 → msh M1 b = msh M b := fun b hb => (hd.1 b (by omega)).1
  have cc : ∀ (b k : Int), b < 54 → mcr M1 b k = mcr M b k := fun b k hb => (hd.1 b (by omega)).2.2.1 k
  have ci : ∀ (b k : Int), b < 8 → ¬ (b = 2 ∧ 9 ≤ k) → mci M1 b k = mci M b k := fun b k hb q => (hd.1 b (by omega)).2.1 k q (by omega) (by omega)
  exact ⟨⟨⟨(sh _ (by omega)).trans r0, (sh _ (by omega)).trans r3, (sh _ (by omega)).trans r4, (sh _ (by omega)).trans r5, (sh _ (by omega)).trans r6, (sh _ (by omega)).trans r7, (sh _ (by omega)).trans r53⟩, ⟨(cc _ _ (by omega)).trans c0, (cc _ _ (by omega)).trans c1, (cc _ _ (by omega)).trans c2, (cc _ _ (by omega)).trans c3, (cc _ _ (by omega)).trans c4, (cc _ _ (by omega)).trans c5, (cc _ _ (by omega)).trans c6⟩, fun k a b => (cc _ _ (by omega)).trans (x1 k a b), fun k a b => (cc _ _ (by omega)).trans (x2 k a b), fun k a b => (cc _ _ (by omega)).trans (x3 k a b)⟩,
    (ci _ _ (by omega) (by omega)).trans he, (funext fun k => ci _ _ (by omega) (by omega)).trans htp, he2, hX.of (fun a q => sh a (by omega)) (fun a k q => ci a k (by omega) (by omega)) (fun a k q => cc a k (by omega)), hB⟩
theorem BxH.dr {M M1 : Mem} {tp : Int → Int} {e : Int} {c s : Nat} (h : BxH M tp e) (hd : Dr M M1 c s) : BxH M1 tp e :=
  ⟨h.1.dr hd (by have := h.2.2; omega), h.2.1.of (fun b _ _ => (hd.1 b (by have := h.2.2; omega)).1) (fun b k _ _ _ => (hd.1 b (by have := h.2.2; omega)).2.2.1 k), by have := h.2.2; have := hd.2.1; omega⟩
/-- reading failed at f -/
def FlD (M : Mem) (f : Int) (c s : Nat) (a : Int) (E : String) (M1 : Mem) : Prop := a = 53 ∧ E = RX7 ∧ Dr M M1 c s ∧ mci M1 53 6 = f
theorem FlX.d {M M' M1 : Mem} {f f' a : Int} {E : String} {c s c' s' : Nat} (h : FlX M' f a E M1) (hd : Dr M M' c s) (hc : c ≤ c') (hs : s ≤ s') (hf : f = f') : FlD M f' c' s' a E M1 := by
  obtain ⟨h1, h2, q, h3⟩ := h
  subst h3
  exact ⟨h1, h2, ((hd.P).I (by omega)).le hc hs, (rdI_e ⟨rfl, rfl⟩).trans hf⟩
theorem FlD.d {M M' M1 : Mem} {f f' a : Int} {E : String} {c s c' s' c2 s2 : Nat} (h : FlD M' f c2 s2 a E M1) (hd : Dr M M' c s) (hc : c + c2 ≤ c') (hs : s + s2 ≤ s') (hf : f = f') : FlD M f' c' s' a E M1 := by
  obtain ⟨h1, h2, h3, h4⟩ := h
  exact ⟨h1, h2, (hd.trans h3).le hc hs, h4.trans hf⟩
/-- what comes of a step that reads a bench -/
def BX (M : Mem) (tp : Int → Int) (e N : Int) (c s : Nat) (r : BR) : Res → Mem → Prop :=
  orT (postN fun M1 => ∃ (y : Int × Vw) (M' : Mem) (q : Int), r = .inr y ∧ M1 = mP M' q ∧ (0 ≤ q ∧ q ≤ e) ∧ skB tp e q = skB tp e y.1 ∧ Dr M M' c s ∧ RelB (mci M') 8 y.2 N) (fun a E M1 => ∃ f, r = .inl f ∧ FlD M f c s a E M1)
theorem BX.s {M M' : Mem} {tp : Int → Int} {e N q : Int} {c s : Nat} {r : BR} {y : Int × Vw} (h : r = .inr y) (hq : 0 ≤ q ∧ q ≤ e) (hs : skB tp e q = skB tp e y.1) (hd : Dr M M' c s) (hB : RelB (mci M') 8 y.2 N) : BX M tp e N c s r rN (mP M' q) := Or.inl ⟨rfl, y, M', q, h, rfl, hq, hs, hd, hB⟩
theorem BX.f {M M1 : Mem} {tp : Int → Int} {e N f a : Int} {c s : Nat} {r : BR} {E : String} (h : r = .inl f) (hf : FlD M f c s a E M1) : BX M tp e N c s r (rT a E) M1 := Or.inr ⟨a, E, rfl, f, h, hf⟩
theorem BX.d {M M' M1 : Mem} {tp : Int → Int} {e N : Int} {c s c' s' c2 s2 : Nat} {r : BR} {R : Res} (h : BX M' tp e N c2 s2 r R M1) (hd : Dr M M' c s) (hc : c + c2 ≤ c') (hs : s + s2 ≤ s') : BX M tp e N c' s' r R M1 := by
  rcases h with ⟨h1, y, M2, q, h2, h3, h4, h5, h6, h7⟩ | ⟨a, E, h1, f, h2, h3⟩
  · exact Or.inl ⟨h1, y, M2, q, h2, h3, h4, h5, (hd.trans h6).le hc hs, h7⟩
  · exact Or.inr ⟨a, E, h1, f, h2, h3.d hd hc hs rfl⟩
theorem numP_sk {tp : Int → Int} {e p lo hi : Int} : numP tp e (skB tp e p) lo hi = numP tp e p lo hi := by
  unfold numP
  rw [skB_i _ rfl]
/-- cells of operations behind the last one don't matter -/
theorem RelB.hi {f g : Ci} {p N : Int} {v v' : Vw} (h : RelB f p v N) (hv : okB v) (hg : ∀ b k, p ≤ b → b ≤ p + 44 → b ≠ p + 3 → ¬ (p + 7 ≤ b ∧ b ≤ p + 12) → ¬ (p + 13 + 4 * v 0 ≤ b) → g b k = f b k) (he : ∀ k, 0 ≤ k → k < 30 + 9 * v 0 → v' k = v k) (hl : ∀ k, 128 ≤ k → k < 368 → v' k = v k) : RelB g p v' N := by
  obtain ⟨h1, h2, h3, h4, h5, h6, h7, h8, h9, h10, h11, h12, h13, h14, h15⟩ := h
  have hv8 := hv.n8
  have hv0 := hv.1.1
  have hv10 := hv.l60
  have e0 : v' 0 = v 0 := he 0 (by omega) (by omega)
  have e10 : v' 10 = v 10 := he 10 (by omega) (by omega)
  have ep : ∀ k, g p k = f p k := fun k => hg _ _ (by omega) (by omega) (by omega) (by omega) (by omega)
  rw [← e0] at h1
  refine ⟨by rw [ep]; exact h1, by rw [ep, he 3 (by omega) (by omega)]; exact h2, by rw [ep, he 1 (by omega) (by omega)]; exact h3, by rw [ep, he 4 (by omega) (by omega)]; exact h4, by rw [ep, he 5 (by omega) (by omega)]; exact h5, by rw [ep, he 6 (by omega) (by omega)]; exact h6, by rw [ep, he 7 (by omega) (by omega)]; exact h7, by rw [ep, he 8 (by omega) (by omega)]; exact h8, by rw [ep, he 9 (by omega) (by omega)]; exact h9, by rw [ep, he 11 (by omega) (by omega)]; exact h10, by rw [ep, e10]; exact h11, fun k a b => ?_, fun k a b => ?_, fun k a b => ?_, fun ago j a b c d => ?_⟩
  · rw [hg _ _ (by omega) (by omega) (by omega) (by omega) (by omega), he _ (by omega) (by omega)]; exact h12 k a b
  · rw [hg _ _ (by omega) (by omega) (by omega) (by omega) (by omega), he _ (by omega) (by omega)]; exact h13 k a b
  · rw [e0] at b
    obtain ⟨k1, k2, k3, k4⟩ := h14 k a b
    have eN : opN v' k = opN v k := he _ (by omega) (by omega)
    have c3 := (hv.op k a b).1
    refine ⟨?_, ?_, ?_, fun i c1 c2 => ?_⟩
    · rw [eN, hg _ _ (by omega) (by omega) (by omega) (by omega) (by omega)]; exact k1
    · rw [hg _ _ (by omega) (by omega) (by omega) (by omega) (by omega)]; exact k2.trans (he _ (by omega) (by omega)).symm
    · rw [hg _ _ (by omega) (by omega) (by omega) (by omega) (by omega)]; exact k3.trans (he _ (by omega) (by omega)).symm
    · rw [eN] at c2
      rw [hg _ _ (by omega) (by omega) (by omega) (by omega) (by omega), hg _ _ (by omega) (by omega) (by omega) (by omega) (by omega), show opK v' k i = opK v k i from he _ (by omega) (by omega), show opX v' k i = opX v k i from he _ (by omega) (by omega)]
      exact k4 i c1 c2
  · rw [e10] at b
    rw [ep, hg _ _ (by omega) (by omega) (by omega) (by omega) (by omega), hl _ (by omega) (by omega)]
    exact h15 ago j a b c d
/-- the operation behind the last one is there, too -/
theorem RelB.add {f : Ci} {p N x y : Int} {v : Vw} (h : RelB f p v N) (hO : RelO f (p + 13 + 4 * v 0) v (v 0)) (hv0 : 0 ≤ v 0) (hv10 : v 10 ≤ 60) (hx : x = v 0 + 1) (hy : y = v 0 + 1) : RelB (up f p 8 x) p (us v 0 y) N := by
  subst hx; subst hy
  obtain ⟨h1, h2, h3, h4, h5, h6, h7, h8, h9, h10, h11, h12, h13, h14, h15⟩ := h
  have e : ∀ k, ¬ k = 0 → us v 0 (v 0 + 1) k = v k := fun k q => us_n q
  have e0 : us v 0 (v 0 + 1) 0 = v 0 + 1 := us_e rfl
  have ef : ∀ k, ¬ k = 8 → up f p 8 (v 0 + 1) p k = f p k := fun k q => rdU_n (by omega)
  have eo : ∀ b k, ¬ b = p → up f p 8 (v 0 + 1) b k = f b k := fun b k q => rdU_n (by omega)
  refine ⟨(rdU_e ⟨rfl, rfl⟩).trans e0.symm, by rw [ef _ (by omega), e _ (by omega)]; exact h2, by rw [ef _ (by omega), e _ (by omega)]; exact h3, by rw [ef _ (by omega), e _ (by omega)]; exact h4, by rw [ef _ (by omega), e _ (by omega)]; exact h5, by rw [ef _ (by omega), e _ (by omega)]; exact h6, by rw [ef _ (by omega), e _ (by omega)]; exact h7, by rw [ef _ (by omega), e _ (by omega)]; exact h8, by rw [ef _ (by omega), e _ (by omega)]; exact h9, by rw [ef _ (by omega), e _ (by omega)]; exact h10, by rw [ef _ (by omega), e _ (by omega)]; exact h11, fun k a b => ?_, fun k a b => ?_, fun k a b => ?_, fun ago j a b c d => ?_⟩
  · rw [eo _ _ (by omega), e _ (by omega)]; exact h12 k a b
  · rw [eo _ _ (by omega), e _ (by omega)]; exact h13 k a b
  · rw [e0] at b
    have hk : RelO f (p + 13 + 4 * k) v k := by
      by_cases q : k = v 0
      · rw [q]; exact hO
      · exact h14 k a (by omega)
    obtain ⟨k1, k2, k3, k4⟩ := hk
    have eN : opN (us v 0 (v 0 + 1)) k = opN v k := e _ (by omega)
    refine ⟨by rw [eo _ _ (by omega), eN]; exact k1, by rw [eo _ _ (by omega)]; exact k2.trans (e _ (by omega)).symm, by rw [eo _ _ (by omega)]; exact k3.trans (e _ (by omega)).symm, fun i c1 c2 => ?_⟩
    rw [eN] at c2
    rw [eo _ _ (by omega), eo _ _ (by omega), show opK (us v 0 (v 0 + 1)) k i = opK v k i from e _ (by omega), show opX (us v 0 (v 0 + 1)) k i = opX v k i from e _ (by omega)]
    exact k4 i c1 c2
  · rw [e _ (by omega)] at b
    rw [ef _ (by omega), eo _ _ (by omega), e _ (by omega)]
    exact h15 ago j a b c d
/-- so many places of the program -/
theorem okB_3 {w : Vw} {n : Int} (hv : okB w) (hn : 0 ≤ n ∧ n ≤ 10) (hk : ∀ k, 0 ≤ k → k < n → 0 ≤ w (12 + k) ∧ w (12 + k) < w 0) : okB (us w 3 n) := by
  have hv8 := hv.n8
  have eu : ∀ k, ¬ k = 3 → us w 3 n k = w k := fun k q => us_n q
  have eu3 : us w 3 n 3 = n := us_e rfl
  obtain ⟨h1, h2, h3, h4, h5, h6, h7, h8, h9, h10, h11, h12, h13, h14⟩ := hv
  refine ⟨by rw [eu _ (by omega)]; exact h1, by rw [eu _ (by omega)]; exact h2, by rw [eu _ (by omega)]; exact h3, by rw [eu3]; omega, by rw [eu _ (by omega)]; exact h5, by rw [eu _ (by omega)]; exact h6, by rw [eu _ (by omega)]; exact h7, by rw [eu _ (by omega)]; exact h8, by rw [eu _ (by omega)]; exact h9, by rw [eu _ (by omega)]; exact h10, by rw [eu _ (by omega)]; exact h11, fun k a c => ?_, fun k a c => ?_, fun k a c => ?_⟩
  · rw [eu3] at c
    rw [eu (12 + k) (by omega), eu 0 (by omega)]
    exact hk k a c
  · rw [eu _ (by omega)]; exact h13 k a c
  · rw [eu _ (by omega)] at c
    obtain ⟨k1, k2, k3, k4⟩ := h14 k a c
    have eN : opN (us w 3 n) k = opN w k := us_n (by omega)
    refine ⟨by rw [eN]; exact k1, by rw [show opG (us w 3 n) k = opG w k from us_n (by omega)]; exact k2, by rw [show opP (us w 3 n) k = opP w k from us_n (by omega)]; exact k3, fun i c1 c2 => ?_⟩
    rw [eN] at c2
    rw [show opK (us w 3 n) k i = opK w k i from us_n (by omega), show opX (us w 3 n) k i = opX w k i from us_n (by omega)]
    exact k4 i c1 c2
