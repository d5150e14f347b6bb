/-! GuestView: which operation it was -/
theorem lo0_bit {x k : Int} (hk : 0 ≤ k ∧ k < 8) (h : ∀ j, 0 ≤ j → j < k → ¬ bitI x j = 1) (hb : bitI x k = 1) : lo0 x = k := by
  have p0 : pw 0 = 1 := rfl
  have p1 : pw 1 = 2 := rfl
  have p2 : pw 2 = 4 := rfl
  have p3 : pw 3 = 8 := rfl
  have p4 : pw 4 = 16 := rfl
  have p5 : pw 5 = 32 := rfl
  have p6 : pw 6 = 64 := rfl
  have p7 : pw 7 = 128 := rfl
  have e : ∀ j y, pw j = y → bitI x j = x / y % 2 := fun j y q => by unfold bitI; rw [q]
  have f : ∀ j y, pw j = y → 0 ≤ j → j < k → ¬ x / y % 2 = 1 := fun j y q a b => by rw [← e j y q]; exact h j a b
  unfold lo0
  rcases (show k = 0 ∨ k = 1 ∨ k = 2 ∨ k = 3 ∨ k = 4 ∨ k = 5 ∨ k = 6 ∨ k = 7 by omega) with q | q | q | q | q | q | q | q <;> subst q
  · rw [e 0 _ p0] at hb; rw [if_pos (by omega)]
  · have f0 := f 0 _ p0 (by omega) (by omega)
    rw [e 1 _ p1] at hb; rw [if_neg (by omega), if_pos hb]
  · have f0 := f 0 _ p0 (by omega) (by omega)
    have f1 := f 1 _ p1 (by omega) (by omega)
    rw [e 2 _ p2] at hb; rw [if_neg (by omega), if_neg f1, if_pos hb]
  · have f0 := f 0 _ p0 (by omega) (by omega)
    have f1 := f 1 _ p1 (by omega) (by omega)
    have f2 := f 2 _ p2 (by omega) (by omega)
    rw [e 3 _ p3] at hb; rw [if_neg (by omega), if_neg f1, if_neg f2, if_pos hb]
  · have f0 := f 0 _ p0 (by omega) (by omega)
    have f1 := f 1 _ p1 (by omega) (by omega)
    have f2 := f 2 _ p2 (by omega) (by omega)
    have f3 := f 3 _ p3 (by omega) (by omega)
    rw [e 4 _ p4] at hb; rw [if_neg (by omega), if_neg f1, if_neg f2, if_neg f3, if_pos hb]
  · have f0 := f 0 _ p0 (by omega) (by omega)
    have f1 := f 1 _ p1 (by omega) (by omega)
    have f2 := f 2 _ p2 (by omega) (by omega)
    have f3 := f 3 _ p3 (by omega) (by omega)
    have f4 := f 4 _ p4 (by omega) (by omega)
    rw [e 5 _ p5] at hb; rw [if_neg (by omega), if_neg f1, if_neg f2, if_neg f3, if_neg f4, if_pos hb]
  · have f0 := f 0 _ p0 (by omega) (by omega)
    have f1 := f 1 _ p1 (by omega) (by omega)
    have f2 := f 2 _ p2 (by omega) (by omega)
    have f3 := f 3 _ p3 (by omega) (by omega)
    have f4 := f 4 _ p4 (by omega) (by omega)
    have f5 := f 5 _ p5 (by omega) (by omega)
    rw [e 6 _ p6] at hb; rw [if_neg (by omega), if_neg f1, if_neg f2, if_neg f3, if_neg f4, if_neg f5, if_pos hb]
  · have f0 := f 0 _ p0 (by omega) (by omega)
    have f1 := f 1 _ p1 (by omega) (by omega)
    have f2 := f 2 _ p2 (by omega) (by omega)
    have f3 := f 3 _ p3 (by omega) (by omega)
    have f4 := f 4 _ p4 (by omega) (by omega)
    have f5 := f 5 _ p5 (by omega) (by omega)
    have f6 := f 6 _ p6 (by omega) (by omega)
    rw [e 7 _ p7] at hb; rw [if_neg (by omega), if_neg f1, if_neg f2, if_neg f3, if_neg f4, if_neg f5, if_neg f6, if_pos hb]
theorem num_lo {P : Int → Prop} {t : Nat} {k : Int} (ht : t ≤ 8) (hk : 0 ≤ k ∧ k < t) (h : ∀ j, 0 ≤ j → j < k → ¬ P j) (hb : P k) : lo0 (numR P t) = k :=
  lo0_bit (by omega) (fun j a b q => h j a b ((num_bit a (by omega)).mp q)) ((num_bit hk.1 hk.2).mpr hb)
theorem num_none {P : Int → Prop} {t : Nat} (h : ∀ k : Int, 0 ≤ k → k < t → ¬ P k) : numR P t = 0 := by
  induction t with
  | zero => rfl
  | succ t ih => rw [num_s, ih fun k a b => h k a (by omega), if_neg (h t (by omega) (by omega))]; rfl
theorem num_some {P : Int → Prop} {t : Nat} {k : Int} (hk : 0 ≤ k ∧ k < t) (h : P k) : ¬ numR P t = 0 := fun q => by
  have := (num_bit hk.1 hk.2).mpr h
  rw [q] at this
  unfold bitI at this
  rw [Int.zero_ediv] at this
  exact absurd this (by decide)
/-- among the first t the one that is least wrong, at most once -/
noncomputable def lkR (v : Vw) (tp : Int → Int) (n : Int) : Nat → Int
  | 0 => -1
  | t + 1 => @ite Int (wrgV v tp n t ≤ 1 ∧ (lkR v tp n t = -1 ∨ wrgV v tp n t < wrgV v tp n (lkR v tp n t))) (Classical.propDecidable _) (t : Int) (lkR v tp n t)
theorem lkR_s {v : Vw} {tp : Int → Int} {n : Int} {t : Nat} : lkR v tp n (t + 1) = @ite Int (wrgV v tp n t ≤ 1 ∧ (lkR v tp n t = -1 ∨ wrgV v tp n t < wrgV v tp n (lkR v tp n t))) (Classical.propDecidable _) (t : Int) (lkR v tp n t) := rfl
theorem lkR_i (v : Vw) (tp : Int → Int) (n : Int) : ∀ t : Nat, (lkR v tp n t = -1 ∧ ∀ p : Int, 0 ≤ p → p < t → ¬ wrgV v tp n p ≤ 1) ∨ ((0 ≤ lkR v tp n t ∧ lkR v tp n t < t) ∧ wrgV v tp n (lkR v tp n t) ≤ 1 ∧ (∀ p : Int, 0 ≤ p → p < lkR v tp n t → ¬ wrgV v tp n p ≤ 0) ∧ (wrgV v tp n (lkR v tp n t) ≤ 0 ∨ (¬ wrgV v tp n (lkR v tp n t) ≤ 0 ∧ (∀ p : Int, 0 ≤ p → p < t → ¬ wrgV v tp n p ≤ 0) ∧ ∀ p : Int, 0 ≤ p → p < lkR v tp n t → ¬ wrgV v tp n p ≤ 1))) := by
  intro t
  induction t with
  | zero => exact Or.inl ⟨rfl, fun p a b => by omega⟩
  | succ t ih =>
    have ex : ∀ {Q : Int → Prop} {m : Int}, (∀ p, 0 ≤ p → p < m → Q p) → (m = (t : Int)) → Q m → ∀ p, 0 ≤ p → p < ((t + 1 : Nat) : Int) → Q p := fun {Q m} h hm hq p a b => by
      by_cases e : p = m
      · rw [e]; exact hq
      · exact h p a (by omega)
    have hw := wrgR_r v tp t (n / 2).toNat
    have hwv : 0 ≤ wrgV v tp n t := hw.1
    rw [lkR_s]
    rcases ih with ⟨h1, h2⟩ | ⟨h1, h2, h3, h4⟩
    · by_cases q : wrgV v tp n t ≤ 1
      · rw [if_pos ⟨q, Or.inl h1⟩]
        refine Or.inr ⟨by omega, q, fun p a b z => h2 p a b (by omega), ?_⟩
        by_cases q0 : wrgV v tp n t ≤ 0
        · exact Or.inl q0
        · exact Or.inr ⟨q0, ex (m := t) (fun p a b z => h2 p a b (by omega)) rfl q0, h2⟩
      · rw [if_neg fun z => q z.1]
        exact Or.inl ⟨h1, ex (m := t) h2 rfl q⟩
    · rcases h4 with h4 | ⟨h4, h5, h6⟩
      · have hw0 : 0 ≤ wrgV v tp n (lkR v tp n t) := (wrgR_r v tp _ (n / 2).toNat).1
        rw [if_neg fun z => by rcases z.2 with y | y <;> omega]
        exact Or.inr ⟨by omega, h2, h3, Or.inl h4⟩
      · by_cases q : wrgV v tp n t ≤ 0
        · rw [if_pos ⟨by omega, Or.inr (by omega)⟩]
          exact Or.inr ⟨by omega, by omega, h5, Or.inl q⟩
        · rw [if_neg fun z => by rcases z.2 with y | y <;> omega]
          exact Or.inr ⟨by omega, h2, h3, Or.inr ⟨h4, ex (m := t) h5 rfl q, h6⟩⟩
theorem lkR_e {v : Vw} {tp : Int → Int} {n : Int} (h0 : 0 ≤ v 0 ∧ v 0 ≤ 8) : lkR v tp n (v 0).toNat = likelyAns v tp n := by
  unfold likelyAns fitV
  have ht : (v 0).toNat ≤ 8 := by omega
  rcases lkR_i v tp n (v 0).toNat with ⟨h1, h2⟩ | ⟨h1, h2, h3, h4⟩
  · rw [if_pos (num_none fun k a b z => h2 k a b (by omega)), if_pos (num_none h2)]
    exact h1
  · rcases h4 with h4 | ⟨h4, h5, h6⟩
    · rw [if_neg (num_some (P := fun p => wrgV v tp n p ≤ 0) h1 h4)]
      exact (num_lo (P := fun p => wrgV v tp n p ≤ 0) ht h1 h3 h4).symm
    · rw [if_pos (num_none h5), if_neg (num_some (P := fun p => wrgV v tp n p ≤ 1) h1 h2)]
      exact (num_lo (P := fun p => wrgV v tp n p ≤ 1) ht h1 h6 h2).symm
/-- of a set how many are told what a is told -/
noncomputable def pbC (v : Vw) (s w a : Int) (t : Nat) : Int := if bitI s a = 1 then partC v s w (toldV v a w) t else 0
noncomputable def pbM (v : Vw) (s w : Int) : Nat → Int
  | 0 => 0
  | t + 1 => if pbM v s w t ≤ pbC v s w t (v 0).toNat then pbC v s w t (v 0).toNat else pbM v s w t
theorem pbM_ge (v : Vw) (s w : Int) : ∀ (t : Nat) (a : Int), 0 ≤ a → a < t → pbC v s w a (v 0).toNat ≤ pbM v s w t := by
  intro t
  induction t with
  | zero => intro a a0 a1; omega
  | succ t ih =>
    intro a a0 a1
    show _ ≤ (if pbM v s w t ≤ pbC v s w t (v 0).toNat then pbC v s w t (v 0).toNat else pbM v s w t)
    by_cases e : a = t
    · rw [e]; split <;> omega
    · have := ih a a0 (by omega)
      split <;> omega
theorem pbM_le (v : Vw) (s w X : Int) (hX : 0 ≤ X) : ∀ t : Nat, (∀ a : Int, 0 ≤ a → a < t → pbC v s w a (v 0).toNat ≤ X) → pbM v s w t ≤ X := by
  intro t
  induction t with
  | zero => intro _; exact hX
  | succ t ih =>
    intro h
    have := ih fun a b c => h a b (by omega)
    have h2 := h t (by omega) (by omega)
    show (if pbM v s w t ≤ pbC v s w t (v 0).toNat then pbC v s w t (v 0).toNat else pbM v s w t) ≤ X
    split <;> omega
theorem partR_ge (v : Vw) (s w : Int) : ∀ (t : Nat) (x : Int), 0 ≤ x → x < t → partC v s w x (v 0).toNat ≤ partR v s w t := by
  intro t
  induction t with
  | zero => intro a a0 a1; omega
  | succ t ih =>
    intro a a0 a1
    show _ ≤ (if partR v s w t ≤ partC v s w t (v 0).toNat then partC v s w t (v 0).toNat else partR v s w t)
    by_cases e : a = t
    · rw [e]; split <;> omega
    · have := ih a a0 (by omega)
      split <;> omega
theorem partR_le (v : Vw) (s w X : Int) (hX : 0 ≤ X) : ∀ t : Nat, (∀ a : Int, 0 ≤ a → a < t → partC v s w a (v 0).toNat ≤ X) → partR v s w t ≤ X := by
  intro t
  induction t with
  | zero => intro _; exact hX
  | succ t ih =>
    intro h
    have := ih fun a b c => h a b (by omega)
    have h2 := h t (by omega) (by omega)
    show (if partR v s w t ≤ partC v s w t (v 0).toNat then partC v s w t (v 0).toNat else partR v s w t) ≤ X
    split <;> omega
theorem partC_x (v : Vw) (s w x : Int) : ∀ t : Nat, partC v s w x t = 0 ∨ ∃ a : Int, (0 ≤ a ∧ a < t) ∧ bitI s a = 1 ∧ toldV v a w = x := by
  intro t
  induction t with
  | zero => exact Or.inl rfl
  | succ t ih =>
    by_cases q : bitI s t = 1 ∧ toldV v t w = x
    · exact Or.inr ⟨t, by omega, q⟩
    · rcases ih with h | ⟨a, h1, h2⟩
      · refine Or.inl ?_
        show partC v s w x t + (if bitI s t = 1 ∧ toldV v t w = x then 1 else 0) = 0
        rw [if_neg q, h]; rfl
      · exact Or.inr ⟨a, by omega, h2⟩
theorem toldV_r {v : Vw} {p w : Int} (h : okOp v p) (h1 : 1 ≤ opN v p) (hw : 0 ≤ w ∧ w ≤ 6) : 0 ≤ toldV v p w ∧ toldV v p w ≤ 10 := by
  have hN := h.1
  have hG := h.2.1
  have hK := (h.2.2.2 0 (by omega) (by omega)).1
  have ht := vP_r (witV v p (w - 2) ≠ -1)
  unfold toldV trtV
  split
  · omega
  · split
    · omega
    · split
      · omega
      · omega
theorem pbM_e {v : Vw} {s w : Int} (h0 : 0 ≤ v 0) (ht : ∀ a : Int, 0 ≤ a → a < v 0 → 0 ≤ toldV v a w ∧ toldV v a w ≤ 10) : pbM v s w (v 0).toNat = partV v s w := by
  refine Int.le_antisymm ?_ ?_
  · refine pbM_le v s w _ ?_ _ fun a a0 a1 => ?_
    · have := partR_ge v s w 11 0 (by omega) (by omega)
      have h1 := (partC_r v s w 0 (v 0).toNat).1
      exact Int.le_trans h1 this
    · have h2 := ht a a0 (by omega)
      have := partR_ge v s w 11 (toldV v a w) h2.1 (by omega)
      unfold pbC
      split
      · exact this
      · have h1 := (partC_r v s w (toldV v a w) (v 0).toNat).1
        exact Int.le_trans h1 this
  · have hz : 0 ≤ pbM v s w (v 0).toNat := by
      have : ∀ t : Nat, 0 ≤ pbM v s w t := by
        intro t
        induction t with
        | zero => exact Int.le_refl 0
        | succ t ih =>
          show 0 ≤ (if pbM v s w t ≤ pbC v s w t (v 0).toNat then pbC v s w t (v 0).toNat else pbM v s w t)
          split <;> omega
      exact this _
    refine partR_le v s w _ hz 11 fun x x0 x1 => ?_
    rcases partC_x v s w x (v 0).toNat with q | ⟨a, h1, h2, h3⟩
    · rw [q]; exact hz
    · have := pbM_ge v s w (v 0).toNat a h1.1 h1.2
      unfold pbC at this
      rw [if_pos h2, h3] at this
      exact this
section X1
variable {G : GW} {d : Nat} {M M1 : Mem} {a b c e k n x y op w st hi sz fa N i p T s : Int} {v vi : Vw} {A : Int → Vw} {tp : Int → Int}
theorem s_X1_told (hd : 12 ≤ d) (hC : CI M v n A hi vi tp sz fa N) (ho : 0 ≤ op ∧ op < v 0) (hw : 0 ≤ w ∧ w ≤ 6) (h1N : 1 ≤ opN v op) : CS G d mX1_told [dR 0, dI op, dI w] M (pur M (toldV v op w)) := by
  obtain ⟨hC1, hC54, hCA, hCR⟩ := id hC; obtain ⟨hS, hTab, hTx, hLn, hSk, hnx⟩ := id hC1; obtain ⟨hA, hL, hR⟩ := id hC54; obtain ⟨⟨s0, s199, s200, s201, s202, s203⟩, ⟨c0, c1, c2, c3, c4, c5, c6, c7, c8, c9, c10, c11, c12⟩, c203, hSt, m189, m191, g193, g196, ⟨⟨r2, r3, r4, r5, r6, r7, r53⟩, ⟨w0, w1, w2, w3, w4, w5, w6⟩, wx1, wx2, wx3⟩⟩ := id hS; have hv := hA.1; have hv8 := hv.n8; have hv0 := hv.1.1; have hv3 := hv.2.2.2.1; have hs54 := hSt 54 (by unfold SB; omega); obtain ⟨p0, p1, ⟨d0, d1, d2, d3, d4, d5, d6, d7⟩, ⟨t1, t2, t3, t4, t5, t6⟩, p5, p6, p7⟩ := id hs54; have t7 : msh M (54 + 7) = some (4, 0) := p5.2.1; have t10 : msh M (54 + 10) = some (4, 0) := p6.2.1; obtain ⟨hB, hW, hLw⟩ := id hR.1; obtain ⟨b1, b2, b3, b4, b5, b6, b7, b8, b9, b10, b11, b12, b13, b14, b15⟩ := id hB; obtain ⟨hn, hn2, hat, hAc⟩ := id hCA; obtain ⟨⟨hki, hhi⟩, hIm, ⟨htp, hsz, hsz2⟩, hfa⟩ := id hCR
  obtain ⟨wa1, wa2⟩ := p7 op ho.1 (by omega)
  obtain ⟨o0, o1, o2, o3, o4, o5, o6, o7⟩ := id wa2
  have hO := b14 op ho.1 ho.2
  have ra1 := hO.1
  have ra4 := hO.2.1
  have oa := hv.op op ho.1 ho.2
  have hG := oa.2.1
  have hk0 := (hO.2.2.2 0 (by omega) (by omega)).1
  refine CS.mkQ (by decide) (Nat.le_of_ble_eq_true rfl) fun Q hQ => ?_
  refine x_aload_n dX1_told_0 rfl rfl ?_
  refine g_getR (kI := 1) rfl dX1_told_1 fX1_22_1 (by first | assumption | first | assumption | (simp (disch := omega) only [shI, shR, shL, shC, shD, shW, sh_V, shN_e, shN_n, crI, crL, crC, crW, crV, crR_e, crR_n, crN_e, crN_n, ciR, ciL, ciD, ciN_e, ciN_n, rdI_e, rdI_n, rdC_i, rdC_o, rdW, rdU_e, rdU_n, rdLW, clI, clR, clC, clD, clW, clV, clN_e, clN_n, clL_e, clL_n]; done) | (simp (disch := omega) only [shI, shR, shL, shC, shD, shW, sh_V, shN_e, shN_n, crI, crL, crC, crW, crV, crR_e, crR_n, crN_e, crN_n, ciR, ciL, ciD, ciN_e, ciN_n, rdI_e, rdI_n, rdC_i, rdC_o, rdW, rdU_e, rdU_n, rdLW, clI, clR, clC, clD, clW, clV, clN_e, clN_n, clL_e, clL_n] <;> first | assumption | rfl | omega)) (by first | assumption | first | assumption | (simp (disch := omega) only [shI, shR, shL, shC, shD, shW, sh_V, shN_e, shN_n, crI, crL, crC, crW, crV, crR_e, crR_n, crN_e, crN_n, ciR, ciL, ciD, ciN_e, ciN_n, rdI_e, rdI_n, rdC_i, rdC_o, rdW, rdU_e, rdU_n, rdLW, clI, clR, clC, clD, clW, clV, clN_e, clN_n, clL_e, clL_n]; done) | (simp (disch := omega) only [shI, shR, shL, shC, shD, shW, sh_V, shN_e, shN_n, crI, crL, crC, crW, crV, crR_e, crR_n, crN_e, crN_n, ciR, ciL, ciD, ciN_e, ciN_n, rdI_e, rdI_n, rdC_i, rdC_o, rdW, rdU_e, rdU_n, rdLW, clI, clR, clC, clD, clW, clV, clN_e, clN_n, clL_e, clL_n] <;> first | assumption | rfl | omega)) ?_
  refine g_getR (kI := 0) rfl dX1_told_4 fX1_112_3 (by first | assumption | first | assumption | (simp (disch := omega) only [shI, shR, shL, shC, shD, shW, sh_V, shN_e, shN_n, crI, crL, crC, crW, crV, crR_e, crR_n, crN_e, crN_n, ciR, ciL, ciD, ciN_e, ciN_n, rdI_e, rdI_n, rdC_i, rdC_o, rdW, rdU_e, rdU_n, rdLW, clI, clR, clC, clD, clW, clV, clN_e, clN_n, clL_e, clL_n]; done) | (simp (disch := omega) only [shI, shR, shL, shC, shD, shW, sh_V, shN_e, shN_n, crI, crL, crC, crW, crV, crR_e, crR_n, crN_e, crN_n, ciR, ciL, ciD, ciN_e, ciN_n, rdI_e, rdI_n, rdC_i, rdC_o, rdW, rdU_e, rdU_n, rdLW, clI, clR, clC, clD, clW, clV, clN_e, clN_n, clL_e, clL_n] <;> first | assumption | rfl | omega)) (by first | assumption | first | assumption | (simp (disch := omega) only [shI, shR, shL, shC, shD, shW, sh_V, shN_e, shN_n, crI, crL, crC, crW, crV, crR_e, crR_n, crN_e, crN_n, ciR, ciL, ciD, ciN_e, ciN_n, rdI_e, rdI_n, rdC_i, rdC_o, rdW, rdU_e, rdU_n, rdLW, clI, clR, clC, clD, clW, clV, clN_e, clN_n, clL_e, clL_n]; done) | (simp (disch := omega) only [shI, shR, shL, shC, shD, shW, sh_V, shN_e, shN_n, crI, crL, crC, crW, crV, crR_e, crR_n, crN_e, crN_n, ciR, ciL, ciD, ciN_e, ciN_n, rdI_e, rdI_n, rdC_i, rdC_o, rdW, rdU_e, rdU_n, rdLW, clI, clR, clC, clD, clW, clV, clN_e, clN_n, clL_e, clL_n] <;> first | assumption | rfl | omega)) ?_
  refine x_iload_n dX1_told_7 rfl rfl ?_
  refine x_aald (t := 126) rfl (by decide) dX1_told_8 (by first | assumption | first | assumption | (simp (disch := omega) only [shI, shR, shL, shC, shD, shW, sh_V, shN_e, shN_n, crI, crL, crC, crW, crV, crR_e, crR_n, crN_e, crN_n, ciR, ciL, ciD, ciN_e, ciN_n, rdI_e, rdI_n, rdC_i, rdC_o, rdW, rdU_e, rdU_n, rdLW, clI, clR, clC, clD, clW, clV, clN_e, clN_n, clL_e, clL_n]; done) | (simp (disch := omega) only [shI, shR, shL, shC, shD, shW, sh_V, shN_e, shN_n, crI, crL, crC, crW, crV, crR_e, crR_n, crN_e, crN_n, ciR, ciL, ciD, ciN_e, ciN_n, rdI_e, rdI_n, rdC_i, rdC_o, rdW, rdU_e, rdU_n, rdLW, clI, clR, clC, clD, clW, clV, clN_e, clN_n, clL_e, clL_n] <;> first | assumption | rfl | omega)) (by omega) (by omega) (by first | assumption | first | assumption | (simp (disch := omega) only [shI, shR, shL, shC, shD, shW, sh_V, shN_e, shN_n, crI, crL, crC, crW, crV, crR_e, crR_n, crN_e, crN_n, ciR, ciL, ciD, ciN_e, ciN_n, rdI_e, rdI_n, rdC_i, rdC_o, rdW, rdU_e, rdU_n, rdLW, clI, clR, clC, clD, clW, clV, clN_e, clN_n, clL_e, clL_n]; done) | (simp (disch := omega) only [shI, shR, shL, shC, shD, shW, sh_V, shN_e, shN_n, crI, crL, crC, crW, crV, crR_e, crR_n, crN_e, crN_n, ciR, ciL, ciD, ciN_e, ciN_n, rdI_e, rdI_n, rdC_i, rdC_o, rdW, rdU_e, rdU_n, rdLW, clI, clR, clC, clD, clW, clV, clN_e, clN_n, clL_e, clL_n] <;> first | assumption | rfl | omega)) ?_
  refine x_astore_n (L' := [some _, some _, some _, some _]) dX1_told_9 rfl (by decide) rfl ?_
  refine x_iload_n dX1_told_10 rfl rfl ?_
  refine x_if_ne (tgt := 21) dX1_told_11 (by decide) (fun h11 => ?_) (fun h11 => ?_)
  · try simp only [vP_0, vP_1, vP_n0, vP_n1, Classical.not_not] at h11
    refine x_iload_n dX1_told_21 rfl rfl ?_
    refine x_iconst dX1_told_22 rfl ?_
    refine x_icmp_ne (tgt := 36) dX1_told_23 (by decide) (fun h23 => ?_) (fun h23 => ?_)
    · refine x_iload_n dX1_told_36 rfl rfl ?_
      refine x_bipush dX1_told_37 rfl ?_
      refine x_icmp_ne (tgt := 51) dX1_told_39 (by decide) (fun h39 => ?_) (fun h39 => ?_)
      · refine x_aload_n dX1_told_51 rfl rfl ?_
        refine x_iload_n dX1_told_52 rfl rfl ?_
        refine x_iconst dX1_told_53 rfl ?_
        first | refine x_isubN dX1_told_54 (by unfold i32; omega) ?_ | refine x_isub dX1_told_54 ?_
        refine g_callI (vs := [_, _]) (d' := d - 1) rfl (s_X6_is (by omega) wa2 (by omega) (by omega)) dX1_told_55 kX1_244 (by omega) (by decide) rfl (Nat.le_of_ble_eq_true rfl) (rcv_o (by first | assumption | first | assumption | (simp (disch := omega) only [shI, shR, shL, shC, shD, shW, sh_V, shN_e, shN_n, crI, crL, crC, crW, crV, crR_e, crR_n, crN_e, crN_n, ciR, ciL, ciD, ciN_e, ciN_n, rdI_e, rdI_n, rdC_i, rdC_o, rdW, rdU_e, rdU_n, rdLW, clI, clR, clC, clD, clW, clV, clN_e, clN_n, clL_e, clL_n]; done) | (simp (disch := omega) only [shI, shR, shL, shC, shD, shW, sh_V, shN_e, shN_n, crI, crL, crC, crW, crV, crR_e, crR_n, crN_e, crN_n, ciR, ciL, ciD, ciN_e, ciN_n, rdI_e, rdI_n, rdC_i, rdC_o, rdW, rdU_e, rdU_n, rdLW, clI, clR, clC, clD, clW, clV, clN_e, clN_n, clL_e, clL_n] <;> first | assumption | rfl | omega)) rfl) (fun x55 M55 h55 => ?_)
        obtain ⟨e55, f55⟩ := h55
        have f55' := f55.symm
        subst f55'
        subst e55
        try simp (disch := omega) only [rdI_e, rdI_n, rdC_i, rdC_o, rdW, rdR, rdU_e, rdU_n, rdLW, Int.add_zero, ra1, ra4, hk0]
        refine g_callI (vs := [_]) (d' := d - 1) rfl (s_X1_flag (by omega) (by first | omega | exact vP_r _)) dX1_told_58 kX1_248 (by omega) (by decide) rfl (Nat.le_of_ble_eq_true rfl) (rcv_n) (fun x58 M58 h58 => ?_)
        obtain ⟨e58, f58⟩ := h58
        have f58' := f58.symm
        subst f58'
        subst e58
        try simp (disch := omega) only [rdI_e, rdI_n, rdC_i, rdC_o, rdW, rdR, rdU_e, rdU_n, rdLW, Int.add_zero, ra1, ra4, hk0]
        refine x_ireturn rfl dX1_told_61 ?_
        refine hQ _ _ ⟨_, rfl, ?_, rfl⟩
        unfold toldV
        first
        | rw [if_pos h11]
        | rw [if_neg h11, if_pos h23]
        | rw [if_neg h11, if_neg h23, if_pos h39]
        | (rw [if_neg h11, if_neg h23, if_neg h39]
           exact trt_w (hW op (w - 2) ho.1 ho.2 (by omega) (by omega)))
      · refine x_aload_n dX1_told_42 rfl rfl ?_
        refine g_getR (kI := 0) rfl dX1_told_43 fX1_278_6 (by first | assumption | first | assumption | (simp (disch := omega) only [shI, shR, shL, shC, shD, shW, sh_V, shN_e, shN_n, crI, crL, crC, crW, crV, crR_e, crR_n, crN_e, crN_n, ciR, ciL, ciD, ciN_e, ciN_n, rdI_e, rdI_n, rdC_i, rdC_o, rdW, rdU_e, rdU_n, rdLW, clI, clR, clC, clD, clW, clV, clN_e, clN_n, clL_e, clL_n]; done) | (simp (disch := omega) only [shI, shR, shL, shC, shD, shW, sh_V, shN_e, shN_n, crI, crL, crC, crW, crV, crR_e, crR_n, crN_e, crN_n, ciR, ciL, ciD, ciN_e, ciN_n, rdI_e, rdI_n, rdC_i, rdC_o, rdW, rdU_e, rdU_n, rdLW, clI, clR, clC, clD, clW, clV, clN_e, clN_n, clL_e, clL_n] <;> first | assumption | rfl | omega)) (by first | assumption | first | assumption | (simp (disch := omega) only [shI, shR, shL, shC, shD, shW, sh_V, shN_e, shN_n, crI, crL, crC, crW, crV, crR_e, crR_n, crN_e, crN_n, ciR, ciL, ciD, ciN_e, ciN_n, rdI_e, rdI_n, rdC_i, rdC_o, rdW, rdU_e, rdU_n, rdLW, clI, clR, clC, clD, clW, clV, clN_e, clN_n, clL_e, clL_n]; done) | (simp (disch := omega) only [shI, shR, shL, shC, shD, shW, sh_V, shN_e, shN_n, crI, crL, crC, crW, crV, crR_e, crR_n, crN_e, crN_n, ciR, ciL, ciD, ciN_e, ciN_n, rdI_e, rdI_n, rdC_i, rdC_o, rdW, rdU_e, rdU_n, rdLW, clI, clR, clC, clD, clW, clV, clN_e, clN_n, clL_e, clL_n] <;> first | assumption | rfl | omega)) ?_
        refine x_iconst dX1_told_46 rfl ?_
        refine x_iald dX1_told_47 (by first | assumption | first | assumption | (simp (disch := omega) only [shI, shR, shL, shC, shD, shW, sh_V, shN_e, shN_n, crI, crL, crC, crW, crV, crR_e, crR_n, crN_e, crN_n, ciR, ciL, ciD, ciN_e, ciN_n, rdI_e, rdI_n, rdC_i, rdC_o, rdW, rdU_e, rdU_n, rdLW, clI, clR, clC, clD, clW, clV, clN_e, clN_n, clL_e, clL_n]; done) | (simp (disch := omega) only [shI, shR, shL, shC, shD, shW, sh_V, shN_e, shN_n, crI, crL, crC, crW, crV, crR_e, crR_n, crN_e, crN_n, ciR, ciL, ciD, ciN_e, ciN_n, rdI_e, rdI_n, rdC_i, rdC_o, rdW, rdU_e, rdU_n, rdLW, clI, clR, clC, clD, clW, clV, clN_e, clN_n, clL_e, clL_n] <;> first | assumption | rfl | omega)) (by omega) (by omega) ?_
        try simp (disch := omega) only [rdI_e, rdI_n, rdC_i, rdC_o, rdW, rdR, rdU_e, rdU_n, rdLW, Int.add_zero, ra1, ra4, hk0]
        refine x_goto (tgt := 61) dX1_told_48 (by decide) ?_
        refine x_ireturn rfl dX1_told_61 ?_
        refine hQ _ _ ⟨_, rfl, ?_, rfl⟩
        unfold toldV
        first
        | rw [if_pos h11]
        | rw [if_neg h11, if_pos h23]
        | rw [if_neg h11, if_neg h23, if_pos h39]
        | (rw [if_neg h11, if_neg h23, if_neg h39]
           exact trt_w (hW op (w - 2) ho.1 ho.2 (by omega) (by omega)))
    · refine x_aload_n dX1_told_26 rfl rfl ?_
      refine g_getZ (kI := 4) rfl dX1_told_27 fX1_199_6 (by first | assumption | first | assumption | (simp (disch := omega) only [shI, shR, shL, shC, shD, shW, sh_V, shN_e, shN_n, crI, crL, crC, crW, crV, crR_e, crR_n, crN_e, crN_n, ciR, ciL, ciD, ciN_e, ciN_n, rdI_e, rdI_n, rdC_i, rdC_o, rdW, rdU_e, rdU_n, rdLW, clI, clR, clC, clD, clW, clV, clN_e, clN_n, clL_e, clL_n]; done) | (simp (disch := omega) only [shI, shR, shL, shC, shD, shW, sh_V, shN_e, shN_n, crI, crL, crC, crW, crV, crR_e, crR_n, crN_e, crN_n, ciR, ciL, ciD, ciN_e, ciN_n, rdI_e, rdI_n, rdC_i, rdC_o, rdW, rdU_e, rdU_n, rdLW, clI, clR, clC, clD, clW, clV, clN_e, clN_n, clL_e, clL_n] <;> first | assumption | rfl | omega)) ?_
      try simp (disch := omega) only [rdI_e, rdI_n, rdC_i, rdC_o, rdW, rdR, rdU_e, rdU_n, rdLW, Int.add_zero, ra1, ra4, hk0]
      refine g_callI (vs := [_]) (d' := d - 1) rfl (s_X1_flag (by omega) (by first | omega | exact vP_r _)) dX1_told_30 kX1_248 (by omega) (by decide) rfl (Nat.le_of_ble_eq_true rfl) (rcv_n) (fun x30 M30 h30 => ?_)
      obtain ⟨e30, f30⟩ := h30
      have f30' := f30.symm
      subst f30'
      subst e30
      try simp (disch := omega) only [rdI_e, rdI_n, rdC_i, rdC_o, rdW, rdR, rdU_e, rdU_n, rdLW, Int.add_zero, ra1, ra4, hk0]
      refine x_goto (tgt := 61) dX1_told_33 (by decide) ?_
      refine x_ireturn rfl dX1_told_61 ?_
      refine hQ _ _ ⟨_, rfl, ?_, rfl⟩
      unfold toldV
      first
      | rw [if_pos h11]
      | rw [if_neg h11, if_pos h23]
      | rw [if_neg h11, if_neg h23, if_pos h39]
      | (rw [if_neg h11, if_neg h23, if_neg h39]
         exact trt_w (hW op (w - 2) ho.1 ho.2 (by omega) (by omega)))
  · try simp only [vP_0, vP_1, vP_n0, vP_n1, Classical.not_not] at h11
    refine x_aload_n dX1_told_14 rfl rfl ?_
    refine g_getI (kI := 3) rfl dX1_told_15 fX1_252_6 (by first | assumption | first | assumption | (simp (disch := omega) only [shI, shR, shL, shC, shD, shW, sh_V, shN_e, shN_n, crI, crL, crC, crW, crV, crR_e, crR_n, crN_e, crN_n, ciR, ciL, ciD, ciN_e, ciN_n, rdI_e, rdI_n, rdC_i, rdC_o, rdW, rdU_e, rdU_n, rdLW, clI, clR, clC, clD, clW, clV, clN_e, clN_n, clL_e, clL_n]; done) | (simp (disch := omega) only [shI, shR, shL, shC, shD, shW, sh_V, shN_e, shN_n, crI, crL, crC, crW, crV, crR_e, crR_n, crN_e, crN_n, ciR, ciL, ciD, ciN_e, ciN_n, rdI_e, rdI_n, rdC_i, rdC_o, rdW, rdU_e, rdU_n, rdLW, clI, clR, clC, clD, clW, clV, clN_e, clN_n, clL_e, clL_n] <;> first | assumption | rfl | omega)) ?_
    try simp (disch := omega) only [rdI_e, rdI_n, rdC_i, rdC_o, rdW, rdR, rdU_e, rdU_n, rdLW, Int.add_zero, ra1, ra4, hk0]
    refine x_goto (tgt := 61) dX1_told_18 (by decide) ?_
    refine x_ireturn rfl dX1_told_61 ?_
    refine hQ _ _ ⟨_, rfl, ?_, rfl⟩
    unfold toldV
    first
    | rw [if_pos h11]
    | rw [if_neg h11, if_pos h23]
    | rw [if_neg h11, if_neg h23, if_pos h39]
    | (rw [if_neg h11, if_neg h23, if_neg h39]
       exact trt_w (hW op (w - 2) ho.1 ho.2 (by omega) (by omega)))
end X1

