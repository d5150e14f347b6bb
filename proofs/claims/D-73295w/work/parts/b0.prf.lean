/-! GuestView: programs that leak -/
theorem prfR_app {v : Vw} {n : Int} (hX : ∀ num, ¬ 1000 * n + figR (digV (v 0) num n) n.toNat = -1) : ∀ (a b : Nat) (num : Int), prfR v n (a + b) num = if prfR v n a num = -1 then prfR v n b (num + a) else prfR v n a num := by
  intro a
  induction a with
  | zero =>
    intro b num
    rw [show 0 + b = b by omega, show num + ((0 : Nat) : Int) = num by omega]
    exact (if_pos rfl).symm
  | succ a ih =>
    intro b num
    rw [show a + 1 + b = a + b + 1 by omega, prfR_s, prfR_s]
    by_cases h : leakV (prgV v n (digV (v 0) num n)) = -1
    · rw [if_pos h, if_pos h, ih, show num + 1 + (a : Int) = num + ((a + 1 : Nat) : Int) by omega]
    · rw [if_neg h, if_neg h, if_neg (hX num)]
theorem digV_ext {o q k j : Int} (ho : 0 < o) (hk : 0 ≤ k ∧ k < o) (hj : 0 ≤ j) : (∀ i, 0 ≤ i → i < j → digV o (q * o + k) (j + 1) i = digV o q j i) ∧ digV o (q * o + k) (j + 1) j = k := by
  constructor
  · intro i i0 i1
    unfold digV
    have e1 : (j + 1 - 1 - i).toNat = (j - 1 - i).toNat + 1 := by omega
    rw [e1, Int.pow_succ, Int.mul_comm (o ^ (j - 1 - i).toNat) o, ← Int.ediv_ediv_of_nonneg (Int.le_of_lt ho)]
    have e2 : (q * o + k) / o = q := by
      rw [Int.add_comm, Int.add_mul_ediv_right _ _ (by omega), Int.ediv_eq_zero_of_lt hk.1 hk.2, Int.zero_add]
    rw [e2]
  · unfold digV
    rw [show (j + 1 - 1 - j).toNat = 0 by omega, Int.pow_zero, Int.ediv_one, Int.add_comm, Int.add_mul_emod_self_right, Int.emod_eq_of_lt hk.1 hk.2]
theorem figR_ext {f g : Int → Int} : ∀ t : Nat, (∀ i : Int, 0 ≤ i → i < t → f i = g i) → figR f t = figR g t := by
  intro t
  induction t with
  | zero => intro _; rfl
  | succ t ih =>
    intro h
    show 10 * figR f t + f t + 1 = 10 * figR g t + g t + 1
    rw [ih fun i a b => h i a (by omega), h t (by omega) (by omega)]
theorem prgV_o {v : Vw} {n : Int} {f : Int → Int} {k : Int} (h3 : ¬ k = 3) (h : ¬ (12 ≤ k ∧ k < 12 + n)) : prgV v n f k = v k := (if_neg h3).trans (if_neg h)
theorem prgV_i {v : Vw} {n : Int} {f : Int → Int} {k : Int} (h : 12 ≤ k ∧ k < 12 + n) : prgV v n f k = f (k - 12) := (if_neg (by omega)).trans (if_pos h)
theorem prgV_3 {v : Vw} {n : Int} {f : Int → Int} : prgV v n f 3 = n := if_pos rfl
/-- the state at p is a bench but for its program -/
theorem RelS.prg {sh : Sh} {f g : Ci} {cr : Cr} {B T N n : Int} {v : Vw} {dg : Int → Int} (h : RelS sh f cr B T 54 v N) (hv : okB v) (hL : lawOK v) (hn : 0 ≤ n ∧ n ≤ 10) (hg : ∀ b k, (54 ≤ b ∧ b ≤ 98) ∨ B ≤ b → ¬ (b = 54 ∧ k = 9) → b ≠ 59 → b ≠ 57 → g b k = f b k) (h9 : g 54 9 = n) (hp : ∀ i, 0 ≤ i → i < 10 → g 59 i = prgV v n dg (12 + i)) (hB : 98 < B) : RelS sh g cr B T 54 (prgV v n dg) N := by
  obtain ⟨h1, h2, h3⟩ := h
  have h8 := hv.n8
  have hv10 := hv.l60
  have e0 : prgV v n dg 0 = v 0 := prgV_o (by omega) (by omega)
  have e : ∀ k, ¬ k = 9 → g 54 k = f 54 k := fun k q => hg _ _ (by omega) (by omega) (by omega) (by omega)
  obtain ⟨r1, r2, r3, r4, r5, r6, r7, r8, r9, r10, r11, r12, r13, r14, r15⟩ := h1
  have o : ∀ k, ¬ k = 3 → ¬ (12 ≤ k ∧ k < 22) → prgV v n dg k = v k := fun k a b => prgV_o a (by omega)
  refine ⟨⟨by rw [e _ (by omega), e0]; exact r1, by rw [prgV_3]; exact h9, by rw [e _ (by omega), o _ (by omega) (by omega)]; exact r3, by rw [e _ (by omega), o _ (by omega) (by omega)]; exact r4, by rw [e _ (by omega), o _ (by omega) (by omega)]; exact r5, by rw [e _ (by omega), o _ (by omega) (by omega)]; exact r6, by rw [e _ (by omega), o _ (by omega) (by omega)]; exact r7, by rw [e _ (by omega), o _ (by omega) (by omega)]; exact r8, by rw [e _ (by omega), o _ (by omega) (by omega)]; exact r9, by rw [e _ (by omega), o _ (by omega) (by omega)]; exact r10, by rw [e _ (by omega), o _ (by omega) (by omega)]; exact r11, fun k a b => hp k a b, fun k a b => ?_, fun k a b => ?_, fun ago j a b c d => ?_⟩, fun k w a b c e' => ?_, ?_⟩
  · rw [hg _ _ (by omega) (by omega) (by omega) (by omega), o _ (by omega) (by omega)]; exact r13 k a b
  · rw [e0] at b
    obtain ⟨k1, k2, k3, k4⟩ := r14 k a b
    have c3 := (hv.op k a b).1
    have eN : opN (prgV v n dg) k = opN v k := o _ (by omega) (by omega)
    refine ⟨?_, ?_, ?_, fun j c1 c2 => ?_⟩
    · rw [eN, hg _ _ (by omega) (by omega) (by omega) (by omega)]; exact k1
    · rw [show opG (prgV v n dg) k = opG v k from o _ (by omega) (by omega), hg _ _ (by omega) (by omega) (by omega) (by omega)]; exact k2
    · rw [show opP (prgV v n dg) k = opP v k from o _ (by omega) (by omega), hg _ _ (by omega) (by omega) (by omega) (by omega)]; exact k3
    · rw [eN] at c2
      rw [show opK (prgV v n dg) k j = opK v k j from o _ (by omega) (by omega), show opX (prgV v n dg) k j = opX v k j from o _ (by omega) (by omega), hg _ _ (by omega) (by omega) (by omega) (by omega), hg _ _ (by omega) (by omega) (by omega) (by omega)]
      exact k4 j c1 c2
  · rw [o 10 (by omega) (by omega)] at b
    rw [o _ (by omega) (by omega), e 19 (by omega), hg _ _ (by omega) (by omega) (by omega) (by omega)]
    exact r15 ago j a b c d
  · rw [e0] at b
    rw [hg _ _ (by omega) (by omega) (by omega) (by omega), witV_lo (hv.op k a b) fun j j0 j1 _ => o j (by omega) (by omega)]
    exact h2 k w a b c e'
  · exact (h3.same (fun a a1 a2 => ⟨rfl, fun k => hg _ _ (Or.inr a1) (by omega) (by omega) (by omega), fun k => rfl⟩) (Int.le_refl _) (e _ (by omega)) fun n => rfl).lo hL (o _ (by omega) (by omega)) fun k a b => o _ (by omega) (by omega)
theorem prfR_ge {v : Vw} {n : Int} (ho : 1 ≤ v 0 ∧ v 0 ≤ 8) (hn : 1 ≤ n ∧ n ≤ 3) : ∀ (t : Nat) (num : Int), ¬ prfR v n t num = -1 → 1000 * n ≤ prfR v n t num := by
  intro t
  induction t with
  | zero => intro num h; exact absurd rfl h
  | succ t ih =>
    intro num h
    rw [prfR_s] at h ⊢
    split at h
    · rename_i z
      rw [if_pos z]
      exact ih _ h
    · rename_i z
      rw [if_neg z]
      have := figR_r (f := digV (v 0) num n) (fun k => by have := digV_r (o := v 0) (num := num) (n := n) (k := k) (by omega); omega) n.toNat
      omega
section X1
variable {G : GW} {d : Nat} {M M1 : Mem} {a b c e n x y op w st hi sz fa N i p T : Int} {v vi : Vw} {A : Int → Vw} {tp : Int → Int}
/-- what a search finds: now, but for its program -/
def RSx (M : Mem) (v : Vw) (T N : Int) : Prop := ∃ f0, RelS (msh M) f0 (mcr M) 761 T 54 v N ∧ ∀ b k, ¬ (b = 54 ∧ k = 9) → b ≠ 59 → b ≠ 57 → ¬ (193 ≤ b ∧ b ≤ 198) → mci M b k = f0 b k
theorem RSx.wr {g : Ci} (h : RSx M v T N) (hg : ∀ b k, ¬ (b = 54 ∧ k = 9) → b ≠ 59 → b ≠ 57 → ¬ (193 ≤ b ∧ b ≤ 198) → g b k = mci M b k) : RSx (wI M g) v T N := by
  obtain ⟨f0, h1, h2⟩ := h
  exact ⟨f0, h1, fun b k q1 q2 q3 q4 => (hg b k q1 q2 q3 q4).trans (h2 b k q1 q2 q3 q4)⟩
/-- where a search writes that has j operations of n -/
def PF (f g : Ci) (j n : Int) : Prop := ∀ b k, ¬ (193 ≤ b ∧ b ≤ 198) → b ≠ 57 → ¬ (b = 59 ∧ j ≤ k ∧ k < n) → g b k = f b k
theorem pr_of (hS : SkC (msh M) (mcr M)) (hv : okB v) (hL : lawOK v) (h1 : 1 ≤ v 0) (hn : 1 ≤ n ∧ n ≤ 3) : ∀ (l d : Nat) (f0 : Ci) (j q fig : Int), 45 + l ≤ d → j + l = n → 0 ≤ j → RSx (wI M f0) v T N → f0 54 9 = j → f0 54 8 = v 0 → (∀ i, 0 ≤ i → i < j → f0 59 i = digV (v 0) q j i) → (∀ i, n ≤ i → i < 10 → f0 59 i = v (12 + i)) → b01 (f0 194 6) → b01 (f0 197 6) → fig = figR (digV (v 0) q j) j.toNat → CS G d mX1_proofOf [dR 0, dI (l : Int), dI fig] (wI M f0) (postI fun y M1 => y = (if prfR v n (v 0 ^ l).toNat (q * v 0 ^ l) = -1 then -1 else prfR v n (v 0 ^ l).toNat (q * v 0 ^ l) - 1000 * n) ∧ ∃ g, M1 = wI M g ∧ b01 (g 194 6) ∧ b01 (g 197 6) ∧ PF f0 g j n) := by
  have hv8 := hv.n8
  obtain ⟨⟨s0, -⟩, ⟨c0, c1, -⟩, -, hSt, -⟩ := id hS
  have hs54 := hSt 54 (by unfold SB; omega)
  obtain ⟨p0, p1, ⟨d0, d1, d2, d3, d4, d5, d6, d7⟩, ⟨t1, t2, t3, t4, t5, t6⟩, p5, p6, p7⟩ := id hs54
  have hdg : ∀ (num m k : Int), 0 ≤ digV (v 0) num m k ∧ digV (v 0) num m k < 8 := fun num m k => by
    have := digV_r (o := v 0) (num := num) (n := m) (k := k) (by omega)
    omega
  have hX : ∀ num, ¬ 1000 * n + figR (digV (v 0) num n) n.toNat = -1 := fun num => by
    have := figR_r (f := digV (v 0) num n) (fun k => hdg num n k) n.toNat
    omega
  intro l
  induction l with
  | zero =>
    intro d f0 j q fig hd hj hj0 hRx h9 h8 hpr hpo h4 h7 hfig
    have ejn : j = n := by omega
    subst ejn
    obtain ⟨fb, hRb, hfb⟩ := hRx
    have hRS : RelS (msh (wI M f0)) (mci (wI M f0)) (mcr (wI M f0)) 761 T 54 (prgV v j (digV (v 0) q j)) N := hRb.prg hv hL (by omega) (fun b k q1 q2 q3 q4 => hfb b k q2 q3 q4 (by omega)) h9 (fun i i0 i1 => by
      by_cases qi : i < j
      · rw [prgV_i (by omega), show 12 + i - 12 = i by omega]
        exact hpr i i0 qi
      · rw [prgV_o (by omega) (by omega)]
        exact hpo i (by omega) i1) (by omega)
    have hvB : okB (prgV v j (digV (v 0) q j)) := okB_prg hv (by omega) fun k _ _ => digV_r (by omega)
    have e1 : prfR v j (v 0 ^ 0).toNat (q * v 0 ^ 0) = if leakV (prgV v j (digV (v 0) q j)) = -1 then -1 else 1000 * j + figR (digV (v 0) q j) j.toNat := by
      rw [Int.pow_zero, Int.mul_one]
      exact prfR_s (t := 0)
    rw [e1]
    have hxq := hX q
    refine CS.mkQ (by decide) (Nat.le_of_ble_eq_true rfl) fun Q hQ => ?_
    refine x_iload_n dX1_proofOf_0 rfl rfl ?_
    refine x_if_ne (tgt := 18) dX1_proofOf_1 (by decide) (fun hz1 => ?_) (fun hz1 => ?_)
    · exact absurd rfl hz1
    · refine x_aload_n dX1_proofOf_4 rfl rfl ?_
      refine g_callI (vs := [_]) (d' := d - 1) rfl (s_X1_leak (M := wI M f0) (by omega) hS hRS hvB h4 h7) dX1_proofOf_5 kX1_364 (by omega) (by decide) rfl (Nat.le_of_ble_eq_true rfl) (rcv_o (by first | assumption | first | assumption | (simp (disch := omega) only [shI, shR, shL, shC, shD, shW, sh_V, shN_e, shN_n, crI, crL, crC, crW, crV, crR_e, crR_n, crN_e, crN_n, ciR, ciL, ciD, ciN_e, ciN_n, rdI_e, rdI_n, rdC_i, rdC_o, rdW, rdU_e, rdU_n, rdLW, clI, clR, clC, clD, clW, clV, clN_e, clN_n, clL_e, clL_n]; done) | (simp (disch := omega) only [shI, shR, shL, shC, shD, shW, sh_V, shN_e, shN_n, crI, crL, crC, crW, crV, crR_e, crR_n, crN_e, crN_n, ciR, ciL, ciD, ciN_e, ciN_n, rdI_e, rdI_n, rdC_i, rdC_o, rdW, rdU_e, rdU_n, rdLW, clI, clR, clC, clD, clW, clV, clN_e, clN_n, clL_e, clL_n] <;> first | assumption | rfl | omega)) rfl) (fun x5 M5 h5 => ?_)
      obtain ⟨e5, g5, hM5, y5, z5, f5⟩ := h5
      subst hM5
      refine x_iconst dX1_proofOf_8 rfl ?_
      refine x_icmp_ne (tgt := 16) dX1_proofOf_9 (by decide) (fun hz9 => ?_) (fun hz9 => ?_)
      · refine x_iload_n dX1_proofOf_16 rfl rfl ?_
        refine x_ireturn rfl dX1_proofOf_17 ?_
        refine hQ _ _ ⟨_, rfl, ?_, g5, rfl, y5, z5, fun b k q1 q2 _ => f5 b k q1 q2⟩
        by_cases hl : leakV (prgV v j (digV (v 0) q j)) = -1
        · rw [if_pos hl, if_pos rfl] <;> exact absurd (e5.trans hl) hz9
        · rw [if_neg hl, if_neg hxq]
          first
          | exact absurd (e5.symm.trans hz9) hl
          | omega
      · refine x_iconst dX1_proofOf_12 rfl ?_
        refine x_goto (tgt := 17) dX1_proofOf_13 (by decide) ?_
        refine x_ireturn rfl dX1_proofOf_17 ?_
        refine hQ _ _ ⟨_, rfl, ?_, g5, rfl, y5, z5, fun b k q1 q2 _ => f5 b k q1 q2⟩
        by_cases hl : leakV (prgV v j (digV (v 0) q j)) = -1
        · rw [if_pos hl, if_pos rfl] <;> exact absurd (e5.trans hl) hz9
        · rw [if_neg hl, if_neg hxq]
          first
          | exact absurd (e5.symm.trans hz9) hl
          | omega
  | succ l ih =>
    intro d f0 j q fig hd hj hj0 hRx h9 h8 hpr hpo h4 h7 hfig
    have hP : 0 < v 0 ^ l := Int.pow_pos (by omega)
    have hfr := figR_r (f := digV (v 0) q j) (fun k => hdg q j k) j.toNat
    rw [← hfig] at hfr
    rw [Int.pow_succ, Int.mul_comm (v 0 ^ l) (v 0)]
    generalize hPl : v 0 ^ l = P at hP ih ⊢
    generalize hTot : prfR v n (v 0 * P).toNat (q * (v 0 * P)) = tot
    refine CS.mkQ (by decide) (Nat.le_of_ble_eq_true rfl) fun Q hQ => ?_
    have lp : ∀ (t : Nat) (k f : Int) (g : Ci), (v 0 - k).toNat = t → (0 ≤ k ∧ k ≤ v 0) → (∀ b i, ¬ (193 ≤ b ∧ b ≤ 198) → b ≠ 57 → ¬ (b = 59 ∧ j ≤ i ∧ i < n) → ¬ (b = 54 ∧ i = 9) → g b i = f0 b i) → (g 54 9 = j + 1) → (b01 (g 194 6)) → (b01 (g 197 6)) → ((f = -1 ∧ tot = prfR v n ((v 0 - k) * P).toNat ((q * v 0 + k) * P)) ∨ (¬ f = -1 ∧ ¬ tot = -1 ∧ f = tot - 1000 * n)) → WP G d mX1_proofOf 36 [some (dR 0), some (dI ((l + 1 : Nat) : Int)), some (dI fig), some (dI f), some (dI k)] [] (wI M g) Q := by
      intro t
      induction t using Nat.strongRecOn with
      | _ t ih1 =>
        intro k f g ht k0 hg hg9 hg4 hg7 hf
        have hg8 : g 54 8 = v 0 := (hg _ _ (by omega) (by omega) (by omega) (by omega)).trans h8
        have hend : (k = v 0 ∨ ¬ f = -1) → WP G d mX1_proofOf 95 [some (dR 0), some (dI ((l + 1 : Nat) : Int)), some (dI fig), some (dI f), some (dI k)] [] (wI M g) Q := by
          intro hkf
          refine x_aload_n dX1_proofOf_95 rfl rfl ?_
          refine g_getR (kI := 1) rfl dX1_proofOf_96 fX1_22_1 (by first | assumption | first | assumption | (simp (disch := omega) only [shI, shR, shL, shC, shD, shW, sh_V, shN_e, shN_n, crI, crL, crC, crW, crV, crR_e, crR_n, crN_e, crN_n, ciR, ciL, ciD, ciN_e, ciN_n, rdI_e, rdI_n, rdC_i, rdC_o, rdW, rdU_e, rdU_n, rdLW, clI, clR, clC, clD, clW, clV, clN_e, clN_n, clL_e, clL_n]; done) | (simp (disch := omega) only [shI, shR, shL, shC, shD, shW, sh_V, shN_e, shN_n, crI, crL, crC, crW, crV, crR_e, crR_n, crN_e, crN_n, ciR, ciL, ciD, ciN_e, ciN_n, rdI_e, rdI_n, rdC_i, rdC_o, rdW, rdU_e, rdU_n, rdLW, clI, clR, clC, clD, clW, clV, clN_e, clN_n, clL_e, clL_n] <;> first | assumption | rfl | omega)) (by first | assumption | first | assumption | (simp (disch := omega) only [shI, shR, shL, shC, shD, shW, sh_V, shN_e, shN_n, crI, crL, crC, crW, crV, crR_e, crR_n, crN_e, crN_n, ciR, ciL, ciD, ciN_e, ciN_n, rdI_e, rdI_n, rdC_i, rdC_o, rdW, rdU_e, rdU_n, rdLW, clI, clR, clC, clD, clW, clV, clN_e, clN_n, clL_e, clL_n]; done) | (simp (disch := omega) only [shI, shR, shL, shC, shD, shW, sh_V, shN_e, shN_n, crI, crL, crC, crW, crV, crR_e, crR_n, crN_e, crN_n, ciR, ciL, ciD, ciN_e, ciN_n, rdI_e, rdI_n, rdC_i, rdC_o, rdW, rdU_e, rdU_n, rdLW, clI, clR, clC, clD, clW, clV, clN_e, clN_n, clL_e, clL_n] <;> first | assumption | rfl | omega)) ?_
          refine x_dup dX1_proofOf_99 rfl ?_
          refine g_getI (kI := 9) rfl dX1_proofOf_100 fX1_272_3 (by first | assumption | first | assumption | (simp (disch := omega) only [shI, shR, shL, shC, shD, shW, sh_V, shN_e, shN_n, crI, crL, crC, crW, crV, crR_e, crR_n, crN_e, crN_n, ciR, ciL, ciD, ciN_e, ciN_n, rdI_e, rdI_n, rdC_i, rdC_o, rdW, rdU_e, rdU_n, rdLW, clI, clR, clC, clD, clW, clV, clN_e, clN_n, clL_e, clL_n]; done) | (simp (disch := omega) only [shI, shR, shL, shC, shD, shW, sh_V, shN_e, shN_n, crI, crL, crC, crW, crV, crR_e, crR_n, crN_e, crN_n, ciR, ciL, ciD, ciN_e, ciN_n, rdI_e, rdI_n, rdC_i, rdC_o, rdW, rdU_e, rdU_n, rdLW, clI, clR, clC, clD, clW, clV, clN_e, clN_n, clL_e, clL_n] <;> first | assumption | rfl | omega)) ?_
          try simp (disch := omega) only [rdI_e, rdI_n, rdC_i, rdC_o, rdW, rdR, rdU_e, rdU_n, rdLW, Int.add_zero, hg9]
          refine x_iconst dX1_proofOf_103 rfl ?_
          first | refine x_isubN dX1_proofOf_104 (by unfold i32; omega) ?_ | refine x_isub dX1_proofOf_104 ?_
          refine g_putI (kI := 9) rfl dX1_proofOf_105 fX1_272_3 (by first | assumption | first | assumption | (simp (disch := omega) only [shI, shR, shL, shC, shD, shW, sh_V, shN_e, shN_n, crI, crL, crC, crW, crV, crR_e, crR_n, crN_e, crN_n, ciR, ciL, ciD, ciN_e, ciN_n, rdI_e, rdI_n, rdC_i, rdC_o, rdW, rdU_e, rdU_n, rdLW, clI, clR, clC, clD, clW, clV, clN_e, clN_n, clL_e, clL_n]; done) | (simp (disch := omega) only [shI, shR, shL, shC, shD, shW, sh_V, shN_e, shN_n, crI, crL, crC, crW, crV, crR_e, crR_n, crN_e, crN_n, ciR, ciL, ciD, ciN_e, ciN_n, rdI_e, rdI_n, rdC_i, rdC_o, rdW, rdU_e, rdU_n, rdLW, clI, clR, clC, clD, clW, clV, clN_e, clN_n, clL_e, clL_n] <;> first | assumption | rfl | omega)) ?_
          refine x_iload_n dX1_proofOf_108 rfl rfl ?_
          refine x_ireturn rfl dX1_proofOf_109 ?_
          refine hQ _ _ ⟨_, rfl, ?_, up g 54 9 j, by rw [show j + 1 - 1 = j by omega]; rfl, by rw [rdU_n (by omega)]; exact hg4, by rw [rdU_n (by omega)]; exact hg7, fun b i q1 q2 q3 => ?_⟩
          · rcases hf with ⟨a1, a2⟩ | ⟨a1, a2, a3⟩
            · have hk : k = v 0 := by rcases hkf with z | z <;> first | exact z | exact absurd a1 z
              rw [hk, show v 0 - v 0 = 0 by omega, Int.zero_mul] at a2
              have a3 : tot = -1 := a2
              rw [if_pos a3]
              exact a1
            · rw [if_neg a2]
              exact a3
          · by_cases z : b = 54 ∧ i = 9
            · rw [rdU_e z, z.1, z.2]
              exact h9.symm
            · rw [rdU_n z]
              exact hg b i q1 q2 q3 z
        by_cases hkf : k = v 0 ∨ ¬ f = -1
        · refine x_iload dX1_proofOf_36 rfl ?_
          refine x_aload_n dX1_proofOf_38 rfl rfl ?_
          refine g_getR (kI := 1) rfl dX1_proofOf_39 fX1_22_1 (by first | assumption | first | assumption | (simp (disch := omega) only [shI, shR, shL, shC, shD, shW, sh_V, shN_e, shN_n, crI, crL, crC, crW, crV, crR_e, crR_n, crN_e, crN_n, ciR, ciL, ciD, ciN_e, ciN_n, rdI_e, rdI_n, rdC_i, rdC_o, rdW, rdU_e, rdU_n, rdLW, clI, clR, clC, clD, clW, clV, clN_e, clN_n, clL_e, clL_n]; done) | (simp (disch := omega) only [shI, shR, shL, shC, shD, shW, sh_V, shN_e, shN_n, crI, crL, crC, crW, crV, crR_e, crR_n, crN_e, crN_n, ciR, ciL, ciD, ciN_e, ciN_n, rdI_e, rdI_n, rdC_i, rdC_o, rdW, rdU_e, rdU_n, rdLW, clI, clR, clC, clD, clW, clV, clN_e, clN_n, clL_e, clL_n] <;> first | assumption | rfl | omega)) (by first | assumption | first | assumption | (simp (disch := omega) only [shI, shR, shL, shC, shD, shW, sh_V, shN_e, shN_n, crI, crL, crC, crW, crV, crR_e, crR_n, crN_e, crN_n, ciR, ciL, ciD, ciN_e, ciN_n, rdI_e, rdI_n, rdC_i, rdC_o, rdW, rdU_e, rdU_n, rdLW, clI, clR, clC, clD, clW, clV, clN_e, clN_n, clL_e, clL_n]; done) | (simp (disch := omega) only [shI, shR, shL, shC, shD, shW, sh_V, shN_e, shN_n, crI, crL, crC, crW, crV, crR_e, crR_n, crN_e, crN_n, ciR, ciL, ciD, ciN_e, ciN_n, rdI_e, rdI_n, rdC_i, rdC_o, rdW, rdU_e, rdU_n, rdLW, clI, clR, clC, clD, clW, clV, clN_e, clN_n, clL_e, clL_n] <;> first | assumption | rfl | omega)) ?_
          refine g_getI (kI := 8) rfl dX1_proofOf_42 fX1_101_3 (by first | assumption | first | assumption | (simp (disch := omega) only [shI, shR, shL, shC, shD, shW, sh_V, shN_e, shN_n, crI, crL, crC, crW, crV, crR_e, crR_n, crN_e, crN_n, ciR, ciL, ciD, ciN_e, ciN_n, rdI_e, rdI_n, rdC_i, rdC_o, rdW, rdU_e, rdU_n, rdLW, clI, clR, clC, clD, clW, clV, clN_e, clN_n, clL_e, clL_n]; done) | (simp (disch := omega) only [shI, shR, shL, shC, shD, shW, sh_V, shN_e, shN_n, crI, crL, crC, crW, crV, crR_e, crR_n, crN_e, crN_n, ciR, ciL, ciD, ciN_e, ciN_n, rdI_e, rdI_n, rdC_i, rdC_o, rdW, rdU_e, rdU_n, rdLW, clI, clR, clC, clD, clW, clV, clN_e, clN_n, clL_e, clL_n] <;> first | assumption | rfl | omega)) ?_
          try simp (disch := omega) only [rdI_e, rdI_n, rdC_i, rdC_o, rdW, rdR, rdU_e, rdU_n, rdLW, Int.add_zero, hg8]
          refine x_icmp_ge (tgt := 95) dX1_proofOf_45 (by decide) (fun hz45 => ?_) (fun hz45 => ?_)
          · exact hend hkf
          · refine x_iload_n dX1_proofOf_48 rfl rfl ?_
            refine x_iconst dX1_proofOf_49 rfl ?_
            refine x_icmp_ne (tgt := 95) dX1_proofOf_50 (by decide) (fun hz50 => ?_) (fun hz50 => ?_)
            · exact hend hkf
            · omega
        · have hk : k < v 0 := by omega
          have hf1 : f = -1 := by omega
          subst hf1
          have hf2 : tot = prfR v n ((v 0 - k) * P).toNat ((q * v 0 + k) * P) := by rcases hf with a | a <;> first | exact a.2 | exact absurd rfl a.1
          have hde := digV_ext (q := q) (k := k) (j := j) (o := v 0) (by omega) ⟨k0.1, hk⟩ hj0
          have hfig2 : 10 * fig + k + 1 = figR (digV (v 0) (q * v 0 + k) (j + 1)) (j + 1).toNat := by
            rw [show (j + 1).toNat = j.toNat + 1 by omega]
            show _ = 10 * figR (digV (v 0) (q * v 0 + k) (j + 1)) j.toNat + digV (v 0) (q * v 0 + k) (j + 1) (j.toNat : Int) + 1
            rw [show ((j.toNat : Nat) : Int) = j by omega, hde.2, figR_ext j.toNat (fun i i0 i1 => hde.1 i i0 (by omega)), ← hfig]
          have hih := ih (d - 1) (up g 59 j k) (j + 1) (q * v 0 + k) (10 * fig + k + 1) (by omega) (by omega) (by omega) (RSx.wr (M := wI M f0) hRx (g := up g 59 j k) (fun b i q1 q2 q3 q4 => (rdU_n (by omega)).trans (hg b i q4 q3 (by omega) q1))) ((rdU_n (by omega)).trans hg9) ((rdU_n (by omega)).trans hg8) (fun i i0 i1 => by
            by_cases z : i = j
            · rw [rdU_e ⟨rfl, z⟩, z]; exact hde.2.symm
            · rw [rdU_n (by omega), hg _ _ (by omega) (by omega) (by omega) (by omega), hpr i i0 (by omega)]
              exact (hde.1 i i0 (by omega)).symm) (fun i i0 i1 => by
            rw [rdU_n (by omega), hg _ _ (by omega) (by omega) (by omega) (by omega)]
            exact hpo i i0 i1) (by rw [rdU_n (by omega)]; exact hg4) (by rw [rdU_n (by omega)]; exact hg7) hfig2
          have hsp : ((v 0 - k) * P).toNat = P.toNat + ((v 0 - (k + 1)) * P).toNat := by
            have e1 : (v 0 - k) * P = P + (v 0 - (k + 1)) * P := by
              rw [show v 0 - k = 1 + (v 0 - (k + 1)) by omega, Int.add_mul, Int.one_mul]
            have e2 : 0 ≤ (v 0 - (k + 1)) * P := Int.mul_nonneg (by omega) (by omega)
            omega
          have hap := prfR_app hX P.toNat ((v 0 - (k + 1)) * P).toNat ((q * v 0 + k) * P)
          rw [← hsp, ← hf2, show (q * v 0 + k) * P + ((P.toNat : Nat) : Int) = (q * v 0 + (k + 1)) * P by rw [show q * v 0 + (k + 1) = q * v 0 + k + 1 by omega, Int.add_mul _ 1, Int.one_mul]; omega] at hap
          refine x_iload dX1_proofOf_36 rfl ?_
          refine x_aload_n dX1_proofOf_38 rfl rfl ?_
          refine g_getR (kI := 1) rfl dX1_proofOf_39 fX1_22_1 (by first | assumption | first | assumption | (simp (disch := omega) only [shI, shR, shL, shC, shD, shW, sh_V, shN_e, shN_n, crI, crL, crC, crW, crV, crR_e, crR_n, crN_e, crN_n, ciR, ciL, ciD, ciN_e, ciN_n, rdI_e, rdI_n, rdC_i, rdC_o, rdW, rdU_e, rdU_n, rdLW, clI, clR, clC, clD, clW, clV, clN_e, clN_n, clL_e, clL_n]; done) | (simp (disch := omega) only [shI, shR, shL, shC, shD, shW, sh_V, shN_e, shN_n, crI, crL, crC, crW, crV, crR_e, crR_n, crN_e, crN_n, ciR, ciL, ciD, ciN_e, ciN_n, rdI_e, rdI_n, rdC_i, rdC_o, rdW, rdU_e, rdU_n, rdLW, clI, clR, clC, clD, clW, clV, clN_e, clN_n, clL_e, clL_n] <;> first | assumption | rfl | omega)) (by first | assumption | first | assumption | (simp (disch := omega) only [shI, shR, shL, shC, shD, shW, sh_V, shN_e, shN_n, crI, crL, crC, crW, crV, crR_e, crR_n, crN_e, crN_n, ciR, ciL, ciD, ciN_e, ciN_n, rdI_e, rdI_n, rdC_i, rdC_o, rdW, rdU_e, rdU_n, rdLW, clI, clR, clC, clD, clW, clV, clN_e, clN_n, clL_e, clL_n]; done) | (simp (disch := omega) only [shI, shR, shL, shC, shD, shW, sh_V, shN_e, shN_n, crI, crL, crC, crW, crV, crR_e, crR_n, crN_e, crN_n, ciR, ciL, ciD, ciN_e, ciN_n, rdI_e, rdI_n, rdC_i, rdC_o, rdW, rdU_e, rdU_n, rdLW, clI, clR, clC, clD, clW, clV, clN_e, clN_n, clL_e, clL_n] <;> first | assumption | rfl | omega)) ?_
          refine g_getI (kI := 8) rfl dX1_proofOf_42 fX1_101_3 (by first | assumption | first | assumption | (simp (disch := omega) only [shI, shR, shL, shC, shD, shW, sh_V, shN_e, shN_n, crI, crL, crC, crW, crV, crR_e, crR_n, crN_e, crN_n, ciR, ciL, ciD, ciN_e, ciN_n, rdI_e, rdI_n, rdC_i, rdC_o, rdW, rdU_e, rdU_n, rdLW, clI, clR, clC, clD, clW, clV, clN_e, clN_n, clL_e, clL_n]; done) | (simp (disch := omega) only [shI, shR, shL, shC, shD, shW, sh_V, shN_e, shN_n, crI, crL, crC, crW, crV, crR_e, crR_n, crN_e, crN_n, ciR, ciL, ciD, ciN_e, ciN_n, rdI_e, rdI_n, rdC_i, rdC_o, rdW, rdU_e, rdU_n, rdLW, clI, clR, clC, clD, clW, clV, clN_e, clN_n, clL_e, clL_n] <;> first | assumption | rfl | omega)) ?_
          try simp (disch := omega) only [rdI_e, rdI_n, rdC_i, rdC_o, rdW, rdR, rdU_e, rdU_n, rdLW, Int.add_zero, hg8, hg9]
          refine x_icmp_ge (tgt := 95) dX1_proofOf_45 (by decide) (fun hz45 => ?_) (fun hz45 => ?_)
          · omega
          · refine x_iload_n dX1_proofOf_48 rfl rfl ?_
            refine x_iconst dX1_proofOf_49 rfl ?_
            refine x_icmp_ne (tgt := 95) dX1_proofOf_50 (by decide) (fun hz50 => ?_) (fun hz50 => ?_)
            · exact absurd rfl hz50
            · refine x_aload_n dX1_proofOf_53 rfl rfl ?_
              refine g_getR (kI := 1) rfl dX1_proofOf_54 fX1_22_1 (by first | assumption | first | assumption | (simp (disch := omega) only [shI, shR, shL, shC, shD, shW, sh_V, shN_e, shN_n, crI, crL, crC, crW, crV, crR_e, crR_n, crN_e, crN_n, ciR, ciL, ciD, ciN_e, ciN_n, rdI_e, rdI_n, rdC_i, rdC_o, rdW, rdU_e, rdU_n, rdLW, clI, clR, clC, clD, clW, clV, clN_e, clN_n, clL_e, clL_n]; done) | (simp (disch := omega) only [shI, shR, shL, shC, shD, shW, sh_V, shN_e, shN_n, crI, crL, crC, crW, crV, crR_e, crR_n, crN_e, crN_n, ciR, ciL, ciD, ciN_e, ciN_n, rdI_e, rdI_n, rdC_i, rdC_o, rdW, rdU_e, rdU_n, rdLW, clI, clR, clC, clD, clW, clV, clN_e, clN_n, clL_e, clL_n] <;> first | assumption | rfl | omega)) (by first | assumption | first | assumption | (simp (disch := omega) only [shI, shR, shL, shC, shD, shW, sh_V, shN_e, shN_n, crI, crL, crC, crW, crV, crR_e, crR_n, crN_e, crN_n, ciR, ciL, ciD, ciN_e, ciN_n, rdI_e, rdI_n, rdC_i, rdC_o, rdW, rdU_e, rdU_n, rdLW, clI, clR, clC, clD, clW, clV, clN_e, clN_n, clL_e, clL_n]; done) | (simp (disch := omega) only [shI, shR, shL, shC, shD, shW, sh_V, shN_e, shN_n, crI, crL, crC, crW, crV, crR_e, crR_n, crN_e, crN_n, ciR, ciL, ciD, ciN_e, ciN_n, rdI_e, rdI_n, rdC_i, rdC_o, rdW, rdU_e, rdU_n, rdLW, clI, clR, clC, clD, clW, clV, clN_e, clN_n, clL_e, clL_n] <;> first | assumption | rfl | omega)) ?_
              refine g_getR (kI := 4) rfl dX1_proofOf_57 fX1_293_3 (by first | assumption | first | assumption | (simp (disch := omega) only [shI, shR, shL, shC, shD, shW, sh_V, shN_e, shN_n, crI, crL, crC, crW, crV, crR_e, crR_n, crN_e, crN_n, ciR, ciL, ciD, ciN_e, ciN_n, rdI_e, rdI_n, rdC_i, rdC_o, rdW, rdU_e, rdU_n, rdLW, clI, clR, clC, clD, clW, clV, clN_e, clN_n, clL_e, clL_n]; done) | (simp (disch := omega) only [shI, shR, shL, shC, shD, shW, sh_V, shN_e, shN_n, crI, crL, crC, crW, crV, crR_e, crR_n, crN_e, crN_n, ciR, ciL, ciD, ciN_e, ciN_n, rdI_e, rdI_n, rdC_i, rdC_o, rdW, rdU_e, rdU_n, rdLW, clI, clR, clC, clD, clW, clV, clN_e, clN_n, clL_e, clL_n] <;> first | assumption | rfl | omega)) (by first | assumption | first | assumption | (simp (disch := omega) only [shI, shR, shL, shC, shD, shW, sh_V, shN_e, shN_n, crI, crL, crC, crW, crV, crR_e, crR_n, crN_e, crN_n, ciR, ciL, ciD, ciN_e, ciN_n, rdI_e, rdI_n, rdC_i, rdC_o, rdW, rdU_e, rdU_n, rdLW, clI, clR, clC, clD, clW, clV, clN_e, clN_n, clL_e, clL_n]; done) | (simp (disch := omega) only [shI, shR, shL, shC, shD, shW, sh_V, shN_e, shN_n, crI, crL, crC, crW, crV, crR_e, crR_n, crN_e, crN_n, ciR, ciL, ciD, ciN_e, ciN_n, rdI_e, rdI_n, rdC_i, rdC_o, rdW, rdU_e, rdU_n, rdLW, clI, clR, clC, clD, clW, clV, clN_e, clN_n, clL_e, clL_n] <;> first | assumption | rfl | omega)) ?_
              refine x_aload_n dX1_proofOf_60 rfl rfl ?_
              refine g_getR (kI := 1) rfl dX1_proofOf_61 fX1_22_1 (by first | assumption | first | assumption | (simp (disch := omega) only [shI, shR, shL, shC, shD, shW, sh_V, shN_e, shN_n, crI, crL, crC, crW, crV, crR_e, crR_n, crN_e, crN_n, ciR, ciL, ciD, ciN_e, ciN_n, rdI_e, rdI_n, rdC_i, rdC_o, rdW, rdU_e, rdU_n, rdLW, clI, clR, clC, clD, clW, clV, clN_e, clN_n, clL_e, clL_n]; done) | (simp (disch := omega) only [shI, shR, shL, shC, shD, shW, sh_V, shN_e, shN_n, crI, crL, crC, crW, crV, crR_e, crR_n, crN_e, crN_n, ciR, ciL, ciD, ciN_e, ciN_n, rdI_e, rdI_n, rdC_i, rdC_o, rdW, rdU_e, rdU_n, rdLW, clI, clR, clC, clD, clW, clV, clN_e, clN_n, clL_e, clL_n] <;> first | assumption | rfl | omega)) (by first | assumption | first | assumption | (simp (disch := omega) only [shI, shR, shL, shC, shD, shW, sh_V, shN_e, shN_n, crI, crL, crC, crW, crV, crR_e, crR_n, crN_e, crN_n, ciR, ciL, ciD, ciN_e, ciN_n, rdI_e, rdI_n, rdC_i, rdC_o, rdW, rdU_e, rdU_n, rdLW, clI, clR, clC, clD, clW, clV, clN_e, clN_n, clL_e, clL_n]; done) | (simp (disch := omega) only [shI, shR, shL, shC, shD, shW, sh_V, shN_e, shN_n, crI, crL, crC, crW, crV, crR_e, crR_n, crN_e, crN_n, ciR, ciL, ciD, ciN_e, ciN_n, rdI_e, rdI_n, rdC_i, rdC_o, rdW, rdU_e, rdU_n, rdLW, clI, clR, clC, clD, clW, clV, clN_e, clN_n, clL_e, clL_n] <;> first | assumption | rfl | omega)) ?_
              refine g_getI (kI := 9) rfl dX1_proofOf_64 fX1_272_3 (by first | assumption | first | assumption | (simp (disch := omega) only [shI, shR, shL, shC, shD, shW, sh_V, shN_e, shN_n, crI, crL, crC, crW, crV, crR_e, crR_n, crN_e, crN_n, ciR, ciL, ciD, ciN_e, ciN_n, rdI_e, rdI_n, rdC_i, rdC_o, rdW, rdU_e, rdU_n, rdLW, clI, clR, clC, clD, clW, clV, clN_e, clN_n, clL_e, clL_n]; done) | (simp (disch := omega) only [shI, shR, shL, shC, shD, shW, sh_V, shN_e, shN_n, crI, crL, crC, crW, crV, crR_e, crR_n, crN_e, crN_n, ciR, ciL, ciD, ciN_e, ciN_n, rdI_e, rdI_n, rdC_i, rdC_o, rdW, rdU_e, rdU_n, rdLW, clI, clR, clC, clD, clW, clV, clN_e, clN_n, clL_e, clL_n] <;> first | assumption | rfl | omega)) ?_
              try simp (disch := omega) only [rdI_e, rdI_n, rdC_i, rdC_o, rdW, rdR, rdU_e, rdU_n, rdLW, Int.add_zero, hg8, hg9]
              refine x_iconst dX1_proofOf_67 rfl ?_
              first | refine x_isubN dX1_proofOf_68 (by unfold i32; omega) ?_ | refine x_isub dX1_proofOf_68 ?_
              refine x_iload dX1_proofOf_69 rfl ?_
              rw [show j + 1 - 1 = j by omega]
              refine x_iast (by omega) dX1_proofOf_71 (by first | assumption | first | assumption | (simp (disch := omega) only [shI, shR, shL, shC, shD, shW, sh_V, shN_e, shN_n, crI, crL, crC, crW, crV, crR_e, crR_n, crN_e, crN_n, ciR, ciL, ciD, ciN_e, ciN_n, rdI_e, rdI_n, rdC_i, rdC_o, rdW, rdU_e, rdU_n, rdLW, clI, clR, clC, clD, clW, clV, clN_e, clN_n, clL_e, clL_n]; done) | (simp (disch := omega) only [shI, shR, shL, shC, shD, shW, sh_V, shN_e, shN_n, crI, crL, crC, crW, crV, crR_e, crR_n, crN_e, crN_n, ciR, ciL, ciD, ciN_e, ciN_n, rdI_e, rdI_n, rdC_i, rdC_o, rdW, rdU_e, rdU_n, rdLW, clI, clR, clC, clD, clW, clV, clN_e, clN_n, clL_e, clL_n] <;> first | assumption | rfl | omega)) (by omega) (by omega) ?_
              refine x_aload_n dX1_proofOf_72 rfl rfl ?_
              refine x_iload_n dX1_proofOf_73 rfl rfl ?_
              refine x_iconst dX1_proofOf_74 rfl ?_
              first | refine x_isubN dX1_proofOf_75 (by unfold i32; omega) ?_ | refine x_isub dX1_proofOf_75 ?_
              rw [show ((l + 1 : Nat) : Int) - 1 = (l : Int) by omega]
              refine x_bipush dX1_proofOf_76 rfl ?_
              refine x_iload_n dX1_proofOf_78 rfl rfl ?_
              first | refine x_imulN dX1_proofOf_79 (by unfold i32; omega) ?_ | refine x_imul dX1_proofOf_79 ?_
              refine x_iload dX1_proofOf_80 rfl ?_
              first | refine x_iaddN dX1_proofOf_82 (by unfold i32; omega) ?_ | refine x_iadd dX1_proofOf_82 ?_
              refine x_iconst dX1_proofOf_83 rfl ?_
              first | refine x_iaddN dX1_proofOf_84 (by unfold i32; omega) ?_ | refine x_iadd dX1_proofOf_84 ?_
              refine WP.mem (M1 := wI M (up g 59 j k)) rfl ?_
              refine g_callI (vs := [_, _, _]) (d' := d - 1) rfl (hih) dX1_proofOf_85 kX1_378 (by omega) (by decide) rfl (Nat.le_of_ble_eq_true rfl) (rcv_o (by first | assumption | first | assumption | (simp (disch := omega) only [shI, shR, shL, shC, shD, shW, sh_V, shN_e, shN_n, crI, crL, crC, crW, crV, crR_e, crR_n, crN_e, crN_n, ciR, ciL, ciD, ciN_e, ciN_n, rdI_e, rdI_n, rdC_i, rdC_o, rdW, rdU_e, rdU_n, rdLW, clI, clR, clC, clD, clW, clV, clN_e, clN_n, clL_e, clL_n]; done) | (simp (disch := omega) only [shI, shR, shL, shC, shD, shW, sh_V, shN_e, shN_n, crI, crL, crC, crW, crV, crR_e, crR_n, crN_e, crN_n, ciR, ciL, ciD, ciN_e, ciN_n, rdI_e, rdI_n, rdC_i, rdC_o, rdW, rdU_e, rdU_n, rdLW, clI, clR, clC, clD, clW, clV, clN_e, clN_n, clL_e, clL_n] <;> first | assumption | rfl | omega)) rfl) (fun x85 M85 h85 => ?_)
              obtain ⟨e85, g85, hM85, y85, z85, f85⟩ := h85
              subst hM85
              have hxr : ¬ prfR v n P.toNat ((q * v 0 + k) * P) = -1 → ¬ prfR v n P.toNat ((q * v 0 + k) * P) - 1000 * n = -1 := fun z1 z2 => by
                have := prfR_r (v := v) (n := n) (by omega) hn P.toNat ((q * v 0 + k) * P)
                have hge := prfR_ge (v := v) (n := n) (by omega) hn P.toNat ((q * v 0 + k) * P) z1
                omega
              refine x_istore_n (L' := [some _, some _, some _, some _, some _]) dX1_proofOf_88 rfl (by decide) rfl ?_
              first | refine x_iincN (L' := [some _, some _, some _, some _, some _]) dX1_proofOf_89 rfl (by decide) (by unfold i32; omega) rfl ?_ | refine x_iinc (L' := [some _, some _, some _, some _, some _]) dX1_proofOf_89 rfl (by decide) rfl ?_
              refine x_goto (tgt := 36) dX1_proofOf_92 (by decide) ?_
              refine WP.mem (M1 := wI M g85) rfl (ih1 _ (by omega) (k + 1) x85 g85 rfl (by omega) (fun b i q1 q2 q3 q4 => ?_) ?_ y85 z85 ?_)
              · rw [f85 b i q1 q2 (by omega), rdU_n (by omega)]
                exact hg b i q1 q2 q3 q4
              · rw [f85 _ _ (by omega) (by omega) (by omega), rdU_n (by omega)]
                exact hg9
              · rw [e85]
                by_cases zz : prfR v n P.toNat ((q * v 0 + k) * P) = -1
                · rw [if_pos zz] at hap ⊢
                  exact Or.inl ⟨rfl, hap⟩
                · rw [if_neg zz] at hap ⊢
                  exact Or.inr ⟨hxr zz, by rw [hap]; exact zz, by rw [hap]⟩
    refine x_iload_n dX1_proofOf_0 rfl rfl ?_
    refine x_if_ne (tgt := 18) dX1_proofOf_1 (by decide) (fun hz1 => ?_) (fun hz1 => ?_)
    · refine x_aload_n dX1_proofOf_18 rfl rfl ?_
      refine g_getR (kI := 1) rfl dX1_proofOf_19 fX1_22_1 (by first | assumption | first | assumption | (simp (disch := omega) only [shI, shR, shL, shC, shD, shW, sh_V, shN_e, shN_n, crI, crL, crC, crW, crV, crR_e, crR_n, crN_e, crN_n, ciR, ciL, ciD, ciN_e, ciN_n, rdI_e, rdI_n, rdC_i, rdC_o, rdW, rdU_e, rdU_n, rdLW, clI, clR, clC, clD, clW, clV, clN_e, clN_n, clL_e, clL_n]; done) | (simp (disch := omega) only [shI, shR, shL, shC, shD, shW, sh_V, shN_e, shN_n, crI, crL, crC, crW, crV, crR_e, crR_n, crN_e, crN_n, ciR, ciL, ciD, ciN_e, ciN_n, rdI_e, rdI_n, rdC_i, rdC_o, rdW, rdU_e, rdU_n, rdLW, clI, clR, clC, clD, clW, clV, clN_e, clN_n, clL_e, clL_n] <;> first | assumption | rfl | omega)) (by first | assumption | first | assumption | (simp (disch := omega) only [shI, shR, shL, shC, shD, shW, sh_V, shN_e, shN_n, crI, crL, crC, crW, crV, crR_e, crR_n, crN_e, crN_n, ciR, ciL, ciD, ciN_e, ciN_n, rdI_e, rdI_n, rdC_i, rdC_o, rdW, rdU_e, rdU_n, rdLW, clI, clR, clC, clD, clW, clV, clN_e, clN_n, clL_e, clL_n]; done) | (simp (disch := omega) only [shI, shR, shL, shC, shD, shW, sh_V, shN_e, shN_n, crI, crL, crC, crW, crV, crR_e, crR_n, crN_e, crN_n, ciR, ciL, ciD, ciN_e, ciN_n, rdI_e, rdI_n, rdC_i, rdC_o, rdW, rdU_e, rdU_n, rdLW, clI, clR, clC, clD, clW, clV, clN_e, clN_n, clL_e, clL_n] <;> first | assumption | rfl | omega)) ?_
      refine x_dup dX1_proofOf_22 rfl ?_
      refine g_getI (kI := 9) rfl dX1_proofOf_23 fX1_272_3 (by first | assumption | first | assumption | (simp (disch := omega) only [shI, shR, shL, shC, shD, shW, sh_V, shN_e, shN_n, crI, crL, crC, crW, crV, crR_e, crR_n, crN_e, crN_n, ciR, ciL, ciD, ciN_e, ciN_n, rdI_e, rdI_n, rdC_i, rdC_o, rdW, rdU_e, rdU_n, rdLW, clI, clR, clC, clD, clW, clV, clN_e, clN_n, clL_e, clL_n]; done) | (simp (disch := omega) only [shI, shR, shL, shC, shD, shW, sh_V, shN_e, shN_n, crI, crL, crC, crW, crV, crR_e, crR_n, crN_e, crN_n, ciR, ciL, ciD, ciN_e, ciN_n, rdI_e, rdI_n, rdC_i, rdC_o, rdW, rdU_e, rdU_n, rdLW, clI, clR, clC, clD, clW, clV, clN_e, clN_n, clL_e, clL_n] <;> first | assumption | rfl | omega)) ?_
      rw [show mci (wI M f0) 54 9 = j from h9]
      refine x_iconst dX1_proofOf_26 rfl ?_
      first | refine x_iaddN dX1_proofOf_27 (by unfold i32; omega) ?_ | refine x_iadd dX1_proofOf_27 ?_
      refine g_putI (kI := 9) rfl dX1_proofOf_28 fX1_272_3 (by first | assumption | first | assumption | (simp (disch := omega) only [shI, shR, shL, shC, shD, shW, sh_V, shN_e, shN_n, crI, crL, crC, crW, crV, crR_e, crR_n, crN_e, crN_n, ciR, ciL, ciD, ciN_e, ciN_n, rdI_e, rdI_n, rdC_i, rdC_o, rdW, rdU_e, rdU_n, rdLW, clI, clR, clC, clD, clW, clV, clN_e, clN_n, clL_e, clL_n]; done) | (simp (disch := omega) only [shI, shR, shL, shC, shD, shW, sh_V, shN_e, shN_n, crI, crL, crC, crW, crV, crR_e, crR_n, crN_e, crN_n, ciR, ciL, ciD, ciN_e, ciN_n, rdI_e, rdI_n, rdC_i, rdC_o, rdW, rdU_e, rdU_n, rdLW, clI, clR, clC, clD, clW, clV, clN_e, clN_n, clL_e, clL_n] <;> first | assumption | rfl | omega)) ?_
      refine x_iconst dX1_proofOf_31 rfl ?_
      refine x_istore_n (L' := [some _, some _, some _, some _, none]) dX1_proofOf_32 rfl (by decide) rfl ?_
      refine x_iconst dX1_proofOf_33 rfl ?_
      refine x_istore (L' := [some _, some _, some _, some _, some _]) dX1_proofOf_34 (by decide) rfl ?_
      refine WP.mem (M1 := wI M (up f0 54 9 (j + 1))) rfl (lp _ 0 (-1) (up f0 54 9 (j + 1)) rfl (by omega) (fun b i q1 q2 q3 q4 => rdU_n q4) (rdU_e ⟨rfl, rfl⟩) (by rw [rdU_n (by omega)]; exact h4) (by rw [rdU_n (by omega)]; exact h7) (Or.inl ⟨rfl, ?_⟩))
      rw [← hTot, show v 0 - 0 = v 0 by omega, show q * v 0 + 0 = q * v 0 by omega, Int.mul_assoc]
    · omega
end X1

