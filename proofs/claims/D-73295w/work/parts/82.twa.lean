/-! GuestViewModel: acts -/
/-- what is remembered -/
def ActsOk (f : Ci) (m n : Int) (A : Int → Vw) : Prop := f m 7 = n ∧ (0 ≤ n ∧ n ≤ 12) ∧ ∀ r k, 0 ≤ r → r < n → 0 ≤ k → k < 368 → f (m + 5) (368 * r + k) = A r k
def remN (n : Int) : Int := if n = 12 then 12 else n + 1
def remA (A : Int → Vw) (n : Int) (v : Vw) : Int → Vw := fun r => if r = remN n - 1 then v else if n = 12 then A (r + 1) else A r
/-- the rest of what lasts: the image, the tape, the last fault -/
def RestOk (f : Ci) (m hi : Int) (vi : Vw) (tp : Int → Int) (sz fa : Int) : Prop := (f m 6 = hi ∧ (hi = 0 ∨ hi = 1)) ∧ (hi = 1 → ∀ k, 0 ≤ k → k < 1217 → f (m + 2) k = vi k) ∧ f (m + 6) = tp ∧ (f m 9 = sz ∧ 0 ≤ sz ∧ sz ≤ 400) ∧ f m 14 = fa
/-- all that lasts of the reference -/
def TI (M : Mem) (m : Int) (v : Vw) (n : Int) (A : Int → Vw) (hi : Int) (vi : Vw) (tp : Int → Int) (sz fa : Int) : Prop := TP M m v ∧ ActsOk (mci M) m n A ∧ RestOk (mci M) m hi vi tp sz fa
/-- nothing else is touched -/
def TR (m : Int) (M M1 : Mem) : Prop := ∃ g l, M1 = wL M g l ∧ (∀ a k, ¬ (m ≤ a ∧ a ≤ m + 15) → g a k = mci M a k) ∧ ∀ a k, ¬ (m ≤ a ∧ a ≤ m + 15) → l a k = mcl M a k
theorem ActsOk.at {f g : Ci} {m n : Int} {A : Int → Vw} (h : ActsOk f m n A) (h7 : g m 7 = f m 7) (h5 : ∀ k, g (m + 5) k = f (m + 5) k) : ActsOk g m n A := ⟨h7.trans h.1, h.2.1, fun r k a b c d => (h5 _).trans (h.2.2 r k a b c d)⟩
theorem RestOk.at {f g : Ci} {m hi sz fa : Int} {vi : Vw} {tp : Int → Int} (h : RestOk f m hi vi tp sz fa) (h1 : ∀ k, k = 6 ∨ k = 9 ∨ k = 14 → g m k = f m k) (h2 : ∀ a k, a = m + 2 ∨ a = m + 6 → g a k = f a k) : RestOk g m hi vi tp sz fa := by
  obtain ⟨⟨a1, a2⟩, b, c, ⟨d1, d2⟩, e⟩ := h
  exact ⟨⟨(h1 6 (by omega)).trans a1, a2⟩, fun q k k0 k1 => (h2 _ _ (by omega)).trans (b q k k0 k1), (funext fun k => h2 _ _ (by omega)).trans c, ⟨(h1 9 (by omega)).trans d1, d2⟩, (h1 14 (by omega)).trans e⟩
theorem TP.wL {M : Mem} {m : Int} {v v' : Vw} {g l : Ci} (h : TP M m v) (hw : g (m + 1) = v') (hA : okA v') (hL : lawOK v') (hK : KnOk g l m) (hs : sk01 g m) : TP (wL M g l) m v' := ⟨h.1, hw, hA, hL, hK, hs⟩
/-- a call that only asks keeps all that lasts -/
theorem TI.rd {M M1 : Mem} {m n hi sz fa c : Int} {v vi : Vw} {A : Int → Vw} {tp : Int → Int} (h : TI M m v n A hi vi tp sz fa) (hr : RD M m c M1) : TI M1 m v n A hi vi tp sz fa ∧ TR m M M1 ∧ mci M1 m 0 = c := by
  obtain ⟨⟨p1, p2, p3, p4, p5, p6⟩, hacts, hrest⟩ := h
  obtain ⟨g, l, e, h0, hg, hl, hK, hs⟩ := hr
  subst e
  have hg' : ∀ a k, (a = m ∧ (k = 6 ∨ k = 7 ∨ k = 9 ∨ k = 14)) ∨ a = m + 1 ∨ a = m + 2 ∨ a = m + 5 ∨ a = m + 6 → g a k = mci M a k := fun a k q => hg a k (by omega) (by unfold scr; omega) (by omega) (by omega) (by omega) (by omega) (by omega) (by omega)
  refine ⟨⟨⟨p1, (funext fun k => hg' _ _ (by omega)).trans p2, p3, p4, hK, hs⟩, hacts.at (hg' _ _ (by omega)) (fun k => hg' _ _ (by omega)), hrest.at (fun k q => hg' _ _ (by omega)) (fun a k q => hg' _ _ (by omega))⟩, ⟨g, l, rfl, fun a k q => hg a k (by omega) (by unfold scr; omega) (by omega) (by omega) (by omega) (by omega) (by omega) (by omega), fun a k q => hl a k (by omega) (by omega)⟩, h0⟩
section X8
variable {G : GW} {d : Nat} {M : Mem} {m a b c p k i what n st pc op hi sz fa : Int} {v vi : Vw} {A : Int → Vw} {tp : Int → Int}
theorem s_X8_remembers (hd : 10 ≤ d) (hT : TwS (msh M) (mcr M) m) (hw : mci M (m + 1) = v) (hacts : ActsOk (mci M) m n A) : CS G d mX8_remembers [dR m] M (postN fun M1 => ∃ g, M1 = wI M g ∧ ActsOk g m (remN n) (remA A n v) ∧ ∀ a k, ¬ (a = m ∧ k = 7) → ¬ a = m + 5 → g a k = mci M a k) := by
  have hT_ := hT; obtain ⟨p0, p1, ⟨c1, c2, c3, c4, c5, c6, c7, c8, c9, c10, c11, c12, c13, c14, c15⟩, ⟨t1, t2, t3, t4, t5, t6, t7, t8, t9, t10, t11, t12, t13, t14, t15⟩⟩ := hT_
  obtain ⟨hn, hn2, hA⟩ := hacts
  refine CS.mkQ (by decide) (Nat.le_of_ble_eq_true rfl) fun Q hQ => ?_
  have last : ∀ (M0 : Mem) (hT0 : TwS (msh M0) (mcr M0) m), (∃ g, M0 = wI M g ∧ g m 7 = remN n ∧ (∀ r k, 0 ≤ r → r < remN n - 1 → 0 ≤ k → k < 368 → g (m + 5) (368 * r + k) = remA A n v r k) ∧ ∀ a k, ¬ (a = m ∧ k = 7) → ¬ a = m + 5 → g a k = mci M a k) → WP G d mX8_remembers 53 [some (dR m), none] [] M0 Q := by
    intro M0 hT0 hM0
    obtain ⟨g, rfl, h7, hrow, hfr⟩ := hM0
    have hr : 1 ≤ remN n ∧ remN n ≤ 12 := by unfold remN; split <;> omega
    have hw0 : g (m + 1) = v := (funext fun k => hfr _ _ (by omega) (by omega)).trans hw
    have loop : ∀ (t : Nat) (k : Int), (368 - k).toNat = t → (0 ≤ k) → (k ≤ 368) → WP G d mX8_remembers 55 [some (dR m), some (dI k)] [] (mC (wI M g) (m + 1) 0 (m + 5) (368 * (remN n - 1)) k) Q := by
      intro t
      induction t using Nat.strongRecOn with
      | _ t ih =>
        intro k ht h0 h1
        refine x_iload_n dX8_remembers_55 rfl rfl ?_
        refine x_sipush dX8_remembers_56 rfl ?_
        refine x_icmp_ge (tgt := 91) dX8_remembers_59 (by decide) (fun h59 => ?_) (fun h59 => ?_)
        · refine x_vreturn rfl dX8_remembers_91 ?_
          have hk : k = 368 := by omega
          subst hk
          refine hQ _ _ ⟨rfl, mci (mC (wI M g) (m + 1) 0 (m + 5) (368 * (remN n - 1)) 368), rfl, ⟨(rdC_o (by omega)).trans h7, by omega, fun r k r0 r1 k0 k1 => ?_⟩, fun a k q1 q2 => (rdC_o (by omega)).trans (hfr a k q1 q2)⟩
          by_cases e : r = remN n - 1
          · subst e
            refine (rdC_i (by omega)).trans ?_
            refine (congrFun hw0 _).trans ?_
            unfold remA
            rw [if_pos rfl]
            exact congrArg v (by omega)
          · exact (rdC_o (by omega)).trans (hrow r k r0 (by omega) k0 k1)
        · refine x_aload_n dX8_remembers_62 rfl rfl ?_
          refine g_getR (kI := 5) rfl dX8_remembers_63 fX8_26_8 (by first | assumption | exact hT.2.1) (by first | assumption | exact hT.2.1) ?_
          refine x_sipush dX8_remembers_66 rfl ?_
          refine x_aload_n dX8_remembers_69 rfl rfl ?_
          refine g_getI (kI := 7) rfl dX8_remembers_70 fX8_71_8 (by first | assumption | exact hT.2.1) ?_
          try simp (disch := omega) only [rdI_e, rdI_n, rdC_i, rdC_o, rdW, rdR, rdU_e, rdU_n, rdLW, Int.add_zero, h7]
          refine x_iconst dX8_remembers_73 rfl ?_
          first | refine x_isubN dX8_remembers_74 (by unfold i32; omega) ?_ | refine x_isub dX8_remembers_74 ?_
          first | refine x_imulN dX8_remembers_75 (by unfold i32; omega) ?_ | refine x_imul dX8_remembers_75 ?_
          refine x_iload_n dX8_remembers_76 rfl rfl ?_
          first | refine x_iaddN dX8_remembers_77 (by unfold i32; omega) ?_ | refine x_iadd dX8_remembers_77 ?_
          refine x_aload_n dX8_remembers_78 rfl rfl ?_
          refine g_getR (kI := 1) rfl dX8_remembers_79 fX8_13_8 (by first | assumption | exact hT.2.1) (by first | assumption | exact hT.2.1) ?_
          refine x_iload_n dX8_remembers_82 rfl rfl ?_
          refine x_iald dX8_remembers_83 (by first | assumption | exact hT.2.1) (by omega) (by omega) ?_
          try simp (disch := omega) only [rdI_e, rdI_n, rdC_i, rdC_o, rdW, rdR, rdU_e, rdU_n, rdLW, Int.add_zero, h7]
          refine x_iast (by omega) dX8_remembers_84 (by first | assumption | exact hT.2.1) (by omega) (by omega) ?_
          first | refine x_iincN (L' := [some _, some _]) dX8_remembers_85 rfl (by decide) (by unfold i32; omega) rfl ?_ | refine x_iinc (L' := [some _, some _]) dX8_remembers_85 rfl (by decide) rfl ?_
          refine x_goto (tgt := 55) dX8_remembers_88 (by decide) ?_
          exact WP.mem (mC_s (by omega) (congrArg _ (by omega)) rfl) (ih _ (by omega) (k + 1) rfl (by omega) (by omega))
    refine x_iconst dX8_remembers_53 rfl ?_
    refine x_istore_n (L' := [some _, some _]) dX8_remembers_54 rfl (by decide) rfl ?_
    exact WP.mem mC_0.symm (loop _ 0 rfl (by omega) (by omega))
  by_cases h12 : n = 12
  · subst h12
    have loop : ∀ (t : Nat) (k : Int), (4048 - k).toNat = t → (0 ≤ k) → (k ≤ 4048) → WP G d mX8_remembers 11 [some (dR m), some (dI k)] [] (mC M (m + 5) 368 (m + 5) 0 k) Q := by
      intro t
      induction t using Nat.strongRecOn with
      | _ t ih =>
        intro k ht h0 h1
        refine x_iload_n dX8_remembers_11 rfl rfl ?_
        refine x_sipush dX8_remembers_12 rfl ?_
        refine x_icmp_ge (tgt := 40) dX8_remembers_15 (by decide) (fun h15 => ?_) (fun h15 => ?_)
        · refine x_goto (tgt := 53) dX8_remembers_40 (by decide) ?_
          have hk : k = 4048 := by omega
          subst hk
          refine x_fgt (L' := [some (dR m), none]) (by simp [subL]) (last _ hT ⟨mci (mC M (m + 5) 368 (m + 5) 0 4048), rfl, (rdC_o (by omega)).trans hn, fun r k r0 r1 k0 k1 => ?_, fun a k q1 q2 => rdC_o (by omega)⟩)
          have er : remN 12 = 12 := rfl
          rw [er] at r1
          refine (rdC_i (by omega)).trans ?_
          unfold remA
          rw [er, if_neg (by omega), if_pos rfl]
          exact (congrArg _ (by omega)).trans (hA (r + 1) k (by omega) (by omega) k0 k1)
        · refine x_aload_n dX8_remembers_18 rfl rfl ?_
          refine g_getR (kI := 5) rfl dX8_remembers_19 fX8_26_8 (by first | assumption | exact hT.2.1) (by first | assumption | exact hT.2.1) ?_
          refine x_iload_n dX8_remembers_22 rfl rfl ?_
          refine x_aload_n dX8_remembers_23 rfl rfl ?_
          refine g_getR (kI := 5) rfl dX8_remembers_24 fX8_26_8 (by first | assumption | exact hT.2.1) (by first | assumption | exact hT.2.1) ?_
          refine x_iload_n dX8_remembers_27 rfl rfl ?_
          refine x_sipush dX8_remembers_28 rfl ?_
          first | refine x_iaddN dX8_remembers_31 (by unfold i32; omega) ?_ | refine x_iadd dX8_remembers_31 ?_
          refine x_iald dX8_remembers_32 (by first | assumption | exact hT.2.1) (by omega) (by omega) ?_
          try simp (disch := omega) only [rdI_e, rdI_n, rdC_i, rdC_o, rdW, rdR, rdU_e, rdU_n, rdLW, Int.add_zero]
          refine x_iast (by omega) dX8_remembers_33 (by first | assumption | exact hT.2.1) (by omega) (by omega) ?_
          first | refine x_iincN (L' := [some _, some _]) dX8_remembers_34 rfl (by decide) (by unfold i32; omega) rfl ?_ | refine x_iinc (L' := [some _, some _]) dX8_remembers_34 rfl (by decide) rfl ?_
          refine x_goto (tgt := 11) dX8_remembers_37 (by decide) ?_
          exact WP.mem (mC_s (by omega) (congrArg _ (by omega)) (by omega)) (ih _ (by omega) (k + 1) rfl (by omega) (by omega))
    refine x_aload_n dX8_remembers_0 rfl rfl ?_
    refine g_getI (kI := 7) rfl dX8_remembers_1 fX8_71_8 (by first | assumption | exact hT.2.1) ?_
    try simp (disch := omega) only [rdI_e, rdI_n, rdC_i, rdC_o, rdW, rdR, rdU_e, rdU_n, rdLW, Int.add_zero, hn]
    refine x_bipush dX8_remembers_4 rfl ?_
    refine x_icmp_ne (tgt := 43) dX8_remembers_6 (by decide) (fun h6 => ?_) (fun h6 => ?_)
    · exact absurd rfl h6
    · refine x_iconst dX8_remembers_9 rfl ?_
      refine x_istore_n (L' := [some _, some _]) dX8_remembers_10 rfl (by decide) rfl ?_
      exact WP.mem mC_0.symm (loop _ 0 rfl (by omega) (by omega))
  · refine x_aload_n dX8_remembers_0 rfl rfl ?_
    refine g_getI (kI := 7) rfl dX8_remembers_1 fX8_71_8 (by first | assumption | exact hT.2.1) ?_
    try simp (disch := omega) only [rdI_e, rdI_n, rdC_i, rdC_o, rdW, rdR, rdU_e, rdU_n, rdLW, Int.add_zero, hn]
    refine x_bipush dX8_remembers_4 rfl ?_
    refine x_icmp_ne (tgt := 43) dX8_remembers_6 (by decide) (fun h6 => ?_) (fun h6 => ?_)
    · refine x_aload_n dX8_remembers_43 rfl rfl ?_
      refine x_dup dX8_remembers_44 rfl ?_
      refine g_getI (kI := 7) rfl dX8_remembers_45 fX8_71_8 (by first | assumption | exact hT.2.1) ?_
      try simp (disch := omega) only [rdI_e, rdI_n, rdC_i, rdC_o, rdW, rdR, rdU_e, rdU_n, rdLW, Int.add_zero, hn]
      refine x_iconst dX8_remembers_48 rfl ?_
      first | refine x_iaddN dX8_remembers_49 (by unfold i32; omega) ?_ | refine x_iadd dX8_remembers_49 ?_
      refine g_putI (kI := 7) rfl dX8_remembers_50 fX8_71_8 (by first | assumption | exact hT.2.1) ?_
      refine last _ hT ⟨mci (mI M m 7 (n + 1)), rfl, (rdI_e ⟨rfl, rfl⟩).trans (if_neg h12).symm, fun r k r0 r1 k0 k1 => ?_, fun a k q1 q2 => rdI_n (by omega)⟩
      have er : remN n = n + 1 := if_neg h12
      rw [er] at r1
      refine (rdI_n (by omega)).trans ?_
      unfold remA
      rw [er, if_neg (by omega), if_neg h12]
      exact hA r k r0 (by omega) k0 k1
    · omega
/-- what an act leaves: another bench, one more is remembered -/
def AC (M : Mem) (m n : Int) (A : Int → Vw) (v v' : Vw) (M1 : Mem) : Prop := ∃ g l, M1 = wL M g l ∧ g m 0 = 0 ∧ g (m + 1) = v' ∧ ActsOk g m (remN n) (remA A n v) ∧ (∀ a k, ¬ (a = m ∧ k = 0) → ¬ a = m + 1 → ¬ (a = m ∧ k = 7) → ¬ a = m + 5 → ¬ scr m a k → ¬ a = m + 3 → ¬ a = m + 4 → ¬ a = m + 10 → ¬ a = m + 13 → ¬ a = m + 14 → ¬ (a = m ∧ 10 ≤ k ∧ k ≤ 13) → g a k = mci M a k) ∧ TM m (mcl M) l ∧ KnOk g l m ∧ sk01 g m
theorem AC.ti {M M1 : Mem} {v' : Vw} (h : TI M m v n A hi vi tp sz fa) (ha : AC M m n A v v' M1) (hA : okA v') (hL : lawOK v') : TI M1 m v' (remN n) (remA A n v) hi vi tp sz fa ∧ TR m M M1 ∧ mci M1 m 0 = 0 := by
  obtain ⟨⟨p1, p2, p3, p4, p5, p6⟩, hacts, hrest⟩ := h
  obtain ⟨g, l, e, h0, hw, ha, hg, hl, hK, hs⟩ := ha
  subst e
  have hg' : ∀ a k, (a = m ∧ (k = 6 ∨ k = 9 ∨ k = 14)) ∨ a = m + 2 ∨ a = m + 6 → g a k = mci M a k := fun a k q => hg a k (by omega) (by omega) (by omega) (by omega) (by unfold scr; omega) (by omega) (by omega) (by omega) (by omega) (by omega) (by omega)
  refine ⟨⟨⟨p1, hw, hA, hL, hK, hs⟩, ha, hrest.at (fun k q => hg' _ _ (by omega)) (fun a k q => hg' _ _ (by omega))⟩, ⟨g, l, rfl, fun a k q => hg a k (by omega) (by omega) (by omega) (by omega) (by unfold scr; omega) (by omega) (by omega) (by omega) (by omega) (by omega) (by omega), fun a k q => hl a k (by omega) (by omega)⟩, h0⟩
theorem s_X8_isTuned {x : Int} (hd : 12 ≤ d) (hT : TwS (msh M) (mcr M) m) (hw : mci M (m + 1) = v) (hacts : ActsOk (mci M) m n A) (hk : 0 ≤ k ∧ k < 368) : CS G d mX8_isTuned [dR m, dI k, dI x] M (postI fun y M1 => y = v k ∧ ∃ g, M1 = wI M g ∧ g (m + 1) = bootV (us v k x) ∧ ActsOk g m (remN n) (remA A n v) ∧ ∀ a j, ¬ (a = m ∧ j = 7) → ¬ a = m + 5 → ¬ a = m + 1 → g a j = mci M a j) := by
  have hT_ := hT; obtain ⟨p0, p1, ⟨c1, c2, c3, c4, c5, c6, c7, c8, c9, c10, c11, c12, c13, c14, c15⟩, ⟨t1, t2, t3, t4, t5, t6, t7, t8, t9, t10, t11, t12, t13, t14, t15⟩⟩ := hT_
  refine CS.mkQ (by decide) (Nat.le_of_ble_eq_true rfl) fun Q hQ => ?_
  refine x_aload_n dX8_isTuned_0 rfl rfl ?_
  refine g_callN (vs := [_]) (d' := d - 1) rfl (s_X8_remembers (by omega) hT (by first | exact hw | exact mciI (by omega) hw | exact mciI (by omega) (mciI (by omega) hw) | exact mciI (by omega) (mciI (by omega) (mciI (by omega) hw)) | exact mciI (by omega) (mciI (by omega) (mciI (by omega) (mciI (by omega) hw))) | exact mciC (by omega) hw) hacts) dX8_isTuned_1 kX8_439 (by omega) (by decide) rfl (Nat.le_of_ble_eq_true rfl) (rcv_o (by first | assumption | exact hT.2.1) rfl) (fun M1 h1 => ?_)
  obtain ⟨g1, hM1, hacts, q1⟩ := h1
  subst hM1
  have hw : g1 (m + 1) = v := (funext fun j => q1 _ _ (by omega) (by omega)).trans hw
  refine x_aload_n dX8_isTuned_4 rfl rfl ?_
  refine g_getR (kI := 1) rfl dX8_isTuned_5 fX8_13_8 (by first | assumption | exact hT.2.1) (by first | assumption | exact hT.2.1) ?_
  refine x_iload_n dX8_isTuned_8 rfl rfl ?_
  refine x_iald dX8_isTuned_9 (by first | assumption | exact hT.2.1) (by omega) (by omega) ?_
  try simp (disch := omega) only [rdI_e, rdI_n, rdC_i, rdC_o, rdW, rdR, rdU_e, rdU_n, rdLW, Int.add_zero, hw]
  refine x_istore_n (L' := [some _, some _, some _, some _]) dX8_isTuned_10 rfl (by decide) rfl ?_
  refine x_aload_n dX8_isTuned_11 rfl rfl ?_
  refine g_getR (kI := 1) rfl dX8_isTuned_12 fX8_13_8 (by first | assumption | exact hT.2.1) (by first | assumption | exact hT.2.1) ?_
  refine x_iload_n dX8_isTuned_15 rfl rfl ?_
  refine x_iload_n dX8_isTuned_16 rfl rfl ?_
  refine x_iast (by omega) dX8_isTuned_17 (by first | assumption | exact hT.2.1) (by omega) (by omega) ?_
  refine x_aload_n dX8_isTuned_18 rfl rfl ?_
  refine g_callN (vs := [_]) (d' := d - 1) rfl (s_X8_bothBoot (by omega) hT (mciIs (M := wI M g1) hw)) dX8_isTuned_19 kX8_64 (by omega) (by decide) rfl (Nat.le_of_ble_eq_true rfl) (rcv_o (by first | assumption | exact hT.2.1) rfl) (fun M19 h19 => ?_)
  obtain ⟨g19, hM19, r19, q19⟩ := h19
  refine x_iload_n dX8_isTuned_22 rfl rfl ?_
  refine x_ireturn rfl dX8_isTuned_23 ?_
  subst hM19
  refine hQ _ _ ⟨_, rfl, rfl, g19, rfl, r19, hacts.at ((q19 _ _ (by omega)).trans (rdI_n (by omega))) (fun j => (q19 _ _ (by omega)).trans (rdI_n (by omega))), fun a j x1 x2 x3 => (q19 a j x3).trans ((rdI_n (by omega)).trans (q1 a j x1 x2))⟩
theorem AC.tuned {M : Mem} {g : Ci} {v' : Vw} (hP : TP M m v) (hw : g (m + 1) = v') (ha : ActsOk g m (remN n) (remA A n v)) (hg : ∀ a j, ¬ (a = m ∧ j = 7) → ¬ a = m + 5 → ¬ a = m + 1 → g a j = mci (mI M m 0 0) a j) : AC M m n A v v' (wI M g) := by
  have hP0 := hP.z (x := 0)
  refine ⟨g, mcl M, rfl, (hg _ _ (by omega) (by omega) (by omega)).trans (rdI_e ⟨rfl, rfl⟩), hw, ha, fun a k q1 q2 q3 q4 _ _ _ _ _ _ _ => (hg a k q3 q4 q2).trans (rdI_n q1), TM.rfl, KnOk.at hP0.2.2.2.2.1 (fun p => hg _ _ (by omega) (by omega) (by omega)) (fun p => rfl), ?_⟩
  have := hP0.2.2.2.2.2
  unfold sk01 at this ⊢
  rw [hg _ _ (by omega) (by omega) (by omega)]
  exact this
theorem ActsOk.z {f : Ci} {m n x : Int} {A : Int → Vw} (h : ActsOk f m n A) : ActsOk (up f m 0 x) m n A := h.at (rdU_n (by omega)) fun k => rdU_n (by omega)
theorem s_X8_isFigure {x mo : Int} (hd : 13 ≤ d) (hP : TP M m v) (hacts : ActsOk (mci M) m n A) (hk : 0 ≤ k ∧ k < 368) : CS G d mX8_isFigure [dR m, dI k, dI x, dI mo] M (postI fun y M1 => (0 ≤ x ∧ x ≤ mo → y = v k ∧ AC M m n A v (bootV (us v k x)) M1) ∧ (¬ (0 ≤ x ∧ x ≤ mo) → RD M m 1 M1)) := by
  obtain ⟨hT, hw, hA, hL, hK, hsk⟩ := id hP
  have hT_ := hT; obtain ⟨p0, p1, ⟨c1, c2, c3, c4, c5, c6, c7, c8, c9, c10, c11, c12, c13, c14, c15⟩, ⟨t1, t2, t3, t4, t5, t6, t7, t8, t9, t10, t11, t12, t13, t14, t15⟩⟩ := hT_
  refine CS.mkQ (by decide) (Nat.le_of_ble_eq_true rfl) fun Q hQ => ?_
  refine x_aload_n dX8_isFigure_0 rfl rfl ?_
  refine x_iconst dX8_isFigure_1 rfl ?_
  refine g_putI (kI := 0) rfl dX8_isFigure_2 fX8_3_8 (by first | assumption | exact hT.2.1) ?_
  refine x_aload_n dX8_isFigure_5 rfl rfl ?_
  refine x_iload_n dX8_isFigure_6 rfl rfl ?_
  refine x_iconst dX8_isFigure_7 rfl ?_
  refine x_iload_n dX8_isFigure_8 rfl rfl ?_
  refine g_callI (vs := [_, _, _]) (d' := d - 1) rfl (s_X8_in (by omega)) dX8_isFigure_9 kX8_88 (by omega) (by decide) rfl (Nat.le_of_ble_eq_true rfl) (rcv_n) (fun x9 M9 h9 => ?_)
  obtain ⟨e9, f9⟩ := h9
  have f9' := f9.symm
  subst f9'
  subst e9
  refine x_if_ne (tgt := 19) dX8_isFigure_12 (by decide) (fun h12 => ?_) (fun h12 => ?_)
  · try simp only [vP_0, vP_1, vP_n0, vP_n1, Classical.not_not] at h12
    refine x_iconst dX8_isFigure_19 rfl ?_
    refine x_iconst dX8_isFigure_20 rfl ?_
    refine g_callI (vs := [_, _, _]) (d' := d - 1) rfl (s_X8_throwsIf (by omega) hT (by first | omega | exact vP_r _)) dX8_isFigure_21 kX8_280 (by omega) (by decide) rfl (Nat.le_of_ble_eq_true rfl) (rcv_o (by first | assumption | exact hT.2.1) rfl) (fun x21 M21 h21 => ?_)
    obtain ⟨e21, r21, f21⟩ := h21
    have f21' := (f21.1 (by omega)).symm
    subst f21'
    subst e21
    refine x_if_eq (tgt := 31) dX8_isFigure_24 (by decide) (fun h24 => ?_) (fun h24 => ?_)
    · try simp only [vP_0, vP_1, vP_n0, vP_n1, Classical.not_not] at h24
      refine x_aload_n dX8_isFigure_31 rfl rfl ?_
      refine x_iload_n dX8_isFigure_32 rfl rfl ?_
      refine x_iload_n dX8_isFigure_33 rfl rfl ?_
      refine g_callI (vs := [_, _, _]) (d' := d - 1) rfl (s_X8_isTuned (M := mI M m 0 0) (by omega) hT (mciI (by omega) hw) (ActsOk.z hacts) hk) dX8_isFigure_34 kX8_446 (by omega) (by decide) rfl (Nat.le_of_ble_eq_true rfl) (rcv_o (by first | assumption | exact hT.2.1) rfl) (fun x34 M34 h34 => ?_)
      obtain ⟨e34, g34, hM34, r34, ha34, q34⟩ := h34
      refine x_ireturn rfl dX8_isFigure_37 ?_
      first
      | (refine hQ _ _ ⟨_, rfl, fun _ => ⟨e34, ?_⟩, fun q => absurd (by omega) q⟩
         rw [hM34]
         exact AC.tuned hP r34 ha34 q34)
      | exact hQ _ _ ⟨_, rfl, fun q => absurd q (by omega), fun _ => RD.t hP⟩
    · exact absurd h24 (by decide)
  · try simp only [vP_0, vP_1, vP_n0, vP_n1, Classical.not_not] at h12
    refine x_iconst dX8_isFigure_15 rfl ?_
    refine x_goto (tgt := 20) dX8_isFigure_16 (by decide) ?_
    refine x_iconst dX8_isFigure_20 rfl ?_
    refine g_callI (vs := [_, _, _]) (d' := d - 1) rfl (s_X8_throwsIf (by omega) hT (by first | omega | exact vP_r _)) dX8_isFigure_21 kX8_280 (by omega) (by decide) rfl (Nat.le_of_ble_eq_true rfl) (rcv_o (by first | assumption | exact hT.2.1) rfl) (fun x21 M21 h21 => ?_)
    obtain ⟨e21, r21, f21⟩ := h21
    have f21' := (f21.2 (by omega)).symm
    subst f21'
    subst e21
    refine x_if_eq (tgt := 31) dX8_isFigure_24 (by decide) (fun h24 => ?_) (fun h24 => ?_)
    · exact absurd h24 (by decide)
    · try simp only [vP_0, vP_1, vP_n0, vP_n1, Classical.not_not] at h24
      refine x_iconst dX8_isFigure_27 rfl ?_
      refine x_goto (tgt := 37) dX8_isFigure_28 (by decide) ?_
      refine x_ireturn rfl dX8_isFigure_37 ?_
      first
      | (refine hQ _ _ ⟨_, rfl, fun _ => ⟨e34, ?_⟩, fun q => absurd (by omega) q⟩
         rw [hM34]
         exact AC.tuned hP r34 ha34 q34)
      | exact hQ _ _ ⟨_, rfl, fun q => absurd q (by omega), fun _ => RD.t hP⟩
theorem s_X8_vector {x : Int} (hd : 14 ≤ d) (hP : TP M m v) (hacts : ActsOk (mci M) m n A) : CS G d mX8_vector [dR m, dI x] M (postI fun y M1 => (0 ≤ x ∧ x ≤ 9 → y = v 4 ∧ AC M m n A v (bootV (us v 4 x)) M1) ∧ (¬ (0 ≤ x ∧ x ≤ 9) → RD M m 1 M1)) := by
  have hT := hP.1
  refine CS.mkQ (by decide) (Nat.le_of_ble_eq_true rfl) fun Q hQ => ?_
  refine x_aload_n dX8_vector_0 rfl rfl ?_
  refine x_iconst dX8_vector_1 rfl ?_
  refine x_iload_n dX8_vector_2 rfl rfl ?_
  refine x_bipush dX8_vector_3 rfl ?_
  refine g_callI (vs := [_, _, _, _]) (d' := d - 1) rfl (s_X8_isFigure (by omega) hP hacts (by omega)) dX8_vector_5 kX8_453 (by omega) (by decide) rfl (Nat.le_of_ble_eq_true rfl) (rcv_o (by first | assumption | exact hT.2.1) rfl) (fun x5 M5 h5 => ?_)
  obtain ⟨e5, f5⟩ := h5
  refine x_ireturn rfl dX8_vector_8 ?_
  exact hQ _ _ ⟨_, rfl, e5, f5⟩
theorem s_X8_cost {x : Int} (hd : 14 ≤ d) (hP : TP M m v) (hacts : ActsOk (mci M) m n A) : CS G d mX8_cost [dR m, dI x] M (postI fun y M1 => (0 ≤ x ∧ x ≤ 7 → y = v 6 ∧ AC M m n A v (bootV (us v 6 x)) M1) ∧ (¬ (0 ≤ x ∧ x ≤ 7) → RD M m 1 M1)) := by
  have hT := hP.1
  refine CS.mkQ (by decide) (Nat.le_of_ble_eq_true rfl) fun Q hQ => ?_
  refine x_aload_n dX8_cost_0 rfl rfl ?_
  refine x_bipush dX8_cost_1 rfl ?_
  refine x_iload_n dX8_cost_3 rfl rfl ?_
  refine x_bipush dX8_cost_4 rfl ?_
  refine g_callI (vs := [_, _, _, _]) (d' := d - 1) rfl (s_X8_isFigure (by omega) hP hacts (by omega)) dX8_cost_6 kX8_453 (by omega) (by decide) rfl (Nat.le_of_ble_eq_true rfl) (rcv_o (by first | assumption | exact hT.2.1) rfl) (fun x6 M6 h6 => ?_)
  obtain ⟨e6, f6⟩ := h6
  refine x_ireturn rfl dX8_cost_9 ?_
  exact hQ _ _ ⟨_, rfl, e6, f6⟩
theorem s_X8_alarm {x : Int} (hd : 14 ≤ d) (hP : TP M m v) (hacts : ActsOk (mci M) m n A) : CS G d mX8_alarm [dR m, dI x] M (postI fun y M1 => (0 ≤ x ∧ x ≤ 100 → y = v 7 ∧ AC M m n A v (bootV (us v 7 x)) M1) ∧ (¬ (0 ≤ x ∧ x ≤ 100) → RD M m 1 M1)) := by
  have hT := hP.1
  refine CS.mkQ (by decide) (Nat.le_of_ble_eq_true rfl) fun Q hQ => ?_
  refine x_aload_n dX8_alarm_0 rfl rfl ?_
  refine x_bipush dX8_alarm_1 rfl ?_
  refine x_iload_n dX8_alarm_3 rfl rfl ?_
  refine x_bipush dX8_alarm_4 rfl ?_
  refine g_callI (vs := [_, _, _, _]) (d' := d - 1) rfl (s_X8_isFigure (by omega) hP hacts (by omega)) dX8_alarm_6 kX8_453 (by omega) (by decide) rfl (Nat.le_of_ble_eq_true rfl) (rcv_o (by first | assumption | exact hT.2.1) rfl) (fun x6 M6 h6 => ?_)
  obtain ⟨e6, f6⟩ := h6
  refine x_ireturn rfl dX8_alarm_9 ?_
  exact hQ _ _ ⟨_, rfl, e6, f6⟩
theorem s_X8_shift {x : Int} (hd : 14 ≤ d) (hP : TP M m v) (hacts : ActsOk (mci M) m n A) : CS G d mX8_shift [dR m, dI x] M (postI fun y M1 => (0 ≤ x ∧ x ≤ 3 → y = v 5 / 2 ∧ AC M m n A v (bootV (us v 5 (2 * x))) M1) ∧ (¬ (0 ≤ x ∧ x ≤ 3) → RD M m 1 M1)) := by
  obtain ⟨hT, hw, hA, hL, hK, hsk⟩ := id hP
  have hv5 := hA.1.2.2.2.2.2.1
  have hT_ := hT; obtain ⟨p0, p1, ⟨c1, c2, c3, c4, c5, c6, c7, c8, c9, c10, c11, c12, c13, c14, c15⟩, ⟨t1, t2, t3, t4, t5, t6, t7, t8, t9, t10, t11, t12, t13, t14, t15⟩⟩ := hT_
  refine CS.mkQ (by decide) (Nat.le_of_ble_eq_true rfl) fun Q hQ => ?_
  refine x_aload_n dX8_shift_0 rfl rfl ?_
  refine x_iconst dX8_shift_1 rfl ?_
  refine g_putI (kI := 0) rfl dX8_shift_2 fX8_3_8 (by first | assumption | exact hT.2.1) ?_
  refine x_aload_n dX8_shift_5 rfl rfl ?_
  refine x_iload_n dX8_shift_6 rfl rfl ?_
  refine x_iconst dX8_shift_7 rfl ?_
  refine x_iconst dX8_shift_8 rfl ?_
  refine g_callI (vs := [_, _, _]) (d' := d - 1) rfl (s_X8_in (by omega)) dX8_shift_9 kX8_88 (by omega) (by decide) rfl (Nat.le_of_ble_eq_true rfl) (rcv_n) (fun x9 M9 h9 => ?_)
  obtain ⟨e9, f9⟩ := h9
  have f9' := f9.symm
  subst f9'
  subst e9
  refine x_if_ne (tgt := 19) dX8_shift_12 (by decide) (fun h12 => ?_) (fun h12 => ?_)
  · try simp only [vP_0, vP_1, vP_n0, vP_n1, Classical.not_not] at h12
    refine x_iconst dX8_shift_19 rfl ?_
    refine x_iconst dX8_shift_20 rfl ?_
    refine g_callI (vs := [_, _, _]) (d' := d - 1) rfl (s_X8_throwsIf (by omega) hT (by first | omega | exact vP_r _)) dX8_shift_21 kX8_280 (by omega) (by decide) rfl (Nat.le_of_ble_eq_true rfl) (rcv_o (by first | assumption | exact hT.2.1) rfl) (fun x21 M21 h21 => ?_)
    obtain ⟨e21, r21, f21⟩ := h21
    have f21' := (f21.1 (by omega)).symm
    subst f21'
    subst e21
    refine x_if_eq (tgt := 31) dX8_shift_24 (by decide) (fun h24 => ?_) (fun h24 => ?_)
    · try simp only [vP_0, vP_1, vP_n0, vP_n1, Classical.not_not] at h24
      refine x_aload_n dX8_shift_31 rfl rfl ?_
      refine x_iconst dX8_shift_32 rfl ?_
      refine x_iconst dX8_shift_33 rfl ?_
      refine x_iload_n dX8_shift_34 rfl rfl ?_
      first | refine x_imulN dX8_shift_35 (by unfold i32; omega) ?_ | refine x_imul dX8_shift_35 ?_
      refine g_callI (vs := [_, _, _]) (d' := d - 1) rfl (s_X8_isTuned (M := mI M m 0 0) (by omega) hT (mciI (by omega) hw) (ActsOk.z hacts) (by omega)) dX8_shift_36 kX8_446 (by omega) (by decide) rfl (Nat.le_of_ble_eq_true rfl) (rcv_o (by first | assumption | exact hT.2.1) rfl) (fun x36 M36 h36 => ?_)
      obtain ⟨e36, g36, hM36, r36, ha36, q36⟩ := h36
      refine x_iconst dX8_shift_39 rfl ?_
      first | refine x_idivN dX8_shift_40 (by omega) (by omega) ?_ | refine x_idiv dX8_shift_40 (by omega) ?_
      refine x_ireturn rfl dX8_shift_41 ?_
      first
      | (refine hQ _ _ ⟨_, rfl, fun _ => ⟨by rw [e36], ?_⟩, fun q => absurd (by omega) q⟩
         rw [hM36]
         exact AC.tuned hP r36 ha36 q36)
      | exact hQ _ _ ⟨_, rfl, fun q => absurd q (by omega), fun _ => RD.t hP⟩
    · exact absurd h24 (by decide)
  · try simp only [vP_0, vP_1, vP_n0, vP_n1, Classical.not_not] at h12
    refine x_iconst dX8_shift_15 rfl ?_
    refine x_goto (tgt := 20) dX8_shift_16 (by decide) ?_
    refine x_iconst dX8_shift_20 rfl ?_
    refine g_callI (vs := [_, _, _]) (d' := d - 1) rfl (s_X8_throwsIf (by omega) hT (by first | omega | exact vP_r _)) dX8_shift_21 kX8_280 (by omega) (by decide) rfl (Nat.le_of_ble_eq_true rfl) (rcv_o (by first | assumption | exact hT.2.1) rfl) (fun x21 M21 h21 => ?_)
    obtain ⟨e21, r21, f21⟩ := h21
    have f21' := (f21.2 (by omega)).symm
    subst f21'
    subst e21
    refine x_if_eq (tgt := 31) dX8_shift_24 (by decide) (fun h24 => ?_) (fun h24 => ?_)
    · exact absurd h24 (by decide)
    · try simp only [vP_0, vP_1, vP_n0, vP_n1, Classical.not_not] at h24
      refine x_iconst dX8_shift_27 rfl ?_
      refine x_goto (tgt := 41) dX8_shift_28 (by decide) ?_
      refine x_ireturn rfl dX8_shift_41 ?_
      first
      | (refine hQ _ _ ⟨_, rfl, fun _ => ⟨by rw [e36], ?_⟩, fun q => absurd (by omega) q⟩
         rw [hM36]
         exact AC.tuned hP r36 ha36 q36)
      | exact hQ _ _ ⟨_, rfl, fun q => absurd q (by omega), fun _ => RD.t hP⟩
theorem s_X8_store {x : Int} (hd : 14 ≤ d) (hP : TP M m v) (hacts : ActsOk (mci M) m n A) : CS G d mX8_store [dR m, dI k, dI x] M (postI fun y M1 => ((0 ≤ k ∧ k ≤ 7) ∧ 0 ≤ x ∧ x ≤ 3 → y = v (22 + k) ∧ AC M m n A v (bootV (us v (22 + k) x)) M1) ∧ (¬ ((0 ≤ k ∧ k ≤ 7) ∧ 0 ≤ x ∧ x ≤ 3) → RD M m (if 0 ≤ k ∧ k ≤ 7 then 2 else 1) M1)) := by
  obtain ⟨hT, hw, hA, hL, hK, hsk⟩ := id hP
  have hT_ := hT; obtain ⟨p0, p1, ⟨c1, c2, c3, c4, c5, c6, c7, c8, c9, c10, c11, c12, c13, c14, c15⟩, ⟨t1, t2, t3, t4, t5, t6, t7, t8, t9, t10, t11, t12, t13, t14, t15⟩⟩ := hT_
  refine CS.mkQ (by decide) (Nat.le_of_ble_eq_true rfl) fun Q hQ => ?_
  refine x_aload_n dX8_store_0 rfl rfl ?_
  refine x_iconst dX8_store_1 rfl ?_
  refine g_putI (kI := 0) rfl dX8_store_2 fX8_3_8 (by first | assumption | exact hT.2.1) ?_
  refine x_aload_n dX8_store_5 rfl rfl ?_
  refine x_aload_n dX8_store_6 rfl rfl ?_
  refine x_iload_n dX8_store_7 rfl rfl ?_
  refine g_callI (vs := [_, _]) (d' := d - 1) rfl (s_X8_noCell (by omega) hT) dX8_store_8 kX8_436 (by omega) (by decide) rfl (Nat.le_of_ble_eq_true rfl) (rcv_o (by first | assumption | exact hT.2.1) rfl) (fun x8 M8 h8 => ?_)
  obtain ⟨e8, f8⟩ := h8
  have f8' := f8.symm
  subst f8'
  subst e8
  refine x_iconst dX8_store_11 rfl ?_
  refine g_callI (vs := [_, _, _]) (d' := d - 1) rfl (s_X8_throwsIf (by omega) hT (by first | omega | exact vP_r _)) dX8_store_12 kX8_280 (by omega) (by decide) rfl (Nat.le_of_ble_eq_true rfl) (rcv_o (by first | assumption | exact hT.2.1) rfl) (fun x12 M12 h12 => ?_)
  obtain ⟨e12, r12, f12⟩ := h12
  refine x_if_ne (tgt := 40) dX8_store_15 (by decide) (fun h15 => ?_) (fun h15 => ?_)
  · first | have f12' := (f12.1 (by omega)).symm | have f12' := (f12.2 (by omega)).symm
    subst f12'
    rw [e12] at h15
    try simp only [vP_0, vP_1, vP_n0, vP_n1, Classical.not_not] at h15
    refine x_iconst dX8_store_40 rfl ?_
    refine x_goto (tgt := 53) dX8_store_41 (by decide) ?_
    refine x_ireturn rfl dX8_store_53 ?_
    first
    | (refine hQ _ _ ⟨_, rfl, fun _ => ⟨e50, ?_⟩, fun q => absurd (by omega) q⟩
       rw [hM50]
       exact AC.tuned hP r50 ha50 q50)
    | exact hQ _ _ ⟨_, rfl, fun q => absurd q (by omega), fun _ => by rw [if_neg (by omega)]; exact RD.t hP⟩
    | exact hQ _ _ ⟨_, rfl, fun q => absurd q (by omega), fun _ => by rw [if_pos (by omega)]; exact RD.t hP⟩
  · first | have f12' := (f12.1 (by omega)).symm | have f12' := (f12.2 (by omega)).symm
    subst f12'
    rw [e12] at h15
    try simp only [vP_0, vP_1, vP_n0, vP_n1, Classical.not_not] at h15
    refine x_aload_n dX8_store_18 rfl rfl ?_
    refine x_iload_n dX8_store_19 rfl rfl ?_
    refine x_iconst dX8_store_20 rfl ?_
    refine x_iconst dX8_store_21 rfl ?_
    refine g_callI (vs := [_, _, _]) (d' := d - 1) rfl (s_X8_in (by omega)) dX8_store_22 kX8_88 (by omega) (by decide) rfl (Nat.le_of_ble_eq_true rfl) (rcv_n) (fun x22 M22 h22 => ?_)
    obtain ⟨e22, f22⟩ := h22
    have f22' := f22.symm
    subst f22'
    subst e22
    refine x_if_ne (tgt := 32) dX8_store_25 (by decide) (fun h25 => ?_) (fun h25 => ?_)
    · try simp only [vP_0, vP_1, vP_n0, vP_n1, Classical.not_not] at h25
      refine x_iconst dX8_store_32 rfl ?_
      refine x_iconst dX8_store_33 rfl ?_
      refine g_callI (vs := [_, _, _]) (d' := d - 1) rfl (s_X8_throwsIf (by omega) hT (by first | omega | exact vP_r _)) dX8_store_34 kX8_280 (by omega) (by decide) rfl (Nat.le_of_ble_eq_true rfl) (rcv_o (by first | assumption | exact hT.2.1) rfl) (fun x34 M34 h34 => ?_)
      obtain ⟨e34, r34, f34⟩ := h34
      have f34' := (f34.1 (by omega)).symm
      subst f34'
      subst e34
      refine x_if_eq (tgt := 44) dX8_store_37 (by decide) (fun h37 => ?_) (fun h37 => ?_)
      · try simp only [vP_0, vP_1, vP_n0, vP_n1, Classical.not_not] at h37
        refine x_aload_n dX8_store_44 rfl rfl ?_
        refine x_bipush dX8_store_45 rfl ?_
        refine x_iload_n dX8_store_47 rfl rfl ?_
        first | refine x_iaddN dX8_store_48 (by unfold i32; omega) ?_ | refine x_iadd dX8_store_48 ?_
        refine x_iload_n dX8_store_49 rfl rfl ?_
        refine g_callI (vs := [_, _, _]) (d' := d - 1) rfl (s_X8_isTuned (M := mI M m 0 0) (by omega) hT (mciI (by omega) hw) (ActsOk.z hacts) (by omega)) dX8_store_50 kX8_446 (by omega) (by decide) rfl (Nat.le_of_ble_eq_true rfl) (rcv_o (by first | assumption | exact hT.2.1) rfl) (fun x50 M50 h50 => ?_)
        obtain ⟨e50, g50, hM50, r50, ha50, q50⟩ := h50
        refine x_ireturn rfl dX8_store_53 ?_
        first
        | (refine hQ _ _ ⟨_, rfl, fun _ => ⟨e50, ?_⟩, fun q => absurd (by omega) q⟩
           rw [hM50]
           exact AC.tuned hP r50 ha50 q50)
        | exact hQ _ _ ⟨_, rfl, fun q => absurd q (by omega), fun _ => by rw [if_neg (by omega)]; exact RD.t hP⟩
        | exact hQ _ _ ⟨_, rfl, fun q => absurd q (by omega), fun _ => by rw [if_pos (by omega)]; exact RD.t hP⟩
      · exact absurd h37 (by decide)
    · try simp only [vP_0, vP_1, vP_n0, vP_n1, Classical.not_not] at h25
      refine x_iconst dX8_store_28 rfl ?_
      refine x_goto (tgt := 33) dX8_store_29 (by decide) ?_
      refine x_iconst dX8_store_33 rfl ?_
      refine g_callI (vs := [_, _, _]) (d' := d - 1) rfl (s_X8_throwsIf (by omega) hT (by first | omega | exact vP_r _)) dX8_store_34 kX8_280 (by omega) (by decide) rfl (Nat.le_of_ble_eq_true rfl) (rcv_o (by first | assumption | exact hT.2.1) rfl) (fun x34 M34 h34 => ?_)
      obtain ⟨e34, r34, f34⟩ := h34
      have f34' := (f34.2 (by omega)).symm
      subst f34'
      subst e34
      refine x_if_eq (tgt := 44) dX8_store_37 (by decide) (fun h37 => ?_) (fun h37 => ?_)
      · exact absurd h37 (by decide)
      · try simp only [vP_0, vP_1, vP_n0, vP_n1, Classical.not_not] at h37
        refine x_iconst dX8_store_40 rfl ?_
        refine x_goto (tgt := 53) dX8_store_41 (by decide) ?_
        refine x_ireturn rfl dX8_store_53 ?_
        first
        | (refine hQ _ _ ⟨_, rfl, fun _ => ⟨e50, ?_⟩, fun q => absurd (by omega) q⟩
           rw [hM50]
           exact AC.tuned hP r50 ha50 q50)
        | exact hQ _ _ ⟨_, rfl, fun q => absurd q (by omega), fun _ => by rw [if_neg (by omega)]; exact RD.t hP⟩
        | exact hQ _ _ ⟨_, rfl, fun q => absurd q (by omega), fun _ => by rw [if_pos (by omega)]; exact RD.t hP⟩
theorem s_X8_isSet {w : Int} (hd : 14 ≤ d) (hP : TP M m v) (hacts : ActsOk (mci M) m n A) (hw2 : w = 1 ∨ w = 2) : CS G d mX8_isSet [dR m, dI p, dI w, dI b] M (postI fun y M1 => (y = 0 ∨ y = 1) ∧ (0 ≤ p ∧ p < v 0 → y = vP (¬ v (30 + 9 * p + w) = (if b = 0 then 0 else 1)) ∧ AC M m n A v (bootV (us v (30 + 9 * p + w) (if b = 0 then 0 else 1))) M1) ∧ (¬ (0 ≤ p ∧ p < v 0) → RD M m 1 M1)) := by
  obtain ⟨hT, hw, hA, hL, hK, hsk⟩ := id hP
  have hv0 := hA.1.1
  have hT_ := hT; obtain ⟨p0, p1, ⟨c1, c2, c3, c4, c5, c6, c7, c8, c9, c10, c11, c12, c13, c14, c15⟩, ⟨t1, t2, t3, t4, t5, t6, t7, t8, t9, t10, t11, t12, t13, t14, t15⟩⟩ := hT_
  refine CS.mkQ (by decide) (Nat.le_of_ble_eq_true rfl) fun Q hQ => ?_
  refine x_aload_n dX8_isSet_0 rfl rfl ?_
  refine x_iconst dX8_isSet_1 rfl ?_
  refine g_putI (kI := 0) rfl dX8_isSet_2 fX8_3_8 (by first | assumption | exact hT.2.1) ?_
  refine x_iload_n dX8_isSet_5 rfl rfl ?_
  refine x_if_eq (tgt := 13) dX8_isSet_6 (by decide) (fun h6 => ?_) (fun h6 => ?_)
  · refine x_iconst dX8_isSet_13 rfl ?_
    refine x_istore (L' := [some _, some _, some _, some _, some _]) dX8_isSet_14 (by decide) rfl ?_
    refine x_aload_n dX8_isSet_16 rfl rfl ?_
    refine x_aload_n dX8_isSet_17 rfl rfl ?_
    refine x_iload_n dX8_isSet_18 rfl rfl ?_
    refine g_callI (vs := [_, _]) (d' := d - 1) rfl (s_X8_noOp (by omega) hT (by first | exact hw | exact mciI (by omega) hw | exact mciI (by omega) (mciI (by omega) hw) | exact mciI (by omega) (mciI (by omega) (mciI (by omega) hw)) | exact mciI (by omega) (mciI (by omega) (mciI (by omega) (mciI (by omega) hw))) | exact mciC (by omega) hw) (by omega)) dX8_isSet_19 kX8_433 (by omega) (by decide) rfl (Nat.le_of_ble_eq_true rfl) (rcv_o (by first | assumption | exact hT.2.1) rfl) (fun x19 M19 h19 => ?_)
    obtain ⟨e19, f19⟩ := h19
    have f19' := f19.symm
    subst f19'
    subst e19
    refine x_iconst dX8_isSet_22 rfl ?_
    refine g_callI (vs := [_, _, _]) (d' := d - 1) rfl (s_X8_throwsIf (by omega) hT (by first | omega | exact vP_r _)) dX8_isSet_23 kX8_280 (by omega) (by decide) rfl (Nat.le_of_ble_eq_true rfl) (rcv_o (by first | assumption | exact hT.2.1) rfl) (fun x23 M23 h23 => ?_)
    obtain ⟨e23, r23, f23⟩ := h23
    refine x_if_ne (tgt := 49) dX8_isSet_26 (by decide) (fun h26 => ?_) (fun h26 => ?_)
    · first | have f23' := (f23.1 (by omega)).symm | have f23' := (f23.2 (by omega)).symm
      subst f23'
      rw [e23] at h26
      try simp only [vP_0, vP_1, vP_n0, vP_n1, Classical.not_not] at h26
      refine x_iconst dX8_isSet_49 rfl ?_
      refine x_zreturn (by first | exact Or.inl rfl | exact Or.inr rfl | exact vB_r _ | exact vP_r _ | assumption | omega) rfl dX8_isSet_50 ?_
      first
      | exact hQ _ _ ⟨_, rfl, Or.inl rfl, fun q => absurd q (by omega), fun _ => RD.t hP⟩
      | (refine hQ _ _ ⟨_, rfl, by first | exact Or.inl rfl | exact Or.inr rfl, fun _ => ⟨?_, ?_⟩, fun q => absurd (by omega) q⟩
         · first | rw [if_pos h6] | rw [if_neg h6]
           rw [e37] at h42
           first | exact (vP_f fun q => q h42).symm | exact (vP_t h42).symm
         · first | rw [if_pos h6] | rw [if_neg h6]
           rw [hM37]
           exact AC.tuned hP r37 ha37 q37)
    · first | have f23' := (f23.1 (by omega)).symm | have f23' := (f23.2 (by omega)).symm
      subst f23'
      rw [e23] at h26
      try simp only [vP_0, vP_1, vP_n0, vP_n1, Classical.not_not] at h26
      refine x_aload_n dX8_isSet_29 rfl rfl ?_
      refine x_iload_n dX8_isSet_30 rfl rfl ?_
      refine x_iload_n dX8_isSet_31 rfl rfl ?_
      refine g_callI (vs := [_, _]) (d' := d - 1) rfl (s_X8_opAt (by omega) (by omega) (by omega)) dX8_isSet_32 kX8_74 (by omega) (by decide) rfl (Nat.le_of_ble_eq_true rfl) (rcv_n) (fun x32 M32 h32 => ?_)
      obtain ⟨e32, f32⟩ := h32
      have f32' := f32.symm
      subst f32'
      subst e32
      refine x_iload dX8_isSet_35 rfl ?_
      refine g_callI (vs := [_, _, _]) (d' := d - 1) rfl (s_X8_isTuned (M := mI M m 0 0) (by omega) hT (mciI (by omega) hw) (ActsOk.z hacts) (by omega)) dX8_isSet_37 kX8_446 (by omega) (by decide) rfl (Nat.le_of_ble_eq_true rfl) (rcv_o (by first | assumption | exact hT.2.1) rfl) (fun x37 M37 h37 => ?_)
      obtain ⟨e37, g37, hM37, r37, ha37, q37⟩ := h37
      refine x_iload dX8_isSet_40 rfl ?_
      refine x_icmp_eq (tgt := 49) dX8_isSet_42 (by decide) (fun h42 => ?_) (fun h42 => ?_)
      · refine x_iconst dX8_isSet_49 rfl ?_
        refine x_zreturn (by first | exact Or.inl rfl | exact Or.inr rfl | exact vB_r _ | exact vP_r _ | assumption | omega) rfl dX8_isSet_50 ?_
        first
        | exact hQ _ _ ⟨_, rfl, Or.inl rfl, fun q => absurd q (by omega), fun _ => RD.t hP⟩
        | (refine hQ _ _ ⟨_, rfl, by first | exact Or.inl rfl | exact Or.inr rfl, fun _ => ⟨?_, ?_⟩, fun q => absurd (by omega) q⟩
           · first | rw [if_pos h6] | rw [if_neg h6]
             rw [e37] at h42
             first | exact (vP_f fun q => q h42).symm | exact (vP_t h42).symm
           · first | rw [if_pos h6] | rw [if_neg h6]
             rw [hM37]
             exact AC.tuned hP r37 ha37 q37)
      · refine x_iconst dX8_isSet_45 rfl ?_
        refine x_goto (tgt := 50) dX8_isSet_46 (by decide) ?_
        refine x_zreturn (by first | exact Or.inl rfl | exact Or.inr rfl | exact vB_r _ | exact vP_r _ | assumption | omega) rfl dX8_isSet_50 ?_
        first
        | exact hQ _ _ ⟨_, rfl, Or.inl rfl, fun q => absurd q (by omega), fun _ => RD.t hP⟩
        | (refine hQ _ _ ⟨_, rfl, by first | exact Or.inl rfl | exact Or.inr rfl, fun _ => ⟨?_, ?_⟩, fun q => absurd (by omega) q⟩
           · first | rw [if_pos h6] | rw [if_neg h6]
             rw [e37] at h42
             first | exact (vP_f fun q => q h42).symm | exact (vP_t h42).symm
           · first | rw [if_pos h6] | rw [if_neg h6]
             rw [hM37]
             exact AC.tuned hP r37 ha37 q37)
  · refine x_iconst dX8_isSet_9 rfl ?_
    refine x_goto (tgt := 14) dX8_isSet_10 (by decide) ?_
    refine x_istore (L' := [some _, some _, some _, some _, some _]) dX8_isSet_14 (by decide) rfl ?_
    refine x_aload_n dX8_isSet_16 rfl rfl ?_
    refine x_aload_n dX8_isSet_17 rfl rfl ?_
    refine x_iload_n dX8_isSet_18 rfl rfl ?_
    refine g_callI (vs := [_, _]) (d' := d - 1) rfl (s_X8_noOp (by omega) hT (by first | exact hw | exact mciI (by omega) hw | exact mciI (by omega) (mciI (by omega) hw) | exact mciI (by omega) (mciI (by omega) (mciI (by omega) hw)) | exact mciI (by omega) (mciI (by omega) (mciI (by omega) (mciI (by omega) hw))) | exact mciC (by omega) hw) (by omega)) dX8_isSet_19 kX8_433 (by omega) (by decide) rfl (Nat.le_of_ble_eq_true rfl) (rcv_o (by first | assumption | exact hT.2.1) rfl) (fun x19 M19 h19 => ?_)
    obtain ⟨e19, f19⟩ := h19
    have f19' := f19.symm
    subst f19'
    subst e19
    refine x_iconst dX8_isSet_22 rfl ?_
    refine g_callI (vs := [_, _, _]) (d' := d - 1) rfl (s_X8_throwsIf (by omega) hT (by first | omega | exact vP_r _)) dX8_isSet_23 kX8_280 (by omega) (by decide) rfl (Nat.le_of_ble_eq_true rfl) (rcv_o (by first | assumption | exact hT.2.1) rfl) (fun x23 M23 h23 => ?_)
    obtain ⟨e23, r23, f23⟩ := h23
    refine x_if_ne (tgt := 49) dX8_isSet_26 (by decide) (fun h26 => ?_) (fun h26 => ?_)
    · first | have f23' := (f23.1 (by omega)).symm | have f23' := (f23.2 (by omega)).symm
      subst f23'
      rw [e23] at h26
      try simp only [vP_0, vP_1, vP_n0, vP_n1, Classical.not_not] at h26
      refine x_iconst dX8_isSet_49 rfl ?_
      refine x_zreturn (by first | exact Or.inl rfl | exact Or.inr rfl | exact vB_r _ | exact vP_r _ | assumption | omega) rfl dX8_isSet_50 ?_
      first
      | exact hQ _ _ ⟨_, rfl, Or.inl rfl, fun q => absurd q (by omega), fun _ => RD.t hP⟩
      | (refine hQ _ _ ⟨_, rfl, by first | exact Or.inl rfl | exact Or.inr rfl, fun _ => ⟨?_, ?_⟩, fun q => absurd (by omega) q⟩
         · first | rw [if_pos h6] | rw [if_neg h6]
           rw [e37] at h42
           first | exact (vP_f fun q => q h42).symm | exact (vP_t h42).symm
         · first | rw [if_pos h6] | rw [if_neg h6]
           rw [hM37]
           exact AC.tuned hP r37 ha37 q37)
    · first | have f23' := (f23.1 (by omega)).symm | have f23' := (f23.2 (by omega)).symm
      subst f23'
      rw [e23] at h26
      try simp only [vP_0, vP_1, vP_n0, vP_n1, Classical.not_not] at h26
      refine x_aload_n dX8_isSet_29 rfl rfl ?_
      refine x_iload_n dX8_isSet_30 rfl rfl ?_
      refine x_iload_n dX8_isSet_31 rfl rfl ?_
      refine g_callI (vs := [_, _]) (d' := d - 1) rfl (s_X8_opAt (by omega) (by omega) (by omega)) dX8_isSet_32 kX8_74 (by omega) (by decide) rfl (Nat.le_of_ble_eq_true rfl) (rcv_n) (fun x32 M32 h32 => ?_)
      obtain ⟨e32, f32⟩ := h32
      have f32' := f32.symm
      subst f32'
      subst e32
      refine x_iload dX8_isSet_35 rfl ?_
      refine g_callI (vs := [_, _, _]) (d' := d - 1) rfl (s_X8_isTuned (M := mI M m 0 0) (by omega) hT (mciI (by omega) hw) (ActsOk.z hacts) (by omega)) dX8_isSet_37 kX8_446 (by omega) (by decide) rfl (Nat.le_of_ble_eq_true rfl) (rcv_o (by first | assumption | exact hT.2.1) rfl) (fun x37 M37 h37 => ?_)
      obtain ⟨e37, g37, hM37, r37, ha37, q37⟩ := h37
      refine x_iload dX8_isSet_40 rfl ?_
      refine x_icmp_eq (tgt := 49) dX8_isSet_42 (by decide) (fun h42 => ?_) (fun h42 => ?_)
      · refine x_iconst dX8_isSet_49 rfl ?_
        refine x_zreturn (by first | exact Or.inl rfl | exact Or.inr rfl | exact vB_r _ | exact vP_r _ | assumption | omega) rfl dX8_isSet_50 ?_
        first
        | exact hQ _ _ ⟨_, rfl, Or.inl rfl, fun q => absurd q (by omega), fun _ => RD.t hP⟩
        | (refine hQ _ _ ⟨_, rfl, by first | exact Or.inl rfl | exact Or.inr rfl, fun _ => ⟨?_, ?_⟩, fun q => absurd (by omega) q⟩
           · first | rw [if_pos h6] | rw [if_neg h6]
             rw [e37] at h42
             first | exact (vP_f fun q => q h42).symm | exact (vP_t h42).symm
           · first | rw [if_pos h6] | rw [if_neg h6]
             rw [hM37]
             exact AC.tuned hP r37 ha37 q37)
      · refine x_iconst dX8_isSet_45 rfl ?_
        refine x_goto (tgt := 50) dX8_isSet_46 (by decide) ?_
        refine x_zreturn (by first | exact Or.inl rfl | exact Or.inr rfl | exact vB_r _ | exact vP_r _ | assumption | omega) rfl dX8_isSet_50 ?_
        first
        | exact hQ _ _ ⟨_, rfl, Or.inl rfl, fun q => absurd q (by omega), fun _ => RD.t hP⟩
        | (refine hQ _ _ ⟨_, rfl, by first | exact Or.inl rfl | exact Or.inr rfl, fun _ => ⟨?_, ?_⟩, fun q => absurd (by omega) q⟩
           · first | rw [if_pos h6] | rw [if_neg h6]
             rw [e37] at h42
             first | exact (vP_f fun q => q h42).symm | exact (vP_t h42).symm
           · first | rw [if_pos h6] | rw [if_neg h6]
             rw [hM37]
             exact AC.tuned hP r37 ha37 q37)
theorem s_X8_patch (hd : 15 ≤ d) (hP : TP M m v) (hacts : ActsOk (mci M) m n A) : CS G d mX8_patch [dR m, dI p, dI b] M (postI fun y M1 => (0 ≤ p ∧ p < v 0 → y = vP (¬ opP v p = (if b = 0 then 0 else 1)) ∧ AC M m n A v (bootV (us v (32 + 9 * p) (if b = 0 then 0 else 1))) M1) ∧ (¬ (0 ≤ p ∧ p < v 0) → RD M m 1 M1)) := by
  have hT := hP.1
  refine CS.mkQ (by decide) (Nat.le_of_ble_eq_true rfl) fun Q hQ => ?_
  refine x_aload_n dX8_patch_0 rfl rfl ?_
  refine x_iload_n dX8_patch_1 rfl rfl ?_
  refine x_iconst dX8_patch_2 rfl ?_
  refine x_iload_n dX8_patch_3 rfl rfl ?_
  refine g_callI (vs := [_, _, _, _]) (d' := d - 1) rfl (s_X8_isSet (by omega) hP hacts (Or.inr rfl)) dX8_patch_4 kX8_449 (by omega) (by decide) rfl (Nat.le_of_ble_eq_true rfl) (rcv_o (by first | assumption | exact hT.2.1) rfl) (fun x4 M4 h4 => ?_)
  obtain ⟨z4, e4, f4⟩ := h4
  rw [show 30 + 9 * p + 2 = 32 + 9 * p by omega] at e4
  refine x_zreturn (by exact z4) rfl dX8_patch_7 ?_
  exact hQ _ _ ⟨_, rfl, e4, f4⟩
theorem s_X8_guard (hd : 15 ≤ d) (hP : TP M m v) (hacts : ActsOk (mci M) m n A) : CS G d mX8_guard [dR m, dI p, dI b] M (postI fun y M1 => (0 ≤ p ∧ p < v 0 → y = vP (¬ opG v p = (if b = 0 then 0 else 1)) ∧ AC M m n A v (bootV (us v (31 + 9 * p) (if b = 0 then 0 else 1))) M1) ∧ (¬ (0 ≤ p ∧ p < v 0) → RD M m 1 M1)) := by
  have hT := hP.1
  refine CS.mkQ (by decide) (Nat.le_of_ble_eq_true rfl) fun Q hQ => ?_
  refine x_aload_n dX8_guard_0 rfl rfl ?_
  refine x_iload_n dX8_guard_1 rfl rfl ?_
  refine x_iconst dX8_guard_2 rfl ?_
  refine x_iload_n dX8_guard_3 rfl rfl ?_
  refine g_callI (vs := [_, _, _, _]) (d' := d - 1) rfl (s_X8_isSet (by omega) hP hacts (Or.inl rfl)) dX8_guard_4 kX8_449 (by omega) (by decide) rfl (Nat.le_of_ble_eq_true rfl) (rcv_o (by first | assumption | exact hT.2.1) rfl) (fun x4 M4 h4 => ?_)
  obtain ⟨z4, e4, f4⟩ := h4
  rw [show 30 + 9 * p + 1 = 31 + 9 * p by omega] at e4
  refine x_zreturn (by exact z4) rfl dX8_guard_7 ?_
  exact hQ _ _ ⟨_, rfl, e4, f4⟩
theorem s_X8_boot (hd : 12 ≤ d) (hP : TP M m v) (hacts : ActsOk (mci M) m n A) : CS G d mX8_boot [dR m] M (postN fun M1 => AC M m n A v (bootV v) M1) := by
  obtain ⟨hT, hw, hA, hL, hK, hsk⟩ := id hP
  have hT_ := hT; obtain ⟨p0, p1, ⟨c1, c2, c3, c4, c5, c6, c7, c8, c9, c10, c11, c12, c13, c14, c15⟩, ⟨t1, t2, t3, t4, t5, t6, t7, t8, t9, t10, t11, t12, t13, t14, t15⟩⟩ := hT_
  refine CS.mkQ (by decide) (Nat.le_of_ble_eq_true rfl) fun Q hQ => ?_
  refine x_aload_n dX8_boot_0 rfl rfl ?_
  refine x_iconst dX8_boot_1 rfl ?_
  refine g_putI (kI := 0) rfl dX8_boot_2 fX8_3_8 (by first | assumption | exact hT.2.1) ?_
  refine x_aload_n dX8_boot_5 rfl rfl ?_
  refine g_callN (vs := [_]) (d' := d - 1) rfl (s_X8_remembers (M := mI M m 0 0) (by omega) hT (mciI (by omega) hw) (ActsOk.z hacts)) dX8_boot_6 kX8_439 (by omega) (by decide) rfl (Nat.le_of_ble_eq_true rfl) (rcv_o (by first | assumption | exact hT.2.1) rfl) (fun M6 h6 => ?_)
  obtain ⟨g6, hM6, ha6, q6⟩ := h6
  subst hM6
  have hw1 : g6 (m + 1) = v := (funext fun j => (q6 _ _ (by omega) (by omega)).trans (rdI_n (by omega))).trans hw
  refine x_aload_n dX8_boot_9 rfl rfl ?_
  refine g_callN (vs := [_]) (d' := d - 1) rfl (s_X8_bothBoot (M := wI (mI M m 0 0) g6) (by omega) hT hw1) dX8_boot_10 kX8_64 (by omega) (by decide) rfl (Nat.le_of_ble_eq_true rfl) (rcv_o (by first | assumption | exact hT.2.1) rfl) (fun M10 h10 => ?_)
  obtain ⟨g10, hM10, r10, q10⟩ := h10
  refine x_vreturn rfl dX8_boot_13 ?_
  refine hQ _ _ ⟨rfl, ?_⟩
  rw [hM10]
  exact AC.tuned hP r10 (ha6.at (q10 _ _ (by omega)) (fun j => q10 _ _ (by omega))) fun a j x1 x2 x3 => (q10 a j x3).trans (q6 a j x1 x2)
theorem s_X8_put (hd : 14 ≤ d) (hP : TP M m v) (hacts : ActsOk (mci M) m n A) : CS G d mX8_put [dR m, dI k, dI op] M (postI fun y M1 => ((0 ≤ k ∧ k ≤ v 3 ∧ k ≤ 9) ∧ 0 ≤ op ∧ op < v 0 → y = progAns v k ∧ AC M m n A v (us (bootV (us v (12 + k) op)) 3 (if k = v 3 then v 3 + 1 else v 3)) M1) ∧ (¬ ((0 ≤ k ∧ k ≤ v 3 ∧ k ≤ 9) ∧ 0 ≤ op ∧ op < v 0) → RD M m 1 M1)) := by
  obtain ⟨hT, hw, hA, hL, hK, hsk⟩ := id hP
  have hv0 := hA.1.1
  have hv3 := hA.1.2.2.2.1
  have hT_ := hT; obtain ⟨p0, p1, ⟨c1, c2, c3, c4, c5, c6, c7, c8, c9, c10, c11, c12, c13, c14, c15⟩, ⟨t1, t2, t3, t4, t5, t6, t7, t8, t9, t10, t11, t12, t13, t14, t15⟩⟩ := hT_
  have hw0 := hw
  have e3 : 0 ≤ k → bootV (us v (12 + k) op) 3 = v 3 := fun q => (bootV_eqB 3 (by omega)).trans (us_n (by omega))
  refine CS.mkQ (by decide) (Nat.le_of_ble_eq_true rfl) fun Q hQ => ?_
  refine x_aload_n dX8_put_0 rfl rfl ?_
  refine x_iconst dX8_put_1 rfl ?_
  refine g_putI (kI := 0) rfl dX8_put_2 fX8_3_8 (by first | assumption | exact hT.2.1) ?_
  obtain ⟨hT, hw, hA, hL, hK, hsk⟩ := TP.z (x := 0) hP
  refine x_aload_n dX8_put_5 rfl rfl ?_
  refine x_iload_n dX8_put_6 rfl rfl ?_
  refine x_iconst dX8_put_7 rfl ?_
  refine x_aload_n dX8_put_8 rfl rfl ?_
  refine g_getR (kI := 1) rfl dX8_put_9 fX8_13_8 (by first | assumption | exact hT.2.1) (by first | assumption | exact hT.2.1) ?_
  refine x_iconst dX8_put_12 rfl ?_
  refine x_iald dX8_put_13 (by first | assumption | exact hT.2.1) (by omega) (by omega) ?_
  try simp (disch := omega) only [rdI_e, rdI_n, rdC_i, rdC_o, rdW, rdR, rdU_e, rdU_n, rdLW, Int.add_zero, hw, hw0, e3]
  refine x_bipush dX8_put_14 rfl ?_
  refine g_callI (vs := [_, _]) (d' := d - 1) rfl (s_min (by omega)) dX8_put_16 kX8_387 (by omega) (by decide) rfl (Nat.le_of_ble_eq_true rfl) (rcv_n) (fun x16 M16 h16 => ?_)
  obtain ⟨e16, f16⟩ := h16
  have f16' := f16.symm
  subst f16'
  refine g_callI (vs := [_, _, _]) (d' := d - 1) rfl (s_X8_in (by omega)) dX8_put_19 kX8_88 (by omega) (by decide) rfl (Nat.le_of_ble_eq_true rfl) (rcv_n) (fun x19 M19 h19 => ?_)
  obtain ⟨e19, f19⟩ := h19
  have f19' := f19.symm
  subst f19'
  subst e19
  try simp (disch := omega) only [rdI_e, rdI_n, rdC_i, rdC_o, rdW, rdR, rdU_e, rdU_n, rdLW, Int.add_zero, hw, hw0, e3]
  refine x_if_eq (tgt := 33) dX8_put_22 (by decide) (fun h22 => ?_) (fun h22 => ?_)
  · try simp only [vP_0, vP_1, vP_n0, vP_n1, Classical.not_not] at h22
    refine x_iconst dX8_put_33 rfl ?_
    refine x_goto (tgt := 38) dX8_put_34 (by decide) ?_
    refine x_iconst dX8_put_38 rfl ?_
    refine g_callI (vs := [_, _, _]) (d' := d - 1) rfl (s_X8_throwsIf (by omega) hT (by first | omega | exact vP_r _)) dX8_put_39 kX8_280 (by omega) (by decide) rfl (Nat.le_of_ble_eq_true rfl) (rcv_o (by first | assumption | exact hT.2.1) rfl) (fun x39 M39 h39 => ?_)
    obtain ⟨e39, r39, f39⟩ := h39
    have f39' := (f39.2 (by omega)).symm
    subst f39'
    subst e39
    refine x_if_eq (tgt := 47) dX8_put_42 (by decide) (fun h42 => ?_) (fun h42 => ?_)
    · exact absurd h42 (by decide)
    · try simp only [vP_0, vP_1, vP_n0, vP_n1, Classical.not_not] at h42
      refine x_iconst dX8_put_45 rfl ?_
      refine x_ireturn rfl dX8_put_46 ?_
      exact hQ _ _ ⟨_, rfl, fun q => absurd q (by omega), fun _ => RD.t hP⟩
  · try simp only [vP_0, vP_1, vP_n0, vP_n1, Classical.not_not] at h22
    refine x_aload_n dX8_put_25 rfl rfl ?_
    refine x_iload_n dX8_put_26 rfl rfl ?_
    refine g_callI (vs := [_, _]) (d' := d - 1) rfl (s_X8_noOp (by omega) hT (by first | exact hw | exact mciI (by omega) hw | exact mciI (by omega) (mciI (by omega) hw) | exact mciI (by omega) (mciI (by omega) (mciI (by omega) hw)) | exact mciI (by omega) (mciI (by omega) (mciI (by omega) (mciI (by omega) hw))) | exact mciC (by omega) hw) (by omega)) dX8_put_27 kX8_433 (by omega) (by decide) rfl (Nat.le_of_ble_eq_true rfl) (rcv_o (by first | assumption | exact hT.2.1) rfl) (fun x27 M27 h27 => ?_)
    obtain ⟨e27, f27⟩ := h27
    have f27' := f27.symm
    subst f27'
    subst e27
    try simp (disch := omega) only [rdI_e, rdI_n, rdC_i, rdC_o, rdW, rdR, rdU_e, rdU_n, rdLW, Int.add_zero, hw, hw0, e3]
    refine x_if_eq (tgt := 37) dX8_put_30 (by decide) (fun h30 => ?_) (fun h30 => ?_)
    · try simp only [vP_0, vP_1, vP_n0, vP_n1, Classical.not_not] at h30
      refine x_iconst dX8_put_37 rfl ?_
      refine x_iconst dX8_put_38 rfl ?_
      refine g_callI (vs := [_, _, _]) (d' := d - 1) rfl (s_X8_throwsIf (by omega) hT (by first | omega | exact vP_r _)) dX8_put_39 kX8_280 (by omega) (by decide) rfl (Nat.le_of_ble_eq_true rfl) (rcv_o (by first | assumption | exact hT.2.1) rfl) (fun x39 M39 h39 => ?_)
      obtain ⟨e39, r39, f39⟩ := h39
      have f39' := (f39.1 (by omega)).symm
      subst f39'
      subst e39
      refine x_if_eq (tgt := 47) dX8_put_42 (by decide) (fun h42 => ?_) (fun h42 => ?_)
      · try simp only [vP_0, vP_1, vP_n0, vP_n1, Classical.not_not] at h42
        refine x_iload_n dX8_put_47 rfl rfl ?_
        refine x_aload_n dX8_put_48 rfl rfl ?_
        refine g_getR (kI := 1) rfl dX8_put_49 fX8_13_8 (by first | assumption | exact hT.2.1) (by first | assumption | exact hT.2.1) ?_
        refine x_iconst dX8_put_52 rfl ?_
        refine x_iald dX8_put_53 (by first | assumption | exact hT.2.1) (by omega) (by omega) ?_
        try simp (disch := omega) only [rdI_e, rdI_n, rdC_i, rdC_o, rdW, rdR, rdU_e, rdU_n, rdLW, Int.add_zero, hw, hw0, e3]
        refine x_icmp_ne (tgt := 61) dX8_put_54 (by decide) (fun h54 => ?_) (fun h54 => ?_)
        · refine x_iconst dX8_put_61 rfl ?_
          refine x_istore_n (L' := [some _, some _, some _, some _, none]) dX8_put_62 rfl (by decide) rfl ?_
          refine x_aload_n dX8_put_63 rfl rfl ?_
          refine x_bipush dX8_put_64 rfl ?_
          refine x_iload_n dX8_put_66 rfl rfl ?_
          first | refine x_iaddN dX8_put_67 (by unfold i32; omega) ?_ | refine x_iadd dX8_put_67 ?_
          refine x_iload_n dX8_put_68 rfl rfl ?_
          refine g_callI (vs := [_, _, _]) (d' := d - 1) rfl (s_X8_isTuned (M := mI M m 0 0) (by omega) hT hw (ActsOk.z hacts) (by omega)) dX8_put_69 kX8_446 (by omega) (by decide) rfl (Nat.le_of_ble_eq_true rfl) (rcv_o (by first | assumption | exact hT.2.1) rfl) (fun x69 M69 h69 => ?_)
          obtain ⟨e69, g69, hM69, r69, ha69, q69⟩ := h69
          subst hM69
          have hw := r69
          have e3 := e3 (by omega)
          refine x_istore (L' := [some _, some _, some _, some _, some _]) dX8_put_72 (by decide) rfl ?_
          refine x_iload_n dX8_put_74 rfl rfl ?_
          refine x_if_eq (tgt := 88) dX8_put_75 (by decide) (fun h75 => ?_) (fun h75 => ?_)
          · try simp only [vP_0, vP_1, vP_n0, vP_n1, Classical.not_not] at h75
            refine x_iload_n dX8_put_88 rfl rfl ?_
            refine x_if_eq (tgt := 96) dX8_put_89 (by decide) (fun h89 => ?_) (fun h89 => ?_)
            · refine x_iload dX8_put_96 rfl ?_
              refine x_ireturn rfl dX8_put_98 ?_
              first
              | exact absurd rfl h89
              | exact absurd h89 (by decide)
              | exact absurd h75 (by decide)
              | (refine hQ _ _ ⟨_, rfl, fun _ => ⟨?_, ?_⟩, fun q => absurd (by omega) q⟩
                 · unfold progAns
                   rw [if_neg (by omega)]
                 · rw [if_pos h54]
                   refine AC.tuned (g := mci (mI (wI (mI M m 0 0) g69) (m + 1) 3 (v 3 + 1))) hP (mciIs (M := wI (mI M m 0 0) g69) r69) (ha69.at (rdI_n (by omega)) (fun j => rdI_n (by omega))) fun a j x1 x2 x3 => (rdI_n (by omega)).trans (q69 a j x1 x2 x3))
              | (refine hQ _ _ ⟨_, rfl, fun _ => ⟨?_, ?_⟩, fun q => absurd (by omega) q⟩
                 · unfold progAns
                   rw [if_pos (by omega)]
                   exact e69
                 · rw [if_neg h54]
                   have eb : us (bootV (us v (12 + k) op)) 3 (v 3) = bootV (us v (12 + k) op) := by
                     conv => lhs; rw [← e3]
                     exact us_id
                   rw [eb]
                   exact AC.tuned hP r69 ha69 q69)
            · refine x_iconst dX8_put_92 rfl ?_
              refine x_goto (tgt := 98) dX8_put_93 (by decide) ?_
              refine x_ireturn rfl dX8_put_98 ?_
              first
              | exact absurd rfl h89
              | exact absurd h89 (by decide)
              | exact absurd h75 (by decide)
              | (refine hQ _ _ ⟨_, rfl, fun _ => ⟨?_, ?_⟩, fun q => absurd (by omega) q⟩
                 · unfold progAns
                   rw [if_neg (by omega)]
                 · rw [if_pos h54]
                   refine AC.tuned (g := mci (mI (wI (mI M m 0 0) g69) (m + 1) 3 (v 3 + 1))) hP (mciIs (M := wI (mI M m 0 0) g69) r69) (ha69.at (rdI_n (by omega)) (fun j => rdI_n (by omega))) fun a j x1 x2 x3 => (rdI_n (by omega)).trans (q69 a j x1 x2 x3))
              | (refine hQ _ _ ⟨_, rfl, fun _ => ⟨?_, ?_⟩, fun q => absurd (by omega) q⟩
                 · unfold progAns
                   rw [if_pos (by omega)]
                   exact e69
                 · rw [if_neg h54]
                   have eb : us (bootV (us v (12 + k) op)) 3 (v 3) = bootV (us v (12 + k) op) := by
                     conv => lhs; rw [← e3]
                     exact us_id
                   rw [eb]
                   exact AC.tuned hP r69 ha69 q69)
          · try simp only [vP_0, vP_1, vP_n0, vP_n1, Classical.not_not] at h75
            refine x_aload_n dX8_put_78 rfl rfl ?_
            refine g_getR (kI := 1) rfl dX8_put_79 fX8_13_8 (by first | assumption | exact hT.2.1) (by first | assumption | exact hT.2.1) ?_
            refine x_iconst dX8_put_82 rfl ?_
            refine x_dup2 dX8_put_83 rfl rfl ?_
            refine x_iald dX8_put_84 (by first | assumption | exact hT.2.1) (by omega) (by omega) ?_
            try simp (disch := omega) only [rdI_e, rdI_n, rdC_i, rdC_o, rdW, rdR, rdU_e, rdU_n, rdLW, Int.add_zero, hw, hw0, e3]
            refine x_iconst dX8_put_85 rfl ?_
            first | refine x_iaddN dX8_put_86 (by unfold i32; omega) ?_ | refine x_iadd dX8_put_86 ?_
            refine x_iast (by omega) dX8_put_87 (by first | assumption | exact hT.2.1) (by omega) (by omega) ?_
            refine x_iload_n dX8_put_88 rfl rfl ?_
            refine x_if_eq (tgt := 96) dX8_put_89 (by decide) (fun h89 => ?_) (fun h89 => ?_)
            · refine x_iload dX8_put_96 rfl ?_
              refine x_ireturn rfl dX8_put_98 ?_
              first
              | exact absurd rfl h89
              | exact absurd h89 (by decide)
              | exact absurd h75 (by decide)
              | (refine hQ _ _ ⟨_, rfl, fun _ => ⟨?_, ?_⟩, fun q => absurd (by omega) q⟩
                 · unfold progAns
                   rw [if_neg (by omega)]
                 · rw [if_pos h54]
                   refine AC.tuned (g := mci (mI (wI (mI M m 0 0) g69) (m + 1) 3 (v 3 + 1))) hP (mciIs (M := wI (mI M m 0 0) g69) r69) (ha69.at (rdI_n (by omega)) (fun j => rdI_n (by omega))) fun a j x1 x2 x3 => (rdI_n (by omega)).trans (q69 a j x1 x2 x3))
              | (refine hQ _ _ ⟨_, rfl, fun _ => ⟨?_, ?_⟩, fun q => absurd (by omega) q⟩
                 · unfold progAns
                   rw [if_pos (by omega)]
                   exact e69
                 · rw [if_neg h54]
                   have eb : us (bootV (us v (12 + k) op)) 3 (v 3) = bootV (us v (12 + k) op) := by
                     conv => lhs; rw [← e3]
                     exact us_id
                   rw [eb]
                   exact AC.tuned hP r69 ha69 q69)
            · refine x_iconst dX8_put_92 rfl ?_
              refine x_goto (tgt := 98) dX8_put_93 (by decide) ?_
              refine x_ireturn rfl dX8_put_98 ?_
              first
              | exact absurd rfl h89
              | exact absurd h89 (by decide)
              | exact absurd h75 (by decide)
              | (refine hQ _ _ ⟨_, rfl, fun _ => ⟨?_, ?_⟩, fun q => absurd (by omega) q⟩
                 · unfold progAns
                   rw [if_neg (by omega)]
                 · rw [if_pos h54]
                   refine AC.tuned (g := mci (mI (wI (mI M m 0 0) g69) (m + 1) 3 (v 3 + 1))) hP (mciIs (M := wI (mI M m 0 0) g69) r69) (ha69.at (rdI_n (by omega)) (fun j => rdI_n (by omega))) fun a j x1 x2 x3 => (rdI_n (by omega)).trans (q69 a j x1 x2 x3))
              | (refine hQ _ _ ⟨_, rfl, fun _ => ⟨?_, ?_⟩, fun q => absurd (by omega) q⟩
                 · unfold progAns
                   rw [if_pos (by omega)]
                   exact e69
                 · rw [if_neg h54]
                   have eb : us (bootV (us v (12 + k) op)) 3 (v 3) = bootV (us v (12 + k) op) := by
                     conv => lhs; rw [← e3]
                     exact us_id
                   rw [eb]
                   exact AC.tuned hP r69 ha69 q69)
        · refine x_iconst dX8_put_57 rfl ?_
          refine x_goto (tgt := 62) dX8_put_58 (by decide) ?_
          refine x_istore_n (L' := [some _, some _, some _, some _, none]) dX8_put_62 rfl (by decide) rfl ?_
          refine x_aload_n dX8_put_63 rfl rfl ?_
          refine x_bipush dX8_put_64 rfl ?_
          refine x_iload_n dX8_put_66 rfl rfl ?_
          first | refine x_iaddN dX8_put_67 (by unfold i32; omega) ?_ | refine x_iadd dX8_put_67 ?_
          refine x_iload_n dX8_put_68 rfl rfl ?_
          refine g_callI (vs := [_, _, _]) (d' := d - 1) rfl (s_X8_isTuned (M := mI M m 0 0) (by omega) hT hw (ActsOk.z hacts) (by omega)) dX8_put_69 kX8_446 (by omega) (by decide) rfl (Nat.le_of_ble_eq_true rfl) (rcv_o (by first | assumption | exact hT.2.1) rfl) (fun x69 M69 h69 => ?_)
          obtain ⟨e69, g69, hM69, r69, ha69, q69⟩ := h69
          subst hM69
          have hw := r69
          have e3 := e3 (by omega)
          refine x_istore (L' := [some _, some _, some _, some _, some _]) dX8_put_72 (by decide) rfl ?_
          refine x_iload_n dX8_put_74 rfl rfl ?_
          refine x_if_eq (tgt := 88) dX8_put_75 (by decide) (fun h75 => ?_) (fun h75 => ?_)
          · try simp only [vP_0, vP_1, vP_n0, vP_n1, Classical.not_not] at h75
            refine x_iload_n dX8_put_88 rfl rfl ?_
            refine x_if_eq (tgt := 96) dX8_put_89 (by decide) (fun h89 => ?_) (fun h89 => ?_)
            · refine x_iload dX8_put_96 rfl ?_
              refine x_ireturn rfl dX8_put_98 ?_
              first
              | exact absurd rfl h89
              | exact absurd h89 (by decide)
              | exact absurd h75 (by decide)
              | (refine hQ _ _ ⟨_, rfl, fun _ => ⟨?_, ?_⟩, fun q => absurd (by omega) q⟩
                 · unfold progAns
                   rw [if_neg (by omega)]
                 · rw [if_pos h54]
                   refine AC.tuned (g := mci (mI (wI (mI M m 0 0) g69) (m + 1) 3 (v 3 + 1))) hP (mciIs (M := wI (mI M m 0 0) g69) r69) (ha69.at (rdI_n (by omega)) (fun j => rdI_n (by omega))) fun a j x1 x2 x3 => (rdI_n (by omega)).trans (q69 a j x1 x2 x3))
              | (refine hQ _ _ ⟨_, rfl, fun _ => ⟨?_, ?_⟩, fun q => absurd (by omega) q⟩
                 · unfold progAns
                   rw [if_pos (by omega)]
                   exact e69
                 · rw [if_neg h54]
                   have eb : us (bootV (us v (12 + k) op)) 3 (v 3) = bootV (us v (12 + k) op) := by
                     conv => lhs; rw [← e3]
                     exact us_id
                   rw [eb]
                   exact AC.tuned hP r69 ha69 q69)
            · refine x_iconst dX8_put_92 rfl ?_
              refine x_goto (tgt := 98) dX8_put_93 (by decide) ?_
              refine x_ireturn rfl dX8_put_98 ?_
              first
              | exact absurd rfl h89
              | exact absurd h89 (by decide)
              | exact absurd h75 (by decide)
              | (refine hQ _ _ ⟨_, rfl, fun _ => ⟨?_, ?_⟩, fun q => absurd (by omega) q⟩
                 · unfold progAns
                   rw [if_neg (by omega)]
                 · rw [if_pos h54]
                   refine AC.tuned (g := mci (mI (wI (mI M m 0 0) g69) (m + 1) 3 (v 3 + 1))) hP (mciIs (M := wI (mI M m 0 0) g69) r69) (ha69.at (rdI_n (by omega)) (fun j => rdI_n (by omega))) fun a j x1 x2 x3 => (rdI_n (by omega)).trans (q69 a j x1 x2 x3))
              | (refine hQ _ _ ⟨_, rfl, fun _ => ⟨?_, ?_⟩, fun q => absurd (by omega) q⟩
                 · unfold progAns
                   rw [if_pos (by omega)]
                   exact e69
                 · rw [if_neg h54]
                   have eb : us (bootV (us v (12 + k) op)) 3 (v 3) = bootV (us v (12 + k) op) := by
                     conv => lhs; rw [← e3]
                     exact us_id
                   rw [eb]
                   exact AC.tuned hP r69 ha69 q69)
          · try simp only [vP_0, vP_1, vP_n0, vP_n1, Classical.not_not] at h75
            refine x_aload_n dX8_put_78 rfl rfl ?_
            refine g_getR (kI := 1) rfl dX8_put_79 fX8_13_8 (by first | assumption | exact hT.2.1) (by first | assumption | exact hT.2.1) ?_
            refine x_iconst dX8_put_82 rfl ?_
            refine x_dup2 dX8_put_83 rfl rfl ?_
            refine x_iald dX8_put_84 (by first | assumption | exact hT.2.1) (by omega) (by omega) ?_
            try simp (disch := omega) only [rdI_e, rdI_n, rdC_i, rdC_o, rdW, rdR, rdU_e, rdU_n, rdLW, Int.add_zero, hw, hw0, e3]
            refine x_iconst dX8_put_85 rfl ?_
            first | refine x_iaddN dX8_put_86 (by unfold i32; omega) ?_ | refine x_iadd dX8_put_86 ?_
            refine x_iast (by omega) dX8_put_87 (by first | assumption | exact hT.2.1) (by omega) (by omega) ?_
            refine x_iload_n dX8_put_88 rfl rfl ?_
            refine x_if_eq (tgt := 96) dX8_put_89 (by decide) (fun h89 => ?_) (fun h89 => ?_)
            · refine x_iload dX8_put_96 rfl ?_
              refine x_ireturn rfl dX8_put_98 ?_
              first
              | exact absurd rfl h89
              | exact absurd h89 (by decide)
              | exact absurd h75 (by decide)
              | (refine hQ _ _ ⟨_, rfl, fun _ => ⟨?_, ?_⟩, fun q => absurd (by omega) q⟩
                 · unfold progAns
                   rw [if_neg (by omega)]
                 · rw [if_pos h54]
                   refine AC.tuned (g := mci (mI (wI (mI M m 0 0) g69) (m + 1) 3 (v 3 + 1))) hP (mciIs (M := wI (mI M m 0 0) g69) r69) (ha69.at (rdI_n (by omega)) (fun j => rdI_n (by omega))) fun a j x1 x2 x3 => (rdI_n (by omega)).trans (q69 a j x1 x2 x3))
              | (refine hQ _ _ ⟨_, rfl, fun _ => ⟨?_, ?_⟩, fun q => absurd (by omega) q⟩
                 · unfold progAns
                   rw [if_pos (by omega)]
                   exact e69
                 · rw [if_neg h54]
                   have eb : us (bootV (us v (12 + k) op)) 3 (v 3) = bootV (us v (12 + k) op) := by
                     conv => lhs; rw [← e3]
                     exact us_id
                   rw [eb]
                   exact AC.tuned hP r69 ha69 q69)
            · refine x_iconst dX8_put_92 rfl ?_
              refine x_goto (tgt := 98) dX8_put_93 (by decide) ?_
              refine x_ireturn rfl dX8_put_98 ?_
              first
              | exact absurd rfl h89
              | exact absurd h89 (by decide)
              | exact absurd h75 (by decide)
              | (refine hQ _ _ ⟨_, rfl, fun _ => ⟨?_, ?_⟩, fun q => absurd (by omega) q⟩
                 · unfold progAns
                   rw [if_neg (by omega)]
                 · rw [if_pos h54]
                   refine AC.tuned (g := mci (mI (wI (mI M m 0 0) g69) (m + 1) 3 (v 3 + 1))) hP (mciIs (M := wI (mI M m 0 0) g69) r69) (ha69.at (rdI_n (by omega)) (fun j => rdI_n (by omega))) fun a j x1 x2 x3 => (rdI_n (by omega)).trans (q69 a j x1 x2 x3))
              | (refine hQ _ _ ⟨_, rfl, fun _ => ⟨?_, ?_⟩, fun q => absurd (by omega) q⟩
                 · unfold progAns
                   rw [if_pos (by omega)]
                   exact e69
                 · rw [if_neg h54]
                   have eb : us (bootV (us v (12 + k) op)) 3 (v 3) = bootV (us v (12 + k) op) := by
                     conv => lhs; rw [← e3]
                     exact us_id
                   rw [eb]
                   exact AC.tuned hP r69 ha69 q69)
      · exact absurd h42 (by decide)
    · try simp only [vP_0, vP_1, vP_n0, vP_n1, Classical.not_not] at h30
      refine x_iconst dX8_put_33 rfl ?_
      refine x_goto (tgt := 38) dX8_put_34 (by decide) ?_
      refine x_iconst dX8_put_38 rfl ?_
      refine g_callI (vs := [_, _, _]) (d' := d - 1) rfl (s_X8_throwsIf (by omega) hT (by first | omega | exact vP_r _)) dX8_put_39 kX8_280 (by omega) (by decide) rfl (Nat.le_of_ble_eq_true rfl) (rcv_o (by first | assumption | exact hT.2.1) rfl) (fun x39 M39 h39 => ?_)
      obtain ⟨e39, r39, f39⟩ := h39
      have f39' := (f39.2 (by omega)).symm
      subst f39'
      subst e39
      refine x_if_eq (tgt := 47) dX8_put_42 (by decide) (fun h42 => ?_) (fun h42 => ?_)
      · exact absurd h42 (by decide)
      · try simp only [vP_0, vP_1, vP_n0, vP_n1, Classical.not_not] at h42
        refine x_iconst dX8_put_45 rfl ?_
        refine x_ireturn rfl dX8_put_46 ?_
        exact hQ _ _ ⟨_, rfl, fun q => absurd q (by omega), fun _ => RD.t hP⟩
theorem s_X8_ticks (hd : 21 ≤ d) (hP : TP M m v) (hacts : ActsOk (mci M) m n A) : CS G d mX8_ticks [dR m, dI k] M (postI fun y M1 => (1 ≤ k ∧ k ≤ 60 → y = cntT v True k.toNat ∧ AC M m n A v (goT v True k.toNat) M1) ∧ (¬ (1 ≤ k ∧ k ≤ 60) → RD M m 1 M1)) := by
  obtain ⟨hT, hw, hA, hL, hK, hsk⟩ := id hP
  have hT_ := hT; obtain ⟨p0, p1, ⟨c1, c2, c3, c4, c5, c6, c7, c8, c9, c10, c11, c12, c13, c14, c15⟩, ⟨t1, t2, t3, t4, t5, t6, t7, t8, t9, t10, t11, t12, t13, t14, t15⟩⟩ := hT_
  refine CS.mkQ (by decide) (Nat.le_of_ble_eq_true rfl) fun Q hQ => ?_
  refine x_aload_n dX8_ticks_0 rfl rfl ?_
  refine x_iconst dX8_ticks_1 rfl ?_
  refine g_putI (kI := 0) rfl dX8_ticks_2 fX8_3_8 (by first | assumption | exact hT.2.1) ?_
  obtain ⟨hT, hw, hA, hL, hK, hsk⟩ := TP.z (x := 0) hP
  refine x_aload_n dX8_ticks_5 rfl rfl ?_
  refine x_iload_n dX8_ticks_6 rfl rfl ?_
  refine x_iconst dX8_ticks_7 rfl ?_
  refine x_bipush dX8_ticks_8 rfl ?_
  refine g_callI (vs := [_, _, _]) (d' := d - 1) rfl (s_X8_in (by omega)) dX8_ticks_10 kX8_88 (by omega) (by decide) rfl (Nat.le_of_ble_eq_true rfl) (rcv_n) (fun x10 M10 h10 => ?_)
  obtain ⟨e10, f10⟩ := h10
  have f10' := f10.symm
  subst f10'
  subst e10
  refine x_if_ne (tgt := 20) dX8_ticks_13 (by decide) (fun h13 => ?_) (fun h13 => ?_)
  · try simp only [vP_0, vP_1, vP_n0, vP_n1, Classical.not_not] at h13
    refine x_iconst dX8_ticks_20 rfl ?_
    refine x_iconst dX8_ticks_21 rfl ?_
    refine g_callI (vs := [_, _, _]) (d' := d - 1) rfl (s_X8_throwsIf (by omega) hT (by first | omega | exact vP_r _)) dX8_ticks_22 kX8_280 (by omega) (by decide) rfl (Nat.le_of_ble_eq_true rfl) (rcv_o (by first | assumption | exact hT.2.1) rfl) (fun x22 M22 h22 => ?_)
    obtain ⟨e22, r22, f22⟩ := h22
    have f22' := (f22.1 (by omega)).symm
    subst f22'
    subst e22
    refine x_if_eq (tgt := 30) dX8_ticks_25 (by decide) (fun h25 => ?_) (fun h25 => ?_)
    · try simp only [vP_0, vP_1, vP_n0, vP_n1, Classical.not_not] at h25
      refine x_aload_n dX8_ticks_30 rfl rfl ?_
      refine g_callN (vs := [_]) (d' := d - 1) rfl (s_X8_remembers (M := mI M m 0 0) (by omega) hT hw (ActsOk.z hacts)) dX8_ticks_31 kX8_439 (by omega) (by decide) rfl (Nat.le_of_ble_eq_true rfl) (rcv_o (by first | assumption | exact hT.2.1) rfl) (fun M31 h31 => ?_)
      obtain ⟨g31, hM31, ha31, q31⟩ := h31
      subst hM31
      have hw1 : g31 (m + 1) = v := (funext fun j => q31 _ _ (by omega) (by omega)).trans hw
      have hs1 : sk01 g31 m := by
        unfold sk01 at hsk ⊢
        rw [q31 _ _ (by omega) (by omega)]
        exact hsk
      refine x_aload_n dX8_ticks_34 rfl rfl ?_
      refine x_iload_n dX8_ticks_35 rfl rfl ?_
      refine x_iconst dX8_ticks_36 rfl ?_
      refine g_callI (vs := [_, _, _]) (d' := d - 1) rfl (s_X8_goesOn (M := wI (mI M m 0 0) g31) (by omega) hT hw1 hA hL (KnOk.at hK (fun p => q31 _ _ (by omega) (by omega)) (fun p => rfl)) hs1 (by omega) (Or.inl rfl)) dX8_ticks_37 kX8_442 (by omega) (by decide) rfl (Nat.le_of_ble_eq_true rfl) (rcv_o (by first | assumption | exact hT.2.1) rfl) (fun x37 M37 h37 => ?_)
      obtain ⟨e37, g37, l37, hM37, r37, q37, y37, hK37, hTr37, hsk37⟩ := h37
      refine x_ireturn rfl dX8_ticks_40 ?_
      have e0 : ((0 : Int) = 0) = True := by simp
      rw [e0] at e37 r37
      refine hQ _ _ ⟨_, rfl, fun _ => ⟨e37, ?_⟩, fun q => absurd (by omega) q⟩
      rw [hM37]
      exact ⟨g37, l37, rfl, (q37 _ _ (by omega) (by omega) (by unfold scr; omega)).trans ((q31 _ _ (by omega) (by omega)).trans (rdI_e ⟨rfl, rfl⟩)), r37, ha31.at (q37 _ _ (by omega) (by omega) (by unfold scr; omega)) (fun j => q37 _ _ (by omega) (by omega) (by unfold scr; omega)), fun a j x1 x2 x3 x4 x5 x6 x7 x8 x9 x10 x11 => (q37 a j x2 x8 x5).trans ((q31 a j x3 x4).trans (rdI_n x1)), y37.tm, hK37, hsk37⟩
    · exact absurd h25 (by decide)
  · try simp only [vP_0, vP_1, vP_n0, vP_n1, Classical.not_not] at h13
    refine x_iconst dX8_ticks_16 rfl ?_
    refine x_goto (tgt := 21) dX8_ticks_17 (by decide) ?_
    refine x_iconst dX8_ticks_21 rfl ?_
    refine g_callI (vs := [_, _, _]) (d' := d - 1) rfl (s_X8_throwsIf (by omega) hT (by first | omega | exact vP_r _)) dX8_ticks_22 kX8_280 (by omega) (by decide) rfl (Nat.le_of_ble_eq_true rfl) (rcv_o (by first | assumption | exact hT.2.1) rfl) (fun x22 M22 h22 => ?_)
    obtain ⟨e22, r22, f22⟩ := h22
    have f22' := (f22.2 (by omega)).symm
    subst f22'
    subst e22
    refine x_if_eq (tgt := 30) dX8_ticks_25 (by decide) (fun h25 => ?_) (fun h25 => ?_)
    · exact absurd h25 (by decide)
    · try simp only [vP_0, vP_1, vP_n0, vP_n1, Classical.not_not] at h25
      refine x_iconst dX8_ticks_28 rfl ?_
      refine x_ireturn rfl dX8_ticks_29 ?_
      exact hQ _ _ ⟨_, rfl, fun q => absurd q (by omega), fun _ => RD.t hP⟩
theorem s_X8_seed {x : Int} (hd : 10 ≤ d) (hP : TP M m v) : CS G d mX8_seed [dR m, dI x] M (postI fun y M1 => y = v 11 ∧ M1 = mI (mI M m 0 0) (m + 1) 11 x) := by
  obtain ⟨hT, hw, hA, hL, hK, hsk⟩ := id hP
  have hT_ := hT; obtain ⟨p0, p1, ⟨c1, c2, c3, c4, c5, c6, c7, c8, c9, c10, c11, c12, c13, c14, c15⟩, ⟨t1, t2, t3, t4, t5, t6, t7, t8, t9, t10, t11, t12, t13, t14, t15⟩⟩ := hT_
  refine CS.mkQ (by decide) (Nat.le_of_ble_eq_true rfl) fun Q hQ => ?_
  refine x_aload_n dX8_seed_0 rfl rfl ?_
  refine x_iconst dX8_seed_1 rfl ?_
  refine g_putI (kI := 0) rfl dX8_seed_2 fX8_3_8 (by first | assumption | exact hT.2.1) ?_
  refine x_aload_n dX8_seed_5 rfl rfl ?_
  refine g_getR (kI := 1) rfl dX8_seed_6 fX8_13_8 (by first | assumption | exact hT.2.1) (by first | assumption | exact hT.2.1) ?_
  refine x_bipush dX8_seed_9 rfl ?_
  refine x_iald dX8_seed_11 (by first | assumption | exact hT.2.1) (by omega) (by omega) ?_
  try simp (disch := omega) only [rdI_e, rdI_n, rdC_i, rdC_o, rdW, rdR, rdU_e, rdU_n, rdLW, Int.add_zero, hw]
  refine x_istore_n (L' := [some _, some _, some _]) dX8_seed_12 rfl (by decide) rfl ?_
  refine x_aload_n dX8_seed_13 rfl rfl ?_
  refine g_getR (kI := 1) rfl dX8_seed_14 fX8_13_8 (by first | assumption | exact hT.2.1) (by first | assumption | exact hT.2.1) ?_
  refine x_bipush dX8_seed_17 rfl ?_
  refine x_iload_n dX8_seed_19 rfl rfl ?_
  refine x_iast (by omega) dX8_seed_20 (by first | assumption | exact hT.2.1) (by omega) (by omega) ?_
  refine x_iload_n dX8_seed_21 rfl rfl ?_
  refine x_ireturn rfl dX8_seed_22 ?_
  exact hQ _ _ ⟨_, rfl, rfl, rfl⟩
theorem s_X8_undo_0 (hd : 10 ≤ d) (hT : TwS (msh M) (mcr M) m) (h7 : mci M m 7 = 0) : CS G d mX8_undo [dR m] M (postI fun x M1 => x = 0 ∧ M1 = mI M m 0 0) := by
  have hT_ := hT; obtain ⟨p0, p1, ⟨c1, c2, c3, c4, c5, c6, c7, c8, c9, c10, c11, c12, c13, c14, c15⟩, ⟨t1, t2, t3, t4, t5, t6, t7, t8, t9, t10, t11, t12, t13, t14, t15⟩⟩ := hT_
  refine CS.mkQ (by decide) (Nat.le_of_ble_eq_true rfl) fun Q hQ => ?_
  refine x_aload_n dX8_undo_0 rfl rfl ?_
  refine x_iconst dX8_undo_1 rfl ?_
  refine g_putI (kI := 0) rfl dX8_undo_2 fX8_3_8 (by first | assumption | exact hT.2.1) ?_
  refine x_aload_n dX8_undo_5 rfl rfl ?_
  refine g_getI (kI := 7) rfl dX8_undo_6 fX8_71_8 (by first | assumption | exact hT.2.1) ?_
  try simp (disch := omega) only [rdI_e, rdI_n, rdC_i, rdC_o, rdW, rdR, rdU_e, rdU_n, rdLW, Int.add_zero, h7]
  refine x_if_ne (tgt := 14) dX8_undo_9 (by decide) (fun h9 => ?_) (fun h9 => ?_)
  · exact absurd rfl h9
  · refine x_iconst dX8_undo_12 rfl ?_
    refine x_zreturn (by first | exact Or.inl rfl | exact Or.inr rfl | exact vB_r _ | exact vP_r _ | assumption | omega) rfl dX8_undo_13 ?_
    exact hQ _ _ ⟨_, rfl, rfl, rfl⟩
theorem s_X8_undo_1 (hd : 10 ≤ d) (hT : TwS (msh M) (mcr M) m) (h7 : mci M m 7 = n) (hn : 1 ≤ n ∧ n ≤ 12) : CS G d mX8_undo [dR m] M (postI fun x M1 => x = 1 ∧ M1 = mC (mI (mI M m 0 0) m 7 (n - 1)) (m + 5) (368 * (n - 1)) (m + 1) 0 368) := by
  have hT_ := hT; obtain ⟨p0, p1, ⟨c1, c2, c3, c4, c5, c6, c7, c8, c9, c10, c11, c12, c13, c14, c15⟩, ⟨t1, t2, t3, t4, t5, t6, t7, t8, t9, t10, t11, t12, t13, t14, t15⟩⟩ := hT_
  refine CS.mkQ (by decide) (Nat.le_of_ble_eq_true rfl) fun Q hQ => ?_
  have loop : ∀ (t : Nat) (k : Int), (368 - k).toNat = t → (0 ≤ k) → (k ≤ 368) → WP G d mX8_undo 26 [some (dR m), some (dI k)] [] (mC (mI (mI M m 0 0) m 7 (n - 1)) (m + 5) (368 * (n - 1)) (m + 1) 0 k) Q := by
    intro t
    induction t using Nat.strongRecOn with
    | _ t ih =>
      intro k ht h0 h1
      refine x_iload_n dX8_undo_26 rfl rfl ?_
      refine x_sipush dX8_undo_27 rfl ?_
      refine x_icmp_ge (tgt := 60) dX8_undo_30 (by decide) (fun h30 => ?_) (fun h30 => ?_)
      · refine x_iconst dX8_undo_60 rfl ?_
        refine x_zreturn (by first | exact Or.inl rfl | exact Or.inr rfl | exact vB_r _ | exact vP_r _ | assumption | omega) rfl dX8_undo_61 ?_
        exact hQ _ _ ⟨_, rfl, rfl, by rw [show k = 368 by omega]⟩
      · refine x_aload_n dX8_undo_33 rfl rfl ?_
        refine g_getR (kI := 1) rfl dX8_undo_34 fX8_13_8 (by first | assumption | exact hT.2.1) (by first | assumption | exact hT.2.1) ?_
        refine x_iload_n dX8_undo_37 rfl rfl ?_
        refine x_aload_n dX8_undo_38 rfl rfl ?_
        refine g_getR (kI := 5) rfl dX8_undo_39 fX8_26_8 (by first | assumption | exact hT.2.1) (by first | assumption | exact hT.2.1) ?_
        refine x_sipush dX8_undo_42 rfl ?_
        refine x_aload_n dX8_undo_45 rfl rfl ?_
        refine g_getI (kI := 7) rfl dX8_undo_46 fX8_71_8 (by first | assumption | exact hT.2.1) ?_
        try simp (disch := omega) only [rdI_e, rdI_n, rdC_i, rdC_o, rdW, rdR, rdU_e, rdU_n, rdLW, Int.add_zero]
        first | refine x_imulN dX8_undo_49 (by unfold i32; omega) ?_ | refine x_imul dX8_undo_49 ?_
        refine x_iload_n dX8_undo_50 rfl rfl ?_
        first | refine x_iaddN dX8_undo_51 (by unfold i32; omega) ?_ | refine x_iadd dX8_undo_51 ?_
        refine x_iald dX8_undo_52 (by first | assumption | exact hT.2.1) (by omega) (by omega) ?_
        try simp (disch := omega) only [rdI_e, rdI_n, rdC_i, rdC_o, rdW, rdR, rdU_e, rdU_n, rdLW, Int.add_zero]
        refine x_iast (by omega) dX8_undo_53 (by first | assumption | exact hT.2.1) (by omega) (by omega) ?_
        first | refine x_iincN (L' := [some _, some _]) dX8_undo_54 rfl (by decide) (by unfold i32; omega) rfl ?_ | refine x_iinc (L' := [some _, some _]) dX8_undo_54 rfl (by decide) rfl ?_
        refine x_goto (tgt := 26) dX8_undo_57 (by decide) ?_
        exact WP.mem (mC_s (by omega) ((rdI_n (by omega)).trans (rdI_n (by omega))).symm (by omega)) (ih _ (by omega) (k + 1) rfl (by omega) (by omega))
  refine x_aload_n dX8_undo_0 rfl rfl ?_
  refine x_iconst dX8_undo_1 rfl ?_
  refine g_putI (kI := 0) rfl dX8_undo_2 fX8_3_8 (by first | assumption | exact hT.2.1) ?_
  refine x_aload_n dX8_undo_5 rfl rfl ?_
  refine g_getI (kI := 7) rfl dX8_undo_6 fX8_71_8 (by first | assumption | exact hT.2.1) ?_
  try simp (disch := omega) only [rdI_e, rdI_n, rdC_i, rdC_o, rdW, rdR, rdU_e, rdU_n, rdLW, Int.add_zero, h7]
  refine x_if_ne (tgt := 14) dX8_undo_9 (by decide) (fun h9 => ?_) (fun h9 => ?_)
  · refine x_aload_n dX8_undo_14 rfl rfl ?_
    refine x_dup dX8_undo_15 rfl ?_
    refine g_getI (kI := 7) rfl dX8_undo_16 fX8_71_8 (by first | assumption | exact hT.2.1) ?_
    try simp (disch := omega) only [rdI_e, rdI_n, rdC_i, rdC_o, rdW, rdR, rdU_e, rdU_n, rdLW, Int.add_zero, h7]
    refine x_iconst dX8_undo_19 rfl ?_
    first | refine x_isubN dX8_undo_20 (by unfold i32; omega) ?_ | refine x_isub dX8_undo_20 ?_
    refine g_putI (kI := 7) rfl dX8_undo_21 fX8_71_8 (by first | assumption | exact hT.2.1) ?_
    refine x_iconst dX8_undo_24 rfl ?_
    refine x_istore_n (L' := [some _, some _]) dX8_undo_25 rfl (by decide) rfl ?_
    exact WP.mem mC_0.symm (loop _ 0 rfl (by omega) (by omega))
  · omega
end X8

