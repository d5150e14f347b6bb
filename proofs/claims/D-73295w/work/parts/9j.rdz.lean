/-! GuestViewModel: a bench, a law are read -/
theorem lawV_r {v u : Vw} {n k : Int} (h : ¬ (368 ≤ k ∧ k < 1217)) (h2 : ¬ k = 2) : lawV v n u k = drf v (us u 368 n) k := by
  unfold lawV
  rw [us_n h2]
  exact if_neg h
section X8
variable {G : GW} {d : Nat} {M : Mem} {m a b c p k i what n st pc op hi sz fa : Int} {v vi : Vw} {A : Int → Vw} {tp : Int → Int}
/-- what a call leaves that reads: numbers of the reference, its bench, the bench before -/
def RdF (M : Mem) (m : Int) (g : Ci) : Prop := ∀ a k, ¬ a = m + 1 → ¬ a = m + 3 → ¬ (a = m ∧ (k = 0 ∨ k = 7 ∨ (9 ≤ k ∧ k ≤ 14) ∨ k = 16)) → g a k = mci M a k
theorem TI.rdf {g : Ci} {v' : Vw} {n' f' : Int} {A' : Int → Vw} (h : TI M m v n A hi vi tp sz fa) (hg : RdF M m g) (hw : g (m + 1) = v') (h7 : g m 7 = n') (hn : n' = n ∧ A' = A ∨ n' = 0) (h9 : g m 9 = 0) (h14 : g m 14 = f') (hA : okA v') (hL : lawOK v') : TI (wI M g) m v' n' A' hi vi tp 0 f' ∧ TR m M (wI M g) := by
  obtain ⟨⟨p1, p2, p3, p4, p5, p6⟩, ⟨s1, s2, s3⟩, ⟨⟨a1, a2⟩, b, c, ⟨d1, d2⟩, e⟩⟩ := h
  refine ⟨⟨⟨p1, hw, hA, hL, KnOk.at p5 (fun p => hg _ _ (by omega) (by omega) (by omega)) (fun p => rfl), sk01.at p6 (hg _ _ (by omega) (by omega) (by omega))⟩, ⟨h7, ?_, fun r k r0 r1 k0 k1 => ?_⟩, ⟨⟨(hg _ _ (by omega) (by omega) (by omega)).trans a1, a2⟩, fun q k k0 k1 => (hg _ _ (by omega) (by omega) (by omega)).trans (b q k k0 k1), (funext fun k => hg _ _ (by omega) (by omega) (by omega)).trans c, ⟨h9, by omega⟩, h14⟩⟩, ⟨g, mcl M, rfl, fun a k q => hg a k (by omega) (by omega) (by omega), fun a k q => rfl⟩⟩
  · rcases hn with ⟨e1, -⟩ | e1 <;> omega
  · rcases hn with ⟨e1, e2⟩ | e1
    · subst e2
      exact (hg _ _ (by omega) (by omega) (by omega)).trans (s3 r k r0 (by omega) k0 k1)
    · omega
theorem s_X8_bench (hd : 30 ≤ d) (hI : TI M m v n A hi vi tp sz fa) (hX : TxS M) : CS G d mX8_bench [dR m] M (postI fun x M1 => (∀ f, rBench tp sz v = .inl f → TI M1 m v n A hi vi tp 0 f ∧ mci M1 m 0 = 1 ∧ TR m M M1) ∧ ∀ y, rBench tp sz v = .inr y → (v 1 = 12 → TI M1 m v n A hi vi tp 0 (-1) ∧ mci M1 m 0 = 2 ∧ TR m M M1) ∧ (¬ v 1 = 12 → x = v 1 + 1 ∧ TI M1 m (bootV (us y.2 1 (v 1 + 1))) 0 A hi vi tp 0 (-1) ∧ mci M1 m 0 = 0 ∧ TR m M M1)) := by
  obtain ⟨⟨hT, hw, hA, hL, hK, hsk⟩, hacts, hrest⟩ := id hI
  have hv := hA.1
  have hv1 := hv.2.1
  have hm0 : 0 ≤ m := hT.1
  obtain ⟨⟨a1, a2⟩, a3, ht6, ⟨h9, hsz⟩, h14⟩ := id hrest
  have hT_ := hT; obtain ⟨p0, p1, ⟨c1, c2, c3, c4, c5, c6, c7, c8, c9, c10, c11, c12, c13, c14, c15⟩, ⟨t1, t2, t3, t4, t5, t6, t7, t8, t9, t10, t11, t12, t13, t14, t15⟩⟩ := hT_
  have hwk : ∀ k, mci M (m + 1) k = v k := fun k => congrFun hw k
  refine CS.mkQ (by decide) (Nat.le_of_ble_eq_true rfl) fun Q hQ => ?_
  -- all is brought back
  have back : ∀ (x : Int) (g : Ci) (f code : Int), RdF M m g → (∀ k, 0 ≤ k → k < 1217 → g (m + 3) k = v k) → (∀ k, k < 0 ∨ 1217 ≤ k → g (m + 1) k = v k) → g m 7 = n → g m 9 = 0 → g m 14 = f → g m 0 = code → (∀ M1, TI M1 m v n A hi vi tp 0 f → mci M1 m 0 = code → TR m M M1 → Q (rV (dI 0)) M1) → WP G d mX8_bench 90 [some (dR m), some (dI x), none] [] (wI M g) Q := by
    intro x g f code hg g3 g1 g7 g9 g14 g0 hq
    have lp : ∀ (t : Nat) (k : Int), (1217 - k).toNat = t → (0 ≤ k) → (k ≤ 1217) → WP G d mX8_bench 92 [some (dR m), some (dI x), some (dI k)] [] (mC (wI M g) (m + 3) 0 (m + 1) 0 k) Q := by
      intro t
      induction t using Nat.strongRecOn with
      | _ t ih =>
        intro k ht k0 k1
        refine x_iload_n dX8_bench_92 rfl rfl ?_
        refine x_sipush dX8_bench_93 rfl ?_
        refine x_icmp_ge (tgt := 117) dX8_bench_96 (by decide) (fun h96 => ?_) (fun h96 => ?_)
        · refine x_iconst dX8_bench_117 rfl ?_
          refine x_ireturn rfl dX8_bench_118 ?_
          have hk : k = 1217 := by omega
          subst hk
          have ew : mci (mC (wI M g) (m + 3) 0 (m + 1) 0 1217) (m + 1) = v := funext fun j => by
            by_cases q : 0 ≤ j ∧ j < 1217
            · refine (rdC_i (by omega)).trans ?_
              rw [show (0 : Int) + (j - 0) = j by omega]
              exact g3 j q.1 q.2
            · exact (rdC_o (by omega)).trans (g1 j (by omega))
          have hr := hI.rdf (g := mci (mC (wI M g) (m + 3) 0 (m + 1) 0 1217)) (f' := f) (A' := A) (fun a k q1 q2 q3 => (rdC_o (by omega)).trans (hg a k q1 q2 q3)) ew ((rdC_o (by omega)).trans g7) (Or.inl ⟨rfl, rfl⟩) ((rdC_o (by omega)).trans g9) ((rdC_o (by omega)).trans g14) hA hL
          exact hq _ hr.1 ((rdC_o (by omega)).trans g0) hr.2
        · refine x_aload_n dX8_bench_99 rfl rfl ?_
          refine g_getR (kI := 1) rfl dX8_bench_100 fX8_13_8 (by first | assumption | exact hT.2.1) (by first | assumption | exact hT.2.1) ?_
          refine x_iload_n dX8_bench_103 rfl rfl ?_
          refine x_aload_n dX8_bench_104 rfl rfl ?_
          refine g_getR (kI := 3) rfl dX8_bench_105 fX8_20_8 (by first | assumption | exact hT.2.1) (by first | assumption | exact hT.2.1) ?_
          refine x_iload_n dX8_bench_108 rfl rfl ?_
          refine x_iald dX8_bench_109 (by first | assumption | exact hT.2.1) (by omega) (by omega) ?_
          try simp (disch := omega) only [rdI_e, rdI_n, rdC_i, rdC_o, rdW, rdR, rdU_e, rdU_n, rdLW, Int.add_zero]
          refine x_iast (by omega) dX8_bench_110 (by first | assumption | exact hT.2.1) (by omega) (by omega) ?_
          first | refine x_iincN (L' := [some _, some _, some _]) dX8_bench_111 rfl (by decide) (by unfold i32; omega) rfl ?_ | refine x_iinc (L' := [some _, some _, some _]) dX8_bench_111 rfl (by decide) rfl ?_
          refine x_goto (tgt := 92) dX8_bench_114 (by decide) ?_
          exact WP.mem (mC_s (by omega) (by rw [Int.zero_add]; rfl) (by omega)) (ih _ (by omega) (k + 1) rfl (by omega) (by omega))
    refine x_iconst dX8_bench_90 rfl ?_
    refine x_istore_n (L' := [some _, some _, some _]) dX8_bench_91 rfl (by decide) rfl ?_
    exact WP.mem mC_0.symm (lp _ 0 rfl (by omega) (by omega))
  have w0 : ∀ k, mci (mC M (m + 1) 0 (m + 3) 0 1217) (m + 1) k = v k := fun k => (rdC_o (by omega)).trans (hwk k)
  have fr0 : ∀ (p' b' dp' c' : Int) (w' : Vw), RdF M m (mci (mQr (mUse (mC M (m + 1) 0 (m + 3) 0 1217) m sz) m p' b' dp' c' w')) := fun p' b' dp' c' w' a k q1 q2 q3 => by
    rw [mQ_o (by omega) (by omega)]
    by_cases q : a = m
    · subst q
      rw [mUse_f (by omega), rdC_o (by omega)]
    · rw [mUse_o q, rdC_o (by omega)]
  have e3 : ∀ (p' b' dp' c' : Int) (w' : Vw) (k : Int), 0 ≤ k → k < 1217 → mci (mQr (mUse (mC M (m + 1) 0 (m + 3) 0 1217) m sz) m p' b' dp' c' w') (m + 3) k = v k := fun p' b' dp' c' w' k k0 k1 => by
    rw [mQ_o (by omega) (by omega), mUse_o (by omega), rdC_i (by omega), show (0 : Int) + (k - 0) = k by omega]
    exact hwk k
  have eF : ∀ (p' b' dp' c' : Int) (w' : Vw) (k : Int), k = 7 → mci (mQr (mUse (mC M (m + 1) 0 (m + 3) 0 1217) m sz) m p' b' dp' c' w') m k = n := fun p' b' dp' c' w' k hk => by
    rw [mQ_o (by omega) (by omega), mUse_f (by omega), rdC_o (by omega), hk]
    exact hacts.1
  have e9 : ∀ (p' b' dp' c' : Int) (w' : Vw), mci (mQr (mUse (mC M (m + 1) 0 (m + 3) 0 1217) m sz) m p' b' dp' c' w') m 9 = 0 := fun p' b' dp' c' w' => by
    rw [mQ_o (by omega) (by omega), mUse_9]
  have e0 : ∀ (p' b' dp' c' : Int) (w' : Vw), mci (mQr (mUse (mC M (m + 1) 0 (m + 3) 0 1217) m sz) m p' b' dp' c' w') m 0 = 0 := fun p' b' dp' c' w' => by
    rw [mQ_o (by omega) (by omega), mUse_0]
  -- behind the reading
  have aft : WP G d mX8_bench 27 [some (dR m), none, none] [] (mC M (m + 1) 0 (m + 3) 0 1217) Q := by
    have hRA := fun (D : Nat) (hD : 27 ≤ D) => s_readAllB (G := G) (d := D) (M := mC M (m + 1) 0 (m + 3) 0 1217) (tp := tp) hD hT ((rdC_o (by omega)).trans h9) hsz ((funext fun k => rdC_o (by omega)).trans ht6) (hX.of (fun _ _ => rfl) (fun a k q => rdC_o (by omega)) fun _ _ _ => rfl) (v := v) (funext w0) hv
    rcases hr : rBench tp sz v with f | y
    · refine x_aload_n dX8_bench_27 rfl rfl ?_
      refine x_iconst dX8_bench_28 rfl ?_
      refine g_callI (vs := [_, _]) (d' := d - 1) rfl (hRA (d - 1) (by omega)) dX8_bench_29 kX8_276 (by omega) (by decide) rfl (Nat.le_of_ble_eq_true rfl) (rcv_o (by first | assumption | exact hT.2.1) rfl) (fun x29 M29 h29 => ?_)
      obtain ⟨ex, p1, dp1, c1', w1, hM29, q29⟩ := h29.1 f hr
      subst ex
      subst hM29
      refine x_istore_n (L' := [some _, some _, none]) dX8_bench_32 rfl (by decide) rfl ?_
      refine x_aload_n dX8_bench_33 rfl rfl ?_
      refine x_iload_n dX8_bench_34 rfl rfl ?_
      refine x_if_ge (tgt := 45) dX8_bench_35 (by decide) (fun h35 => ?_) (fun h35 => ?_)
      · omega
      · refine x_aload_n dX8_bench_38 rfl rfl ?_
        refine g_getI (kI := 12) rfl dX8_bench_39 fX8_106_8 (by first | assumption | exact hT.2.1) ?_
        refine x_goto (tgt := 46) dX8_bench_42 (by decide) ?_
        rw [mQ_b]
        refine g_putI (kI := 14) rfl dX8_bench_46 fX8_33_8 (by first | assumption | exact hT.2.1) ?_
        refine x_aload_n dX8_bench_49 rfl rfl ?_
        refine x_iload_n dX8_bench_50 rfl rfl ?_
        refine x_if_ge (tgt := 58) dX8_bench_51 (by decide) (fun h51 => ?_) (fun h51 => ?_)
        · omega
        · refine x_iconst dX8_bench_54 rfl ?_
          refine x_goto (tgt := 59) dX8_bench_55 (by decide) ?_
          refine x_iconst dX8_bench_59 rfl ?_
          refine g_callI (vs := [_, _, _]) (d' := d - 1) rfl (s_X8_throwsIf (by omega) hT (by first | omega | exact vP_r _)) dX8_bench_60 kX8_280 (by omega) (by decide) rfl (Nat.le_of_ble_eq_true rfl) (rcv_o (by first | assumption | exact hT.2.1) rfl) (fun x60 M60 h60 => ?_)
          obtain ⟨e60, r60, f60⟩ := h60
          have f60' := (f60.2 (by omega)).symm
          subst f60'
          subst e60
          refine x_if_ne (tgt := 90) dX8_bench_63 (by decide) (fun h63 => ?_) (fun h63 => ?_)
          · try simp only [vP_0, vP_1, vP_n0, vP_n1, Classical.not_not] at h63
            refine x_fgt (L' := [some (dR m), some (dI (-1)), none]) (by repeat (first | exact trivial | refine ⟨rfl, ?_⟩)) ?_
            refine back (-1) (mci (mI (mI (mQr (mUse (mC M (m + 1) 0 (m + 3) 0 1217) m sz) m p1 f dp1 c1' w1) m 14 f) m 0 1)) f 1 ?_ ?_ ?_ ?_ ?_ ?_ ?_ ?_
            · exact fun a k q1 q2 q3 => (rdI_n (by omega)).trans ((rdI_n (by omega)).trans (fr0 _ _ _ _ _ a k q1 q2 q3))
            · exact fun k k0 k1 => (rdI_n (by omega)).trans ((rdI_n (by omega)).trans (e3 _ _ _ _ _ k k0 k1))
            · exact fun k q => (rdI_n (by omega)).trans ((rdI_n (by omega)).trans (mQ_w.trans (q29 k q)))
            · exact (rdI_n (by omega)).trans ((rdI_n (by omega)).trans (eF _ _ _ _ _ 7 rfl))
            · exact (rdI_n (by omega)).trans ((rdI_n (by omega)).trans (e9 _ _ _ _ _))
            · exact (rdI_n (by omega)).trans (rdI_e ⟨rfl, rfl⟩)
            · exact rdI_e ⟨rfl, rfl⟩
            · exact fun M1 t1 t2 t3 => hQ _ _ ⟨_, rfl, fun g q => (by rw [hr] at q; cases q; exact ⟨t1, t2, t3⟩), fun y q => (by rw [hr] at q; cases q)⟩
          · exact absurd h63 (by decide)
    · have hb := rBench_ok ⟨hsz.1, hsz.2⟩ hr hv
      have hb1 : y.2 1 = v 1 := hb.2 1 (by omega)
      by_cases h12 : v 1 = 12
      · refine x_aload_n dX8_bench_27 rfl rfl ?_
        refine x_iconst dX8_bench_28 rfl ?_
        refine g_callI (vs := [_, _]) (d' := d - 1) rfl (hRA (d - 1) (by omega)) dX8_bench_29 kX8_276 (by omega) (by decide) rfl (Nat.le_of_ble_eq_true rfl) (rcv_o (by first | assumption | exact hT.2.1) rfl) (fun x29 M29 h29 => ?_)
        obtain ⟨ex, hx29, p1, b1', dp1, c1', hM29, q29⟩ := h29.2 y hr
        subst ex
        subst hM29
        refine x_istore_n (L' := [some _, some _, none]) dX8_bench_32 rfl (by decide) rfl ?_
        refine x_aload_n dX8_bench_33 rfl rfl ?_
        refine x_iload_n dX8_bench_34 rfl rfl ?_
        refine x_if_ge (tgt := 45) dX8_bench_35 (by decide) (fun h35 => ?_) (fun h35 => ?_)
        · refine x_iconst dX8_bench_45 rfl ?_
          refine g_putI (kI := 14) rfl dX8_bench_46 fX8_33_8 (by first | assumption | exact hT.2.1) ?_
          refine x_aload_n dX8_bench_49 rfl rfl ?_
          refine x_iload_n dX8_bench_50 rfl rfl ?_
          refine x_if_ge (tgt := 58) dX8_bench_51 (by decide) (fun h51 => ?_) (fun h51 => ?_)
          · refine x_iconst dX8_bench_58 rfl ?_
            refine x_iconst dX8_bench_59 rfl ?_
            refine g_callI (vs := [_, _, _]) (d' := d - 1) rfl (s_X8_throwsIf (by omega) hT (by first | omega | exact vP_r _)) dX8_bench_60 kX8_280 (by omega) (by decide) rfl (Nat.le_of_ble_eq_true rfl) (rcv_o (by first | assumption | exact hT.2.1) rfl) (fun x60 M60 h60 => ?_)
            obtain ⟨e60, r60, f60⟩ := h60
            have f60' := (f60.1 (by omega)).symm
            subst f60'
            subst e60
            refine x_if_ne (tgt := 90) dX8_bench_63 (by decide) (fun h63 => ?_) (fun h63 => ?_)
            · exact absurd rfl h63
            · try simp only [vP_0, vP_1, vP_n0, vP_n1, Classical.not_not] at h63
              refine x_aload_n dX8_bench_66 rfl rfl ?_
              refine x_aload_n dX8_bench_67 rfl rfl ?_
              refine g_getR (kI := 1) rfl dX8_bench_68 fX8_13_8 (by first | assumption | exact hT.2.1) (by first | assumption | exact hT.2.1) ?_
              refine x_iconst dX8_bench_71 rfl ?_
              refine x_iald dX8_bench_72 (by first | assumption | exact hT.2.1) (by omega) (by omega) ?_
              rw [rdI_n (by omega), mQ_w, hb1]
              refine x_bipush dX8_bench_73 rfl ?_
              refine x_icmp_ne (tgt := 82) dX8_bench_75 (by decide) (fun h75 => ?_) (fun h75 => ?_)
              · omega
              · refine x_iconst dX8_bench_78 rfl ?_
                refine x_goto (tgt := 83) dX8_bench_79 (by decide) ?_
                refine x_iconst dX8_bench_83 rfl ?_
                refine g_callI (vs := [_, _, _]) (d' := d - 1) rfl (s_X8_throwsIf (by omega) hT (by first | omega | exact vP_r _)) dX8_bench_84 kX8_280 (by omega) (by decide) rfl (Nat.le_of_ble_eq_true rfl) (rcv_o (by first | assumption | exact hT.2.1) rfl) (fun x84 M84 h84 => ?_)
                obtain ⟨e84, r84, f84⟩ := h84
                have f84' := (f84.2 (by omega)).symm
                subst f84'
                subst e84
                refine x_if_eq (tgt := 119) dX8_bench_87 (by decide) (fun h87 => ?_) (fun h87 => ?_)
                · exact absurd h87 (by decide)
                · try simp only [vP_0, vP_1, vP_n0, vP_n1, Classical.not_not] at h87
                  refine x_fgt (L' := [some (dR m), some (dI y.1), none]) (by repeat (first | exact trivial | refine ⟨rfl, ?_⟩)) ?_
                  refine back y.1 (mci (mI (mI (mQr (mUse (mC M (m + 1) 0 (m + 3) 0 1217) m sz) m p1 b1' dp1 c1' y.2) m 14 (-1)) m 0 2)) (-1) 2 ?_ ?_ ?_ ?_ ?_ ?_ ?_ ?_
                  · exact fun a k q1 q2 q3 => (rdI_n (by omega)).trans ((rdI_n (by omega)).trans (fr0 _ _ _ _ _ a k q1 q2 q3))
                  · exact fun k k0 k1 => (rdI_n (by omega)).trans ((rdI_n (by omega)).trans (e3 _ _ _ _ _ k k0 k1))
                  · exact fun k q => (rdI_n (by omega)).trans ((rdI_n (by omega)).trans (mQ_w.trans (q29 k q)))
                  · exact (rdI_n (by omega)).trans ((rdI_n (by omega)).trans (eF _ _ _ _ _ 7 rfl))
                  · exact (rdI_n (by omega)).trans ((rdI_n (by omega)).trans (e9 _ _ _ _ _))
                  · exact (rdI_n (by omega)).trans (rdI_e ⟨rfl, rfl⟩)
                  · exact rdI_e ⟨rfl, rfl⟩
                  · exact fun M1 t1 t2 t3 => hQ _ _ ⟨_, rfl, fun g q => (by rw [hr] at q; cases q), fun y' q => (by rw [hr] at q; cases q; exact ⟨fun _ => ⟨t1, t2, t3⟩, fun z => absurd h12 z⟩)⟩
          · omega
        · omega
      · have hBt : okB (us y.2 1 (v 1 + 1)) := hb.1.us (by omega)
        have eB : ∀ k, ¬ (102 ≤ k ∧ k < 128) → bootV (us y.2 1 (v 1 + 1)) k = us y.2 1 (v 1 + 1) k := fun k q => bootV_eqB k q
        have hLn : lawOK (bootV (us y.2 1 (v 1 + 1))) := lawOK.lo hL ((eB 2 (by omega)).trans ((us_n (by omega)).trans (hb.2 2 (by omega)))) fun k q _ => (eB k (by omega)).trans ((us_n (by omega)).trans (hb.2 k (by omega)))
        refine x_aload_n dX8_bench_27 rfl rfl ?_
        refine x_iconst dX8_bench_28 rfl ?_
        refine g_callI (vs := [_, _]) (d' := d - 1) rfl (hRA (d - 1) (by omega)) dX8_bench_29 kX8_276 (by omega) (by decide) rfl (Nat.le_of_ble_eq_true rfl) (rcv_o (by first | assumption | exact hT.2.1) rfl) (fun x29 M29 h29 => ?_)
        obtain ⟨ex, hx29, p1, b1', dp1, c1', hM29, q29⟩ := h29.2 y hr
        subst ex
        subst hM29
        refine x_istore_n (L' := [some _, some _, none]) dX8_bench_32 rfl (by decide) rfl ?_
        refine x_aload_n dX8_bench_33 rfl rfl ?_
        refine x_iload_n dX8_bench_34 rfl rfl ?_
        refine x_if_ge (tgt := 45) dX8_bench_35 (by decide) (fun h35 => ?_) (fun h35 => ?_)
        · refine x_iconst dX8_bench_45 rfl ?_
          refine g_putI (kI := 14) rfl dX8_bench_46 fX8_33_8 (by first | assumption | exact hT.2.1) ?_
          refine x_aload_n dX8_bench_49 rfl rfl ?_
          refine x_iload_n dX8_bench_50 rfl rfl ?_
          refine x_if_ge (tgt := 58) dX8_bench_51 (by decide) (fun h51 => ?_) (fun h51 => ?_)
          · refine x_iconst dX8_bench_58 rfl ?_
            refine x_iconst dX8_bench_59 rfl ?_
            refine g_callI (vs := [_, _, _]) (d' := d - 1) rfl (s_X8_throwsIf (by omega) hT (by first | omega | exact vP_r _)) dX8_bench_60 kX8_280 (by omega) (by decide) rfl (Nat.le_of_ble_eq_true rfl) (rcv_o (by first | assumption | exact hT.2.1) rfl) (fun x60 M60 h60 => ?_)
            obtain ⟨e60, r60, f60⟩ := h60
            have f60' := (f60.1 (by omega)).symm
            subst f60'
            subst e60
            refine x_if_ne (tgt := 90) dX8_bench_63 (by decide) (fun h63 => ?_) (fun h63 => ?_)
            · exact absurd rfl h63
            · try simp only [vP_0, vP_1, vP_n0, vP_n1, Classical.not_not] at h63
              refine x_aload_n dX8_bench_66 rfl rfl ?_
              refine x_aload_n dX8_bench_67 rfl rfl ?_
              refine g_getR (kI := 1) rfl dX8_bench_68 fX8_13_8 (by first | assumption | exact hT.2.1) (by first | assumption | exact hT.2.1) ?_
              refine x_iconst dX8_bench_71 rfl ?_
              refine x_iald dX8_bench_72 (by first | assumption | exact hT.2.1) (by omega) (by omega) ?_
              rw [rdI_n (by omega), mQ_w, hb1]
              refine x_bipush dX8_bench_73 rfl ?_
              refine x_icmp_ne (tgt := 82) dX8_bench_75 (by decide) (fun h75 => ?_) (fun h75 => ?_)
              · refine x_iconst dX8_bench_82 rfl ?_
                refine x_iconst dX8_bench_83 rfl ?_
                refine g_callI (vs := [_, _, _]) (d' := d - 1) rfl (s_X8_throwsIf (by omega) hT (by first | omega | exact vP_r _)) dX8_bench_84 kX8_280 (by omega) (by decide) rfl (Nat.le_of_ble_eq_true rfl) (rcv_o (by first | assumption | exact hT.2.1) rfl) (fun x84 M84 h84 => ?_)
                obtain ⟨e84, r84, f84⟩ := h84
                have f84' := (f84.1 (by omega)).symm
                subst f84'
                subst e84
                refine x_if_eq (tgt := 119) dX8_bench_87 (by decide) (fun h87 => ?_) (fun h87 => ?_)
                · try simp only [vP_0, vP_1, vP_n0, vP_n1, Classical.not_not] at h87
                  refine x_aload_n dX8_bench_119 rfl rfl ?_
                  refine g_getR (kI := 1) rfl dX8_bench_120 fX8_13_8 (by first | assumption | exact hT.2.1) (by first | assumption | exact hT.2.1) ?_
                  refine x_iconst dX8_bench_123 rfl ?_
                  refine x_dup2 dX8_bench_124 rfl rfl ?_
                  refine x_iald dX8_bench_125 (by first | assumption | exact hT.2.1) (by omega) (by omega) ?_
                  rw [rdI_n (by omega), mQ_w, hb1]
                  refine x_iconst dX8_bench_126 rfl ?_
                  first | refine x_iaddN dX8_bench_127 (by unfold i32; omega) ?_ | refine x_iadd dX8_bench_127 ?_
                  refine x_iast (by omega) dX8_bench_128 (by first | assumption | exact hT.2.1) (by omega) (by omega) ?_
                  refine x_aload_n dX8_bench_129 rfl rfl ?_
                  refine g_callN (vs := [_]) (d' := d - 1) rfl (s_X8_bothBoot (v := us y.2 1 (v 1 + 1)) (by omega) hT (mciIs ((funext fun j => rdI_n (by omega)).trans mQ_wf))) dX8_bench_130 kX8_64 (by omega) (by decide) rfl (Nat.le_of_ble_eq_true rfl) (rcv_o (by first | assumption | exact hT.2.1) rfl) (fun M130 h130 => ?_)
                  obtain ⟨g130, hM130, r130, q130⟩ := h130
                  subst hM130
                  refine x_aload_n dX8_bench_133 rfl rfl ?_
                  refine x_iconst dX8_bench_134 rfl ?_
                  refine g_putI (kI := 7) rfl dX8_bench_135 fX8_71_8 (by first | assumption | exact hT.2.1) ?_
                  refine x_aload_n dX8_bench_138 rfl rfl ?_
                  refine g_getR (kI := 1) rfl dX8_bench_139 fX8_13_8 (by first | assumption | exact hT.2.1) (by first | assumption | exact hT.2.1) ?_
                  refine x_iconst dX8_bench_142 rfl ?_
                  refine x_iald dX8_bench_143 (by first | assumption | exact hT.2.1) (by omega) (by omega) ?_
                  rw [rdI_n (by omega), show mci (wI (mI (mI (mQr (mUse (mC M (m + 1) 0 (m + 3) 0 1217) m sz) m p1 b1' dp1 c1' y.2) m 14 (-1)) (m + 1) 1 (v 1 + 1)) g130) (m + 1) 1 = v 1 + 1 from (congrFun r130 1).trans ((eB 1 (by omega)).trans (us_e rfl))]
                  refine x_ireturn rfl dX8_bench_144 ?_
                  have fr : RdF M m (up g130 m 7 0) := fun a k q1 q2 q3 => (rdU_n (by omega)).trans ((q130 a k q1).trans ((rdI_n (by omega)).trans ((rdI_n (by omega)).trans (fr0 _ _ _ _ _ a k q1 q2 q3))))
                  have hr2 := hI.rdf (g := up g130 m 7 0) (f' := -1) (A' := A) fr ((funext fun j => rdU_n (by omega)).trans r130) (rdU_e ⟨rfl, rfl⟩) (Or.inr rfl) ((rdU_n (by omega)).trans ((q130 _ _ (by omega)).trans ((rdI_n (by omega)).trans ((rdI_n (by omega)).trans (e9 _ _ _ _ _))))) ((rdU_n (by omega)).trans ((q130 _ _ (by omega)).trans ((rdI_n (by omega)).trans (rdI_e ⟨rfl, rfl⟩)))) (bootV_ok hBt) hLn
                  exact hQ _ _ ⟨_, rfl, fun g q => (by rw [hr] at q; cases q), fun y' q => (by rw [hr] at q; cases q; exact ⟨fun z => absurd z h12, fun _ => ⟨rfl, hr2.1, (rdU_n (by omega)).trans ((q130 _ _ (by omega)).trans ((rdI_n (by omega)).trans ((rdI_n (by omega)).trans (e0 _ _ _ _ _)))), hr2.2⟩⟩)⟩
                · exact absurd rfl h87
              · omega
          · omega
        · omega
  have lp : ∀ (t : Nat) (k : Int), (1217 - k).toNat = t → (0 ≤ k) → (k ≤ 1217) → WP G d mX8_bench 2 [some (dR m), some (dI k), none] [] (mC M (m + 1) 0 (m + 3) 0 k) Q := by
    intro t
    induction t using Nat.strongRecOn with
    | _ t ih =>
      intro k ht k0 k1
      refine x_iload_n dX8_bench_2 rfl rfl ?_
      refine x_sipush dX8_bench_3 rfl ?_
      refine x_icmp_ge (tgt := 27) dX8_bench_6 (by decide) (fun h6 => ?_) (fun h6 => ?_)
      · have hk : k = 1217 := by omega
        subst hk
        exact x_fgt (L' := [some (dR m), none, none]) (by repeat (first | exact trivial | refine ⟨rfl, ?_⟩)) aft
      · refine x_aload_n dX8_bench_9 rfl rfl ?_
        refine g_getR (kI := 3) rfl dX8_bench_10 fX8_20_8 (by first | assumption | exact hT.2.1) (by first | assumption | exact hT.2.1) ?_
        refine x_iload_n dX8_bench_13 rfl rfl ?_
        refine x_aload_n dX8_bench_14 rfl rfl ?_
        refine g_getR (kI := 1) rfl dX8_bench_15 fX8_13_8 (by first | assumption | exact hT.2.1) (by first | assumption | exact hT.2.1) ?_
        refine x_iload_n dX8_bench_18 rfl rfl ?_
        refine x_iald dX8_bench_19 (by first | assumption | exact hT.2.1) (by omega) (by omega) ?_
        try simp (disch := omega) only [rdI_e, rdI_n, rdC_i, rdC_o, rdW, rdR, rdU_e, rdU_n, rdLW, Int.add_zero]
        refine x_iast (by omega) dX8_bench_20 (by first | assumption | exact hT.2.1) (by omega) (by omega) ?_
        first | refine x_iincN (L' := [some _, some _, none]) dX8_bench_21 rfl (by decide) (by unfold i32; omega) rfl ?_ | refine x_iinc (L' := [some _, some _, none]) dX8_bench_21 rfl (by decide) rfl ?_
        refine x_goto (tgt := 2) dX8_bench_24 (by decide) ?_
        exact WP.mem (mC_s (by omega) (by rw [Int.zero_add]) (by omega)) (ih _ (by omega) (k + 1) rfl (by omega) (by omega))
  refine x_iconst dX8_bench_0 rfl ?_
  refine x_istore_n (L' := [some _, some _, none]) dX8_bench_1 rfl (by decide) rfl ?_
  exact WP.mem mC_0.symm (lp _ 0 rfl (by omega) (by omega))
theorem s_X8_law (hd : 52 ≤ d) (hI : TI M m v n A hi vi tp sz fa) (hX : TxS M) : CS G d mX8_law [dR m] M (postI fun x M1 => (∀ f, rLaws tp sz (fun k => v (k + 849)) = .inl f → ∃ v', (∀ k, k < 1217 → v' k = v k) ∧ TI M1 m v' n A hi vi tp 0 f ∧ mci M1 m 0 = 1 ∧ TR m M M1) ∧ ∀ y, rLaws tp sz (fun k => v (k + 849)) = .inr y → x = y.1 ∧ TI M1 m (lawV v y.1 y.2.2) 0 A hi vi tp 0 (-1) ∧ mci M1 m 0 = 0 ∧ TR m M M1) := by
  obtain ⟨⟨hT, hw, hA, hL, hK, hsk⟩, hacts, hrest⟩ := id hI
  have hm0 : 0 ≤ m := hT.1
  obtain ⟨⟨a1, a2⟩, a3, ht6, ⟨h9, hsz⟩, h14⟩ := id hrest
  have hT_ := hT; obtain ⟨p0, p1, ⟨c1, c2, c3, c4, c5, c6, c7, c8, c9, c10, c11, c12, c13, c14, c15⟩, ⟨t1, t2, t3, t4, t5, t6, t7, t8, t9, t10, t11, t12, t13, t14, t15⟩⟩ := hT_
  have hRA := fun (D : Nat) (hD : 50 ≤ D) => s_readAllL (G := G) (d := D) (M := M) (tp := tp) hD hT h9 hsz ht6 hX (v := v) hw
  have fr0 : ∀ (p' b' dp' c' : Int) (w' : Vw), RdF M m (mci (mQr (mUse M m sz) m p' b' dp' c' w')) := fun p' b' dp' c' w' a k q1 q2 q3 => by
    rw [mQ_o (by omega) (by omega)]
    by_cases q : a = m
    · subst q
      rw [mUse_f (by omega)]
    · rw [mUse_o q]
  have eF : ∀ (p' b' dp' c' : Int) (w' : Vw), mci (mQr (mUse M m sz) m p' b' dp' c' w') m 7 = n := fun p' b' dp' c' w' => by
    rw [mQ_o (by omega) (by omega), mUse_f (by omega)]
    exact hacts.1
  have e9 : ∀ (p' b' dp' c' : Int) (w' : Vw), mci (mQr (mUse M m sz) m p' b' dp' c' w') m 9 = 0 := fun p' b' dp' c' w' => by
    rw [mQ_o (by omega) (by omega), mUse_9]
  have e0 : ∀ (p' b' dp' c' : Int) (w' : Vw), mci (mQr (mUse M m sz) m p' b' dp' c' w') m 0 = 0 := fun p' b' dp' c' w' => by
    rw [mQ_o (by omega) (by omega), mUse_0]
  refine CS.mkQ (by decide) (Nat.le_of_ble_eq_true rfl) fun Q hQ => ?_
  rcases hr : rLaws tp sz (fun k => v (k + 849)) with f | y
  · refine x_aload_n dX8_law_0 rfl rfl ?_
    refine x_iconst dX8_law_1 rfl ?_
    refine g_callI (vs := [_, _]) (d' := d - 1) rfl (hRA (d - 1) (by omega)) dX8_law_2 kX8_276 (by omega) (by decide) rfl (Nat.le_of_ble_eq_true rfl) (rcv_o (by first | assumption | exact hT.2.1) rfl) (fun x2 M2 h2 => ?_)
    obtain ⟨ex, p1, dp1, c1', u1, hM2⟩ := h2.1 f hr
    subst ex
    subst hM2
    refine x_istore_n (L' := [some _, some _, none]) dX8_law_5 rfl (by decide) rfl ?_
    refine x_aload_n dX8_law_6 rfl rfl ?_
    refine x_iload_n dX8_law_7 rfl rfl ?_
    refine x_if_ge (tgt := 18) dX8_law_8 (by decide) (fun h8 => ?_) (fun h8 => ?_)
    · omega
    · refine x_aload_n dX8_law_11 rfl rfl ?_
      refine g_getI (kI := 12) rfl dX8_law_12 fX8_106_8 (by first | assumption | exact hT.2.1) ?_
      refine x_goto (tgt := 19) dX8_law_15 (by decide) ?_
      rw [mQ_b]
      refine g_putI (kI := 14) rfl dX8_law_19 fX8_33_8 (by first | assumption | exact hT.2.1) ?_
      refine x_aload_n dX8_law_22 rfl rfl ?_
      refine x_iload_n dX8_law_23 rfl rfl ?_
      refine x_if_ge (tgt := 31) dX8_law_24 (by decide) (fun h24 => ?_) (fun h24 => ?_)
      · omega
      · refine x_iconst dX8_law_27 rfl ?_
        refine x_goto (tgt := 32) dX8_law_28 (by decide) ?_
        refine x_iconst dX8_law_32 rfl ?_
        refine g_callI (vs := [_, _, _]) (d' := d - 1) rfl (s_X8_throwsIf (by omega) hT (by first | omega | exact vP_r _)) dX8_law_33 kX8_280 (by omega) (by decide) rfl (Nat.le_of_ble_eq_true rfl) (rcv_o (by first | assumption | exact hT.2.1) rfl) (fun x33 M33 h33 => ?_)
        obtain ⟨e33, r33, f33⟩ := h33
        have f33' := (f33.2 (by omega)).symm
        subst f33'
        subst e33
        refine x_if_eq (tgt := 41) dX8_law_36 (by decide) (fun h36 => ?_) (fun h36 => ?_)
        · exact absurd h36 (by decide)
        · try simp only [vP_0, vP_1, vP_n0, vP_n1, Classical.not_not] at h36
          refine x_iconst dX8_law_39 rfl ?_
          refine x_ireturn rfl dX8_law_40 ?_
          have eo : ∀ k, k < 1217 → drf v u1 k = v k := fun k q => if_neg (by omega)
          have okd : okA (drf v u1) := okA.lo hA fun k _ q => eo k (by omega)
          have hr2 := hI.rdf (g := mci (mI (mI (mQr (mUse M m sz) m p1 f dp1 c1' (drf v u1)) m 14 f) m 0 1)) (f' := f) (A' := A) (fun a k q1 q2 q3 => (rdI_n (by omega)).trans ((rdI_n (by omega)).trans (fr0 _ _ _ _ _ a k q1 q2 q3))) ((funext fun j => (rdI_n (by omega)).trans (rdI_n (by omega))).trans mQ_wf) ((rdI_n (by omega)).trans ((rdI_n (by omega)).trans (eF _ _ _ _ _))) (Or.inl ⟨rfl, rfl⟩) ((rdI_n (by omega)).trans ((rdI_n (by omega)).trans (e9 _ _ _ _ _))) ((rdI_n (by omega)).trans (rdI_e ⟨rfl, rfl⟩)) okd (lawOK.lo hL (eo 2 (by omega)) fun k _ q => eo k q)
          exact hQ _ _ ⟨_, rfl, fun g q => (by rw [hr] at q; cases q; exact ⟨_, eo, hr2.1, rdI_e ⟨rfl, rfl⟩, hr2.2⟩), fun y q => (by rw [hr] at q; cases q)⟩
  · have hy := rLaws_ok hsz hr
    have aft : ∀ (p1 b1 dp1 c1' : Int), WP G d mX8_law 50 [some (dR m), some (dI y.1), none] [] (mI (mI (mQr (mUse M m sz) m p1 b1 dp1 c1' (drf v y.2.2)) m 14 (-1)) (m + 1) 1217 y.1) Q := by
      intro p1 b1 dp1 c1'
      have eW : mci (mI (mI (mQr (mUse M m sz) m p1 b1 dp1 c1' (drf v y.2.2)) m 14 (-1)) (m + 1) 1217 y.1) (m + 1) = drf v (us y.2.2 368 y.1) := (mciIs ((funext fun j => rdI_n (by omega)).trans mQ_wf)).trans (drf_us (by omega) (by omega))
      have lp : ∀ (t : Nat) (k : Int), (849 - k).toNat = t → (0 ≤ k) → (k ≤ 849) → WP G d mX8_law 52 [some (dR m), some (dI y.1), some (dI k)] [] (mC (mI (mI (mQr (mUse M m sz) m p1 b1 dp1 c1' (drf v y.2.2)) m 14 (-1)) (m + 1) 1217 y.1) (m + 1) 1217 (m + 1) 368 k) Q := by
        intro t
        induction t using Nat.strongRecOn with
        | _ t ih =>
          intro k ht k0 k1
          refine x_iload_n dX8_law_52 rfl rfl ?_
          refine x_sipush dX8_law_53 rfl ?_
          refine x_icmp_ge (tgt := 85) dX8_law_56 (by decide) (fun h56 => ?_) (fun h56 => ?_)
          · refine x_aload_n dX8_law_85 rfl rfl ?_
            refine g_getR (kI := 1) rfl dX8_law_86 fX8_13_8 (by first | assumption | exact hT.2.1) (by first | assumption | exact hT.2.1) ?_
            refine x_iconst dX8_law_89 rfl ?_
            refine x_iconst dX8_law_90 rfl ?_
            refine x_iast (by omega) dX8_law_91 (by first | assumption | exact hT.2.1) (by omega) (by omega) ?_
            refine x_aload_n dX8_law_92 rfl rfl ?_
            refine x_iconst dX8_law_93 rfl ?_
            refine g_putI (kI := 7) rfl dX8_law_94 fX8_71_8 (by first | assumption | exact hT.2.1) ?_
            refine x_iload_n dX8_law_97 rfl rfl ?_
            refine x_ireturn rfl dX8_law_98 ?_
            have hk : k = 849 := by omega
            subst hk
            have ew : up (mci (mC (mI (mI (mQr (mUse M m sz) m p1 b1 dp1 c1' (drf v y.2.2)) m 14 (-1)) (m + 1) 1217 y.1) (m + 1) 1217 (m + 1) 368 849)) (m + 1) 2 1 (m + 1) = lawV v y.1 y.2.2 := funext fun j => by
              by_cases q2 : j = 2
              · rw [rdU_e ⟨rfl, q2⟩, q2]; exact lawV_2.symm
              · rw [rdU_n (by omega)]
                by_cases q : 368 ≤ j ∧ j < 1217
                · rw [lawV_law q, rdC_i (by omega), eW, drf_r (j := j) (by omega) (by omega)]
                · rw [rdC_o (by omega), eW]
                  exact (lawV_r q q2).symm
            have hr2 := hI.rdf (g := up (up (mci (mC (mI (mI (mQr (mUse M m sz) m p1 b1 dp1 c1' (drf v y.2.2)) m 14 (-1)) (m + 1) 1217 y.1) (m + 1) 1217 (m + 1) 368 849)) (m + 1) 2 1) m 7 0) (f' := -1) (A' := A) (fun a k q1 q2 q3 => (rdU_n (by omega)).trans ((rdU_n (by omega)).trans ((rdC_o (by omega)).trans ((rdI_n (by omega)).trans ((rdI_n (by omega)).trans (fr0 _ _ _ _ _ a k q1 q2 q3)))))) ((funext fun j => rdU_n (by omega)).trans ew) (rdU_e ⟨rfl, rfl⟩) (Or.inr rfl) ((rdU_n (by omega)).trans ((rdU_n (by omega)).trans ((rdC_o (by omega)).trans ((rdI_n (by omega)).trans ((rdI_n (by omega)).trans (e9 _ _ _ _ _)))))) ((rdU_n (by omega)).trans ((rdU_n (by omega)).trans ((rdC_o (by omega)).trans ((rdI_n (by omega)).trans (rdI_e ⟨rfl, rfl⟩))))) (lawV_okA hA) (lawV_lawOK hy.1 hy.2)
            exact hQ _ _ ⟨_, rfl, fun g q => (by rw [hr] at q; cases q), fun y' q => (by rw [hr] at q; cases q; exact ⟨rfl, hr2.1, (rdU_n (by omega)).trans ((rdU_n (by omega)).trans ((rdC_o (by omega)).trans ((rdI_n (by omega)).trans ((rdI_n (by omega)).trans (e0 _ _ _ _ _))))), hr2.2⟩)⟩
          · refine x_aload_n dX8_law_59 rfl rfl ?_
            refine g_getR (kI := 1) rfl dX8_law_60 fX8_13_8 (by first | assumption | exact hT.2.1) (by first | assumption | exact hT.2.1) ?_
            refine x_sipush dX8_law_63 rfl ?_
            refine x_iload_n dX8_law_66 rfl rfl ?_
            first | refine x_iaddN dX8_law_67 (by unfold i32; omega) ?_ | refine x_iadd dX8_law_67 ?_
            refine x_aload_n dX8_law_68 rfl rfl ?_
            refine g_getR (kI := 1) rfl dX8_law_69 fX8_13_8 (by first | assumption | exact hT.2.1) (by first | assumption | exact hT.2.1) ?_
            refine x_sipush dX8_law_72 rfl ?_
            refine x_iload_n dX8_law_75 rfl rfl ?_
            first | refine x_iaddN dX8_law_76 (by unfold i32; omega) ?_ | refine x_iadd dX8_law_76 ?_
            refine x_iald dX8_law_77 (by first | assumption | exact hT.2.1) (by omega) (by omega) ?_
            rw [rdC_o (by omega)]
            refine x_iast (by omega) dX8_law_78 (by first | assumption | exact hT.2.1) (by omega) (by omega) ?_
            first | refine x_iincN (L' := [some _, some _, some _]) dX8_law_79 rfl (by decide) (by unfold i32; omega) rfl ?_ | refine x_iinc (L' := [some _, some _, some _]) dX8_law_79 rfl (by decide) rfl ?_
            refine x_goto (tgt := 52) dX8_law_82 (by decide) ?_
            exact WP.mem (mC_s (by omega) rfl rfl) (ih _ (by omega) (k + 1) rfl (by omega) (by omega))
      refine x_iconst dX8_law_50 rfl ?_
      refine x_istore_n (L' := [some _, some _, some _]) dX8_law_51 rfl (by decide) rfl ?_
      exact WP.mem mC_0.symm (lp _ 0 rfl (by omega) (by omega))
    refine x_aload_n dX8_law_0 rfl rfl ?_
    refine x_iconst dX8_law_1 rfl ?_
    refine g_callI (vs := [_, _]) (d' := d - 1) rfl (hRA (d - 1) (by omega)) dX8_law_2 kX8_276 (by omega) (by decide) rfl (Nat.le_of_ble_eq_true rfl) (rcv_o (by first | assumption | exact hT.2.1) rfl) (fun x2 M2 h2 => ?_)
    obtain ⟨ex, p1, b1', dp1, c1', hM2⟩ := h2.2 y hr
    subst ex
    subst hM2
    refine x_istore_n (L' := [some _, some _, none]) dX8_law_5 rfl (by decide) rfl ?_
    refine x_aload_n dX8_law_6 rfl rfl ?_
    refine x_iload_n dX8_law_7 rfl rfl ?_
    refine x_if_ge (tgt := 18) dX8_law_8 (by decide) (fun h8 => ?_) (fun h8 => ?_)
    · refine x_iconst dX8_law_18 rfl ?_
      refine g_putI (kI := 14) rfl dX8_law_19 fX8_33_8 (by first | assumption | exact hT.2.1) ?_
      refine x_aload_n dX8_law_22 rfl rfl ?_
      refine x_iload_n dX8_law_23 rfl rfl ?_
      refine x_if_ge (tgt := 31) dX8_law_24 (by decide) (fun h24 => ?_) (fun h24 => ?_)
      · refine x_iconst dX8_law_31 rfl ?_
        refine x_iconst dX8_law_32 rfl ?_
        refine g_callI (vs := [_, _, _]) (d' := d - 1) rfl (s_X8_throwsIf (by omega) hT (by first | omega | exact vP_r _)) dX8_law_33 kX8_280 (by omega) (by decide) rfl (Nat.le_of_ble_eq_true rfl) (rcv_o (by first | assumption | exact hT.2.1) rfl) (fun x33 M33 h33 => ?_)
        obtain ⟨e33, r33, f33⟩ := h33
        have f33' := (f33.1 (by omega)).symm
        subst f33'
        subst e33
        refine x_if_eq (tgt := 41) dX8_law_36 (by decide) (fun h36 => ?_) (fun h36 => ?_)
        · try simp only [vP_0, vP_1, vP_n0, vP_n1, Classical.not_not] at h36
          refine x_aload_n dX8_law_41 rfl rfl ?_
          refine g_getR (kI := 1) rfl dX8_law_42 fX8_13_8 (by first | assumption | exact hT.2.1) (by first | assumption | exact hT.2.1) ?_
          refine x_sipush dX8_law_45 rfl ?_
          refine x_iload_n dX8_law_48 rfl rfl ?_
          refine x_iast (by omega) dX8_law_49 (by first | assumption | exact hT.2.1) (by omega) (by omega) ?_
          exact aft _ _ _ _
        · exact absurd rfl h36
      · omega
    · omega
end X8

