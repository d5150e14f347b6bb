/-! GuestViewModel: odds -/
theorem waysV_s {al i : Int} {t : Nat} : waysV al (t + 1) i = waysV al t i * (100 - al) + (if i = 0 then 0 else waysV al t (i - 1) * al) := rfl
theorem waysV_r {al : Int} (h : 0 ≤ al ∧ al ≤ 100) : ∀ (t : Nat) (i : Int), 0 ≤ waysV al t i ∧ waysV al t i ≤ 100 ^ t := by
  intro t
  induction t with
  | zero =>
    intro i
    show 0 ≤ (if i = 0 then (1 : Int) else 0) ∧ (if i = 0 then (1 : Int) else 0) ≤ 1
    split <;> omega
  | succ t ih =>
    intro i
    have a := ih i
    have b := ih (i - 1)
    have m1 : 0 ≤ waysV al t i * (100 - al) := Int.mul_nonneg a.1 (by omega)
    have m2 : waysV al t i * (100 - al) ≤ 100 ^ t * (100 - al) := Int.mul_le_mul_of_nonneg_right a.2 (by omega)
    have m3 : 0 ≤ waysV al t (i - 1) * al := Int.mul_nonneg b.1 (by omega)
    have m4 : waysV al t (i - 1) * al ≤ 100 ^ t * al := Int.mul_le_mul_of_nonneg_right b.2 (by omega)
    have m5 : (100 : Int) ^ t * (100 - al) + 100 ^ t * al = 100 ^ (t + 1) := by rw [← Int.mul_add, Int.pow_succ]; congr 1; omega
    have m6 : 0 ≤ (100 : Int) ^ t * al := Int.mul_nonneg (Int.le_of_lt (Int.pow_pos (by omega))) (by omega)
    rw [waysV_s]
    split <;> omega
theorem pow5 {t : Nat} (h : t ≤ 5) : (100 : Int) ^ t ≤ 10000000000 ∧ 0 < (100 : Int) ^ t := by
  refine ⟨?_, Int.pow_pos (by omega)⟩
  rcases (show t = 0 ∨ t = 1 ∨ t = 2 ∨ t = 3 ∨ t = 4 ∨ t = 5 by omega) with rfl | rfl | rfl | rfl | rfl | rfl <;> decide
theorem waySum_r {al : Int} (h : 0 ≤ al ∧ al ≤ 100) {t : Nat} (ht : t ≤ 5) (k : Int) : ∀ j : Nat, 0 ≤ waySum al t k j ∧ waySum al t k j ≤ 10000000000 * (j : Int) := by
  intro j
  induction j with
  | zero => exact ⟨Int.le_refl 0, Int.le_refl 0⟩
  | succ j ih =>
    have a := waysV_r h t (k + j)
    have b := pow5 ht
    show 0 ≤ waySum al t k j + waysV al t (k + j) ∧ waySum al t k j + waysV al t (k + j) ≤ 10000000000 * ((j + 1 : Nat) : Int)
    omega
section X8
variable {G : GW} {d : Nat} {M : Mem} {m a b c p k i what n st pc op hi sz fa : Int} {v vi : Vw}
theorem s_X8_odds (hd : 12 ≤ d) (hP : TP M m v) : CS G d mX8_odds [dR m, dI n, dI k] M (postI fun x M1 => RD M m (if (0 ≤ n ∧ n ≤ 5) ∧ 0 ≤ k ∧ k ≤ 5 then 0 else 1) M1 ∧ ((0 ≤ n ∧ n ≤ 5) ∧ 0 ≤ k ∧ k ≤ 5 → x = oddsAns v n k)) := by
  obtain ⟨hT, hw, hA, hL, hK, hsk⟩ := id hP
  have h7 := hA.1.2.2.2.2.2.2.2.1
  have e7 : mci (mI M m 0 0) (m + 1) 7 = v 7 := (rdI_n (by omega)).trans (congrFun hw 7)
  have e7b : mci M (m + 1) 7 = v 7 := congrFun hw 7
  have hT_ := hT; obtain ⟨p0, p1, ⟨c1, c2, c3, c4, c5, c6, c7, c8, c9, c10, c11, c12, c13, c14, c15⟩, ⟨t1, t2, t3, t4, t5, t6, t7, t8, t9, t10, t11, t12, t13, t14, t15⟩⟩ := hT_
  refine CS.mkQ (by decide) (Nat.le_of_ble_eq_true rfl) fun Q hQ => ?_
  by_cases hnk : (0 ≤ n ∧ n ≤ 5) ∧ 0 ≤ k ∧ k ≤ 5
  · rw [if_pos hnk] at hQ
    have hKl : ∀ l, (∀ a' k', ¬ a' = m + 15 → l a' k' = mcl M a' k') → KnOk (mci (mI M m 0 0)) l m := fun l hl => KnOk.at (TP.z (x := 0) hP).2.2.2.2.1 (fun p => rfl) (fun p => hl _ _ (by omega))
    have hss := (TP.z (x := 0) hP).2.2.2.2.2
    have sum : ∀ (t : Nat) (i s : Int) (l : Ci), (6 - i).toNat = t → (k ≤ i) → (i ≤ 6) → (s = waySum (v 7) n.toNat k (i - k).toNat) → (∀ j, 0 ≤ j → j ≤ 5 → l (m + 15) j = waysV (v 7) n.toNat j) → (∀ a' k', ¬ a' = m + 15 → l a' k' = mcl M a' k') → WP G d mX8_odds 167 [some (dR m), some (dI n), some (dI k), some (dL (100 ^ n.toNat)), none, some (dL s), none, some (dI i)] [] (wL (mI M m 0 0) (mci (mI M m 0 0)) l) Q := by
      intro t
      induction t using Nat.strongRecOn with
      | _ t ih =>
        intro i s l ht i0 i1 hs hl hf
        have hsr := waySum_r (al := v 7) h7 (t := n.toNat) (by omega) k (i - k).toNat
        rw [← hs] at hsr
        have hpw := pow5 (t := n.toNat) (by omega)
        by_cases hi : i ≤ 5
        · have hwr := waysV_r (al := v 7) h7 n.toNat i
          have er := hl i (by omega) hi
          have es : waySum (v 7) n.toNat k (i + 1 - k).toNat = s + waysV (v 7) n.toNat i := by
            rw [show (i + 1 - k).toNat = (i - k).toNat + 1 by omega, hs]
            show waySum (v 7) n.toNat k (i - k).toNat + waysV (v 7) n.toNat (k + ((i - k).toNat : Int)) = _
            rw [show k + ((i - k).toNat : Int) = i by omega]
          refine x_iload dX8_odds_167 rfl ?_
          refine x_iconst dX8_odds_169 rfl ?_
          refine x_icmp_gt (tgt := 191) dX8_odds_170 (by decide) (fun h170 => ?_) (fun h170 => ?_)
          · omega
          · refine x_lload dX8_odds_173 rfl ?_
            refine x_aload_n dX8_odds_175 rfl rfl ?_
            refine g_getR (kI := 31) rfl dX8_odds_176 fX8_61_8 (by first | assumption | exact hT.2.1) (by first | assumption | exact hT.2.1) ?_
            refine x_iload dX8_odds_179 rfl ?_
            refine x_lald dX8_odds_181 (by first | assumption | exact hT.2.1) (by omega) (by omega) ?_
            try simp (disch := omega) only [rdI_e, rdI_n, rdC_i, rdC_o, rdW, rdR, rdU_e, rdU_n, rdLW, Int.add_zero, rdLL, er]
            first | refine x_laddN dX8_odds_182 (by unfold i64; omega) ?_ | refine x_ladd dX8_odds_182 ?_
            refine x_lstore (L' := [some _, some _, some _, some _, none, some _, none, some _]) dX8_odds_183 (by decide) rfl ?_
            first | refine x_iincN (L' := [some _, some _, some _, some _, none, some _, none, some _]) dX8_odds_185 rfl (by decide) (by unfold i32; omega) rfl ?_ | refine x_iinc (L' := [some _, some _, some _, some _, none, some _, none, some _]) dX8_odds_185 rfl (by decide) rfl ?_
            refine x_goto (tgt := 167) dX8_odds_188 (by decide) ?_
            exact ih _ (by omega) (i + 1) _ l rfl (by omega) (by omega) es.symm hl hf
        · refine x_iload dX8_odds_167 rfl ?_
          refine x_iconst dX8_odds_169 rfl ?_
          refine x_icmp_gt (tgt := 191) dX8_odds_170 (by decide) (fun h170 => ?_) (fun h170 => ?_)
          · refine x_ldc2 (z := 10000) dX8_odds_191 q2385 (by decide) ?_
            refine x_lload dX8_odds_194 rfl ?_
            first | refine x_lmulN dX8_odds_196 (by unfold i64; omega) ?_ | refine x_lmul dX8_odds_196 ?_
            refine x_lload_n dX8_odds_197 rfl rfl ?_
            refine x_ldivN dX8_odds_198 (by omega) (by omega) ?_
            refine x_l2i dX8_odds_199 ?_
            refine x_ireturn rfl dX8_odds_200 ?_
            refine hQ _ _ ⟨_, rfl, RD.mk (g := mci (mI M m 0 0)) (l := l) TQ.rfl (fun a' k' _ q => hf a' k' q) (hKl l hf) hss, fun _ => ?_⟩
            unfold oddsAns
            rw [hs, show (i - k).toNat = (6 - k).toNat by omega]
          · omega
    have lp : ∀ (t1 : Nat) (t : Int) (l : Ci), (n - t).toNat = t1 → (0 ≤ t) → (t ≤ n) → (∀ j, 0 ≤ j → j ≤ 5 → l (m + 15) j = waysV (v 7) t.toNat j) → (∀ a' k', ¬ a' = m + 15 → l a' k' = mcl M a' k') → WP G d mX8_odds 75 [some (dR m), some (dI n), some (dI k), some (dL (100 ^ t.toNat)), none, some (dI t), none, none] [] (wL (mI M m 0 0) (mci (mI M m 0 0)) l) Q := by
      intro t1
      induction t1 using Nat.strongRecOn with
      | _ t1 ih1 =>
        intro t l ht1 t0 t1' hl hf
        have hpw := pow5 (t := t.toNat) (by omega)
        by_cases ht : t < n
        · have epw : (100 : Int) ^ (t + 1).toNat = 100 ^ t.toNat * 100 := by rw [show (t + 1).toNat = t.toNat + 1 by omega, Int.pow_succ]
          have inner : ∀ (t2 : Nat) (i : Int) (l : Ci), (i + 1).toNat = t2 → (-1 ≤ i) → (i ≤ 5) → (∀ j, 0 ≤ j → j ≤ 5 → l (m + 15) j = (if i < j then waysV (v 7) (t + 1).toNat j else waysV (v 7) t.toNat j)) → (∀ a' k', ¬ a' = m + 15 → l a' k' = mcl M a' k') → WP G d mX8_odds 84 [some (dR m), some (dI n), some (dI k), some (dL (100 ^ t.toNat)), none, some (dI t), some (dI i), none] [] (wL (mI M m 0 0) (mci (mI M m 0 0)) l) Q := by
            intro t2
            induction t2 using Nat.strongRecOn with
            | _ t2 ih2 =>
              intro i l ht2 i0 i1 hl hf
              by_cases hi : 0 ≤ i
              · have w1 := waysV_r (al := v 7) h7 t.toNat i
                have w2 := waysV_r (al := v 7) h7 t.toNat (i - 1)
                have m1 : 0 ≤ waysV (v 7) t.toNat i * (100 - v 7) := Int.mul_nonneg w1.1 (by omega)
                have m2 : waysV (v 7) t.toNat i * (100 - v 7) ≤ 10000000000 * 100 := Int.mul_le_mul (by omega) (by omega) (by omega) (by omega)
                have m3 : 0 ≤ waysV (v 7) t.toNat (i - 1) * v 7 := Int.mul_nonneg w2.1 (by omega)
                have m4 : waysV (v 7) t.toNat (i - 1) * v 7 ≤ 10000000000 * 100 := Int.mul_le_mul (by omega) (by omega) (by omega) (by omega)
                have er := hl i hi (by omega)
                rw [if_neg (by omega)] at er
                have er2 : 0 < i → l (m + 15) (i - 1) = waysV (v 7) t.toNat (i - 1) := fun q => by
                  have := hl (i - 1) (by omega) (by omega)
                  rw [if_neg (by omega)] at this
                  exact this
                have es : waysV (v 7) (t + 1).toNat i = waysV (v 7) t.toNat i * (100 - v 7) + (if i = 0 then 0 else waysV (v 7) t.toNat (i - 1) * v 7) := by
                  rw [show (t + 1).toNat = t.toNat + 1 by omega, waysV_s]
                have nx : ∀ x, x = waysV (v 7) (t + 1).toNat i → WP G d mX8_odds 84 [some (dR m), some (dI n), some (dI k), some (dL (100 ^ t.toNat)), none, some (dI t), some (dI (i + -1)), none] [] (wL (mI M m 0 0) (mci (mI M m 0 0)) (up l (m + 15) i x)) Q := fun x hx =>
                  ih2 _ (by omega) (i + -1) _ rfl (by omega) (by omega) (fun j j0 j1 => by
                    by_cases e : j = i
                    · subst e
                      rw [if_pos (by omega), rdU_e ⟨rfl, rfl⟩, hx]
                    · rw [rdU_n (by omega), hl j j0 j1]
                      by_cases q : i < j
                      · rw [if_pos q, if_pos (by omega)]
                      · rw [if_neg q, if_neg (by omega)]) (fun a' k' q => (rdU_n (by omega)).trans (hf a' k' q))
                refine x_iload dX8_odds_84 rfl ?_
                refine x_if_lt (tgt := 149) dX8_odds_86 (by decide) (fun h86 => ?_) (fun h86 => ?_)
                · omega
                · refine x_aload_n dX8_odds_89 rfl rfl ?_
                  refine g_getR (kI := 31) rfl dX8_odds_90 fX8_61_8 (by first | assumption | exact hT.2.1) (by first | assumption | exact hT.2.1) ?_
                  refine x_iload dX8_odds_93 rfl ?_
                  refine x_aload_n dX8_odds_95 rfl rfl ?_
                  refine g_getR (kI := 31) rfl dX8_odds_96 fX8_61_8 (by first | assumption | exact hT.2.1) (by first | assumption | exact hT.2.1) ?_
                  refine x_iload dX8_odds_99 rfl ?_
                  refine x_lald dX8_odds_101 (by first | assumption | exact hT.2.1) (by omega) (by omega) ?_
                  try simp (disch := omega) only [rdI_e, rdI_n, rdC_i, rdC_o, rdW, rdR, rdU_e, rdU_n, rdLW, Int.add_zero, rdLL, er, er2, e7, e7b]
                  refine x_bipush dX8_odds_102 rfl ?_
                  refine x_aload_n dX8_odds_104 rfl rfl ?_
                  refine g_getR (kI := 1) rfl dX8_odds_105 fX8_13_8 (by first | assumption | exact hT.2.1) (by first | assumption | exact hT.2.1) ?_
                  refine x_bipush dX8_odds_108 rfl ?_
                  refine x_iald dX8_odds_110 (by first | assumption | exact hT.2.1) (by omega) (by omega) ?_
                  try simp (disch := omega) only [rdI_e, rdI_n, rdC_i, rdC_o, rdW, rdR, rdU_e, rdU_n, rdLW, Int.add_zero, rdLL, er, er2, e7, e7b]
                  first | refine x_isubN dX8_odds_111 (by unfold i32; omega) ?_ | refine x_isub dX8_odds_111 ?_
                  refine x_i2l dX8_odds_112 ?_
                  first | refine x_lmulN dX8_odds_113 (by unfold i64; omega) ?_ | refine x_lmul dX8_odds_113 ?_
                  refine x_iload dX8_odds_114 rfl ?_
                  refine x_if_ne (tgt := 123) dX8_odds_116 (by decide) (fun h116 => ?_) (fun h116 => ?_)
                  · refine x_aload_n dX8_odds_123 rfl rfl ?_
                    refine g_getR (kI := 31) rfl dX8_odds_124 fX8_61_8 (by first | assumption | exact hT.2.1) (by first | assumption | exact hT.2.1) ?_
                    refine x_iload dX8_odds_127 rfl ?_
                    refine x_iconst dX8_odds_129 rfl ?_
                    first | refine x_isubN dX8_odds_130 (by unfold i32; omega) ?_ | refine x_isub dX8_odds_130 ?_
                    refine x_lald dX8_odds_131 (by first | assumption | exact hT.2.1) (by omega) (by omega) ?_
                    try simp (disch := omega) only [rdI_e, rdI_n, rdC_i, rdC_o, rdW, rdR, rdU_e, rdU_n, rdLW, Int.add_zero, rdLL, er, er2, e7, e7b]
                    refine x_aload_n dX8_odds_132 rfl rfl ?_
                    refine g_getR (kI := 1) rfl dX8_odds_133 fX8_13_8 (by first | assumption | exact hT.2.1) (by first | assumption | exact hT.2.1) ?_
                    refine x_bipush dX8_odds_136 rfl ?_
                    refine x_iald dX8_odds_138 (by first | assumption | exact hT.2.1) (by omega) (by omega) ?_
                    try simp (disch := omega) only [rdI_e, rdI_n, rdC_i, rdC_o, rdW, rdR, rdU_e, rdU_n, rdLW, Int.add_zero, rdLL, er, er2, e7, e7b]
                    refine x_i2l dX8_odds_139 ?_
                    first | refine x_lmulN dX8_odds_140 (by unfold i64; omega) ?_ | refine x_lmul dX8_odds_140 ?_
                    first | refine x_laddN dX8_odds_141 (by unfold i64; omega) ?_ | refine x_ladd dX8_odds_141 ?_
                    refine x_last (by omega) dX8_odds_142 (by first | assumption | exact hT.2.1) (by omega) (by omega) ?_
                    first | refine x_iincN (L' := [some _, some _, some _, some _, none, some _, some _, none]) dX8_odds_143 rfl (by decide) (by unfold i32; omega) rfl ?_ | refine x_iinc (L' := [some _, some _, some _, some _, none, some _, some _, none]) dX8_odds_143 rfl (by decide) rfl ?_
                    refine x_goto (tgt := 84) dX8_odds_146 (by decide) ?_
                    first
                    | (refine WP.mem (M1 := wL (mI M m 0 0) (mci (mI M m 0 0)) (up l (m + 15) i (waysV (v 7) t.toNat i * (100 - v 7) + 0))) rfl (nx _ ?_)
                       rw [es, if_pos h116])
                    | (refine WP.mem (M1 := wL (mI M m 0 0) (mci (mI M m 0 0)) (up l (m + 15) i (waysV (v 7) t.toNat i * (100 - v 7) + waysV (v 7) t.toNat (i - 1) * v 7))) rfl (nx _ ?_)
                       rw [es, if_neg h116])
                  · refine x_lconst (z := 0) dX8_odds_119 rfl ?_
                    refine x_goto (tgt := 141) dX8_odds_120 (by decide) ?_
                    first | refine x_laddN dX8_odds_141 (by unfold i64; omega) ?_ | refine x_ladd dX8_odds_141 ?_
                    refine x_last (by omega) dX8_odds_142 (by first | assumption | exact hT.2.1) (by omega) (by omega) ?_
                    first | refine x_iincN (L' := [some _, some _, some _, some _, none, some _, some _, none]) dX8_odds_143 rfl (by decide) (by unfold i32; omega) rfl ?_ | refine x_iinc (L' := [some _, some _, some _, some _, none, some _, some _, none]) dX8_odds_143 rfl (by decide) rfl ?_
                    refine x_goto (tgt := 84) dX8_odds_146 (by decide) ?_
                    first
                    | (refine WP.mem (M1 := wL (mI M m 0 0) (mci (mI M m 0 0)) (up l (m + 15) i (waysV (v 7) t.toNat i * (100 - v 7) + 0))) rfl (nx _ ?_)
                       rw [es, if_pos h116])
                    | (refine WP.mem (M1 := wL (mI M m 0 0) (mci (mI M m 0 0)) (up l (m + 15) i (waysV (v 7) t.toNat i * (100 - v 7) + waysV (v 7) t.toNat (i - 1) * v 7))) rfl (nx _ ?_)
                       rw [es, if_neg h116])
              · refine x_iload dX8_odds_84 rfl ?_
                refine x_if_lt (tgt := 149) dX8_odds_86 (by decide) (fun h86 => ?_) (fun h86 => ?_)
                · refine x_lload_n dX8_odds_149 rfl rfl ?_
                  refine x_ldc2 (z := 100) dX8_odds_150 q2384 (by decide) ?_
                  first | refine x_lmulN dX8_odds_153 (by unfold i64; omega) ?_ | refine x_lmul dX8_odds_153 ?_
                  refine x_lstore_n (L' := [some _, some _, some _, some _, none, some _, some _, none]) dX8_odds_154 rfl (by decide) rfl ?_
                  first | refine x_iincN (L' := [some _, some _, some _, some _, none, some _, some _, none]) dX8_odds_155 rfl (by decide) (by unfold i32; omega) rfl ?_ | refine x_iinc (L' := [some _, some _, some _, some _, none, some _, some _, none]) dX8_odds_155 rfl (by decide) rfl ?_
                  refine x_goto (tgt := 75) dX8_odds_158 (by decide) ?_
                  refine x_fgt (L' := [some (dR m), some (dI n), some (dI k), some (dL (100 ^ t.toNat * 100)), none, some (dI (t + 1)), none, none]) (by repeat (first | exact trivial | refine ⟨rfl, ?_⟩)) ?_
                  rw [← epw]
                  refine ih1 _ (by omega) (t + 1) l rfl (by omega) (by omega) (fun j j0 j1 => ?_) hf
                  rw [hl j j0 j1, if_pos (by omega)]
                · omega
          refine x_iload dX8_odds_75 rfl ?_
          refine x_iload_n dX8_odds_77 rfl rfl ?_
          refine x_icmp_ge (tgt := 161) dX8_odds_78 (by decide) (fun h78 => ?_) (fun h78 => ?_)
          · omega
          · refine x_iconst dX8_odds_81 rfl ?_
            refine x_istore (L' := [some _, some _, some _, some _, none, some _, some _, none]) dX8_odds_82 (by decide) rfl ?_
            exact inner _ 5 l rfl (by omega) (by omega) (fun j j0 j1 => by rw [if_neg (by omega)]; exact hl j j0 j1) hf
        · have etn : t.toNat = n.toNat := by omega
          rw [etn] at hl ⊢
          refine x_iload dX8_odds_75 rfl ?_
          refine x_iload_n dX8_odds_77 rfl rfl ?_
          refine x_icmp_ge (tgt := 161) dX8_odds_78 (by decide) (fun h78 => ?_) (fun h78 => ?_)
          · refine x_lconst (z := 0) dX8_odds_161 rfl ?_
            refine x_lstore (L' := [some _, some _, some _, some _, none, some _, none, none]) dX8_odds_162 (by decide) rfl ?_
            refine x_iload_n dX8_odds_164 rfl rfl ?_
            refine x_istore (L' := [some _, some _, some _, some _, none, some _, none, some _]) dX8_odds_165 (by decide) rfl ?_
            exact x_fgt (by repeat (first | exact trivial | refine ⟨rfl, ?_⟩)) (sum _ k 0 l rfl (by omega) (by omega) (by rw [show (k - k).toNat = 0 by omega]; rfl) hl hf)
          · omega
    have zero : ∀ (t : Nat) (i : Int) (l : Ci), (6 - i).toNat = t → (0 ≤ i) → (i ≤ 6) → (∀ j, 0 ≤ j → j < i → l (m + 15) j = waysV (v 7) 0 j) → (∀ a' k', ¬ a' = m + 15 → l a' k' = mcl M a' k') → WP G d mX8_odds 43 [some (dR m), some (dI n), some (dI k), some (dL 1), none, some (dI i), none, none] [] (wL (mI M m 0 0) (mci (mI M m 0 0)) l) Q := by
      intro t
      induction t using Nat.strongRecOn with
      | _ t ih =>
        intro i l ht i0 i1 hl hf
        have nx : ∀ x, x = waysV (v 7) 0 i → i ≤ 5 → WP G d mX8_odds 43 [some (dR m), some (dI n), some (dI k), some (dL 1), none, some (dI (i + 1)), none, none] [] (wL (mI M m 0 0) (mci (mI M m 0 0)) (up l (m + 15) i x)) Q := fun x hx h5 =>
          ih _ (by omega) (i + 1) _ rfl (by omega) (by omega) (fun j j0 j1 => by
            by_cases e : j = i
            · subst e
              rw [rdU_e ⟨rfl, rfl⟩, hx]
            · rw [rdU_n (by omega), hl j j0 (by omega)]) (fun a' k' q => (rdU_n (by omega)).trans (hf a' k' q))
        refine x_iload dX8_odds_43 rfl ?_
        refine x_iconst dX8_odds_45 rfl ?_
        refine x_icmp_gt (tgt := 72) dX8_odds_46 (by decide) (fun h46 => ?_) (fun h46 => ?_)
        · refine x_iconst dX8_odds_72 rfl ?_
          refine x_istore (L' := [some _, some _, some _, some _, none, some _, none, none]) dX8_odds_73 (by decide) rfl ?_
          exact x_fgt (by repeat (first | exact trivial | refine ⟨rfl, ?_⟩)) (lp _ 0 l rfl (by omega) (by omega) (fun j j0 j1 => hl j j0 (by omega)) hf)
        · refine x_aload_n dX8_odds_49 rfl rfl ?_
          refine g_getR (kI := 31) rfl dX8_odds_50 fX8_61_8 (by first | assumption | exact hT.2.1) (by first | assumption | exact hT.2.1) ?_
          refine x_iload dX8_odds_53 rfl ?_
          refine x_iload dX8_odds_55 rfl ?_
          refine x_if_ne (tgt := 64) dX8_odds_57 (by decide) (fun h57 => ?_) (fun h57 => ?_)
          · refine x_lconst (z := 0) dX8_odds_64 rfl ?_
            refine x_last (by omega) dX8_odds_65 (by first | assumption | exact hT.2.1) (by omega) (by omega) ?_
            first | refine x_iincN (L' := [some _, some _, some _, some _, none, some _, none, none]) dX8_odds_66 rfl (by decide) (by unfold i32; omega) rfl ?_ | refine x_iinc (L' := [some _, some _, some _, some _, none, some _, none, none]) dX8_odds_66 rfl (by decide) rfl ?_
            refine x_goto (tgt := 43) dX8_odds_69 (by decide) ?_
            first
            | exact WP.mem (M1 := wL (mI M m 0 0) (mci (mI M m 0 0)) (up l (m + 15) i 1)) rfl (nx 1 (if_pos h57).symm (by omega))
            | exact WP.mem (M1 := wL (mI M m 0 0) (mci (mI M m 0 0)) (up l (m + 15) i 0)) rfl (nx 0 (if_neg h57).symm (by omega))
          · refine x_lconst (z := 1) dX8_odds_60 rfl ?_
            refine x_goto (tgt := 65) dX8_odds_61 (by decide) ?_
            refine x_last (by omega) dX8_odds_65 (by first | assumption | exact hT.2.1) (by omega) (by omega) ?_
            first | refine x_iincN (L' := [some _, some _, some _, some _, none, some _, none, none]) dX8_odds_66 rfl (by decide) (by unfold i32; omega) rfl ?_ | refine x_iinc (L' := [some _, some _, some _, some _, none, some _, none, none]) dX8_odds_66 rfl (by decide) rfl ?_
            refine x_goto (tgt := 43) dX8_odds_69 (by decide) ?_
            first
            | exact WP.mem (M1 := wL (mI M m 0 0) (mci (mI M m 0 0)) (up l (m + 15) i 1)) rfl (nx 1 (if_pos h57).symm (by omega))
            | exact WP.mem (M1 := wL (mI M m 0 0) (mci (mI M m 0 0)) (up l (m + 15) i 0)) rfl (nx 0 (if_neg h57).symm (by omega))
    refine x_aload_n dX8_odds_0 rfl rfl ?_
    refine x_iconst dX8_odds_1 rfl ?_
    refine g_putI (kI := 0) rfl dX8_odds_2 fX8_3_8 (by first | assumption | exact hT.2.1) ?_
    refine x_aload_n dX8_odds_5 rfl rfl ?_
    refine x_iload_n dX8_odds_6 rfl rfl ?_
    refine x_iconst dX8_odds_7 rfl ?_
    refine x_iconst dX8_odds_8 rfl ?_
    refine g_callI (vs := [_, _, _]) (d' := d - 1) rfl (s_X8_in (by omega)) dX8_odds_9 kX8_88 (by omega) (by decide) rfl (Nat.le_of_ble_eq_true rfl) (rcv_n) (fun x9 M9 h9 => ?_)
    obtain ⟨e9, f9⟩ := h9
    have f9' := f9.symm
    subst f9'
    subst e9
    refine x_if_eq (tgt := 24) dX8_odds_12 (by decide) (fun h12 => ?_) (fun h12 => ?_)
    · try simp only [vP_0, vP_1, vP_n0, vP_n1, Classical.not_not] at h12
      refine x_iconst dX8_odds_24 rfl ?_
      refine x_goto (tgt := 29) dX8_odds_25 (by decide) ?_
      refine x_iconst dX8_odds_29 rfl ?_
      refine g_callI (vs := [_, _, _]) (d' := d - 1) rfl (s_X8_throwsIf (by omega) hT (by first | omega | exact vP_r _)) dX8_odds_30 kX8_280 (by omega) (by decide) rfl (Nat.le_of_ble_eq_true rfl) (rcv_o (by first | assumption | exact hT.2.1) rfl) (fun x30 M30 h30 => ?_)
      obtain ⟨e30, r30, f30⟩ := h30
      have f30' := (f30.2 (by omega)).symm
      subst f30'
      subst e30
      refine x_if_eq (tgt := 38) dX8_odds_33 (by decide) (fun h33 => ?_) (fun h33 => ?_)
      · exact absurd h33 (by decide)
      · try simp only [vP_0, vP_1, vP_n0, vP_n1, Classical.not_not] at h33
        omega
    · try simp only [vP_0, vP_1, vP_n0, vP_n1, Classical.not_not] at h12
      refine x_iload_n dX8_odds_15 rfl rfl ?_
      refine x_iconst dX8_odds_16 rfl ?_
      refine x_iconst dX8_odds_17 rfl ?_
      refine g_callI (vs := [_, _, _]) (d' := d - 1) rfl (s_X8_in (by omega)) dX8_odds_18 kX8_88 (by omega) (by decide) rfl (Nat.le_of_ble_eq_true rfl) (rcv_n) (fun x18 M18 h18 => ?_)
      obtain ⟨e18, f18⟩ := h18
      have f18' := f18.symm
      subst f18'
      subst e18
      refine x_if_ne (tgt := 28) dX8_odds_21 (by decide) (fun h21 => ?_) (fun h21 => ?_)
      · try simp only [vP_0, vP_1, vP_n0, vP_n1, Classical.not_not] at h21
        refine x_iconst dX8_odds_28 rfl ?_
        refine x_iconst dX8_odds_29 rfl ?_
        refine g_callI (vs := [_, _, _]) (d' := d - 1) rfl (s_X8_throwsIf (by omega) hT (by first | omega | exact vP_r _)) dX8_odds_30 kX8_280 (by omega) (by decide) rfl (Nat.le_of_ble_eq_true rfl) (rcv_o (by first | assumption | exact hT.2.1) rfl) (fun x30 M30 h30 => ?_)
        obtain ⟨e30, r30, f30⟩ := h30
        have f30' := (f30.1 (by omega)).symm
        subst f30'
        subst e30
        refine x_if_eq (tgt := 38) dX8_odds_33 (by decide) (fun h33 => ?_) (fun h33 => ?_)
        · try simp only [vP_0, vP_1, vP_n0, vP_n1, Classical.not_not] at h33
          refine x_lconst (z := 1) dX8_odds_38 rfl ?_
          refine x_lstore_n (L' := [some _, some _, some _, some _, none, none, none, none]) dX8_odds_39 rfl (by decide) rfl ?_
          refine x_iconst dX8_odds_40 rfl ?_
          refine x_istore (L' := [some _, some _, some _, some _, none, some _, none, none]) dX8_odds_41 (by decide) rfl ?_
          exact WP.mem (M1 := wL (mI M m 0 0) (mci (mI M m 0 0)) (mcl M)) rfl (zero _ 0 (mcl M) rfl (by omega) (by omega) (fun j j0 j1 => by omega) fun _ _ _ => rfl)
        · omega
      · try simp only [vP_0, vP_1, vP_n0, vP_n1, Classical.not_not] at h21
        refine x_iconst dX8_odds_24 rfl ?_
        refine x_goto (tgt := 29) dX8_odds_25 (by decide) ?_
        refine x_iconst dX8_odds_29 rfl ?_
        refine g_callI (vs := [_, _, _]) (d' := d - 1) rfl (s_X8_throwsIf (by omega) hT (by first | omega | exact vP_r _)) dX8_odds_30 kX8_280 (by omega) (by decide) rfl (Nat.le_of_ble_eq_true rfl) (rcv_o (by first | assumption | exact hT.2.1) rfl) (fun x30 M30 h30 => ?_)
        obtain ⟨e30, r30, f30⟩ := h30
        have f30' := (f30.2 (by omega)).symm
        subst f30'
        subst e30
        refine x_if_eq (tgt := 38) dX8_odds_33 (by decide) (fun h33 => ?_) (fun h33 => ?_)
        · exact absurd h33 (by decide)
        · try simp only [vP_0, vP_1, vP_n0, vP_n1, Classical.not_not] at h33
          omega
  · rw [if_neg hnk] at hQ
    refine x_aload_n dX8_odds_0 rfl rfl ?_
    refine x_iconst dX8_odds_1 rfl ?_
    refine g_putI (kI := 0) rfl dX8_odds_2 fX8_3_8 (by first | assumption | exact hT.2.1) ?_
    refine x_aload_n dX8_odds_5 rfl rfl ?_
    refine x_iload_n dX8_odds_6 rfl rfl ?_
    refine x_iconst dX8_odds_7 rfl ?_
    refine x_iconst dX8_odds_8 rfl ?_
    refine g_callI (vs := [_, _, _]) (d' := d - 1) rfl (s_X8_in (by omega)) dX8_odds_9 kX8_88 (by omega) (by decide) rfl (Nat.le_of_ble_eq_true rfl) (rcv_n) (fun x9 M9 h9 => ?_)
    obtain ⟨e9, f9⟩ := h9
    have f9' := f9.symm
    subst f9'
    subst e9
    refine x_if_eq (tgt := 24) dX8_odds_12 (by decide) (fun h12 => ?_) (fun h12 => ?_)
    · try simp only [vP_0, vP_1, vP_n0, vP_n1, Classical.not_not] at h12
      refine x_iconst dX8_odds_24 rfl ?_
      refine x_goto (tgt := 29) dX8_odds_25 (by decide) ?_
      refine x_iconst dX8_odds_29 rfl ?_
      refine g_callI (vs := [_, _, _]) (d' := d - 1) rfl (s_X8_throwsIf (by omega) hT (by first | omega | exact vP_r _)) dX8_odds_30 kX8_280 (by omega) (by decide) rfl (Nat.le_of_ble_eq_true rfl) (rcv_o (by first | assumption | exact hT.2.1) rfl) (fun x30 M30 h30 => ?_)
      obtain ⟨e30, r30, f30⟩ := h30
      have f30' := (f30.2 (by omega)).symm
      subst f30'
      subst e30
      refine x_if_eq (tgt := 38) dX8_odds_33 (by decide) (fun h33 => ?_) (fun h33 => ?_)
      · omega
      · try simp only [vP_0, vP_1, vP_n0, vP_n1, Classical.not_not] at h33
        refine x_iconst dX8_odds_36 rfl ?_
        refine x_ireturn rfl dX8_odds_37 ?_
        exact hQ _ _ ⟨_, rfl, RD.t hP, fun q => absurd q hnk⟩
    · try simp only [vP_0, vP_1, vP_n0, vP_n1, Classical.not_not] at h12
      refine x_iload_n dX8_odds_15 rfl rfl ?_
      refine x_iconst dX8_odds_16 rfl ?_
      refine x_iconst dX8_odds_17 rfl ?_
      refine g_callI (vs := [_, _, _]) (d' := d - 1) rfl (s_X8_in (by omega)) dX8_odds_18 kX8_88 (by omega) (by decide) rfl (Nat.le_of_ble_eq_true rfl) (rcv_n) (fun x18 M18 h18 => ?_)
      obtain ⟨e18, f18⟩ := h18
      have f18' := f18.symm
      subst f18'
      subst e18
      refine x_if_ne (tgt := 28) dX8_odds_21 (by decide) (fun h21 => ?_) (fun h21 => ?_)
      · try simp only [vP_0, vP_1, vP_n0, vP_n1, Classical.not_not] at h21
        refine x_iconst dX8_odds_28 rfl ?_
        refine x_iconst dX8_odds_29 rfl ?_
        refine g_callI (vs := [_, _, _]) (d' := d - 1) rfl (s_X8_throwsIf (by omega) hT (by first | omega | exact vP_r _)) dX8_odds_30 kX8_280 (by omega) (by decide) rfl (Nat.le_of_ble_eq_true rfl) (rcv_o (by first | assumption | exact hT.2.1) rfl) (fun x30 M30 h30 => ?_)
        obtain ⟨e30, r30, f30⟩ := h30
        have f30' := (f30.1 (by omega)).symm
        subst f30'
        subst e30
        refine x_if_eq (tgt := 38) dX8_odds_33 (by decide) (fun h33 => ?_) (fun h33 => ?_)
        · try simp only [vP_0, vP_1, vP_n0, vP_n1, Classical.not_not] at h33
          omega
        · exact absurd h33 (by decide)
      · try simp only [vP_0, vP_1, vP_n0, vP_n1, Classical.not_not] at h21
        refine x_iconst dX8_odds_24 rfl ?_
        refine x_goto (tgt := 29) dX8_odds_25 (by decide) ?_
        refine x_iconst dX8_odds_29 rfl ?_
        refine g_callI (vs := [_, _, _]) (d' := d - 1) rfl (s_X8_throwsIf (by omega) hT (by first | omega | exact vP_r _)) dX8_odds_30 kX8_280 (by omega) (by decide) rfl (Nat.le_of_ble_eq_true rfl) (rcv_o (by first | assumption | exact hT.2.1) rfl) (fun x30 M30 h30 => ?_)
        obtain ⟨e30, r30, f30⟩ := h30
        have f30' := (f30.2 (by omega)).symm
        subst f30'
        subst e30
        refine x_if_eq (tgt := 38) dX8_odds_33 (by decide) (fun h33 => ?_) (fun h33 => ?_)
        · omega
        · try simp only [vP_0, vP_1, vP_n0, vP_n1, Classical.not_not] at h33
          refine x_iconst dX8_odds_36 rfl ?_
          refine x_ireturn rfl dX8_odds_37 ?_
          exact hQ _ _ ⟨_, rfl, RD.t hP, fun q => absurd q hnk⟩
end X8

