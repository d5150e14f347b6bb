/-! GuestView: odds -/
/-- the ways of one set of ticks -/
def prS (al x s : Int) : Nat → Int
  | 0 => x
  | t + 1 => prS al x s t * (if bitI s t = 1 then al else 100 - al)
/-- of the first sets together -/
def seS (al k : Int) (n : Nat) : Nat → Int
  | 0 => 0
  | t + 1 => seS al k n t + prS al (if bc0 t < k then 0 else 1) t n
theorem seS_0 : ∀ n : Fin 6, ∀ k : Fin 6, ∀ al : Fin 101, seS (al.val : Int) (k.val : Int) n.val (2 ^ n.val) = waySum (al.val : Int) n.val (k.val : Int) (6 - k.val) := by decide +kernel
theorem seS_e {al n k : Int} (hn : 0 ≤ n ∧ n ≤ 5) (hk : 0 ≤ k ∧ k ≤ 5) (ha : 0 ≤ al ∧ al ≤ 100) : seS al k n.toNat (2 ^ n.toNat) = waySum al n.toNat k (6 - k).toNat := by
  have h := seS_0 ⟨n.toNat, by omega⟩ ⟨k.toNat, by omega⟩ ⟨al.toNat, by omega⟩
  simp only [] at h
  rw [show ((al.toNat : Nat) : Int) = al by omega, show ((k.toNat : Nat) : Int) = k by omega] at h
  rw [show (6 - k).toNat = 6 - k.toNat by omega]
  exact h
theorem prS_r {al x s : Int} (ha : 0 ≤ al ∧ al ≤ 100) (hx : 0 ≤ x ∧ x ≤ 1) : ∀ t : Nat, 0 ≤ prS al x s t ∧ prS al x s t ≤ 100 ^ t := by
  intro t
  induction t with
  | zero => exact ⟨hx.1, hx.2⟩
  | succ t ih =>
    have m : ∀ z : Int, 0 ≤ z → z ≤ 100 → 0 ≤ prS al x s t * z ∧ prS al x s t * z ≤ 100 ^ (t + 1) := fun z z0 z1 => by
      rw [Int.pow_succ]
      exact ⟨Int.mul_nonneg ih.1 z0, Int.mul_le_mul ih.2 z1 z0 (by have := ih.1; have := ih.2; omega)⟩
    show 0 ≤ prS al x s t * (if bitI s t = 1 then al else 100 - al) ∧ prS al x s t * (if bitI s t = 1 then al else 100 - al) ≤ _
    split
    · exact m _ (by omega) (by omega)
    · exact m _ (by omega) (by omega)
theorem seS_r {al k : Int} {n : Nat} (ha : 0 ≤ al ∧ al ≤ 100) : ∀ t : Nat, 0 ≤ seS al k n t ∧ seS al k n t ≤ t * 100 ^ n := by
  intro t
  induction t with
  | zero => exact ⟨Int.le_refl 0, by simp [seS]⟩
  | succ t ih =>
    have h := prS_r (al := al) (x := if bc0 t < k then 0 else 1) (s := t) ha (by split <;> omega) n
    have e : (((t + 1 : Nat) : Int)) * 100 ^ n = t * 100 ^ n + 100 ^ n := by rw [Int.natCast_succ, Int.add_mul, Int.one_mul]
    rw [e]
    show 0 ≤ seS al k n t + prS al (if bc0 t < k then 0 else 1) t n ∧ seS al k n t + prS al (if bc0 t < k then 0 else 1) t n ≤ _
    omega
section X1
variable {G : GW} {d : Nat} {M M1 : Mem} {a b c e k n x y op w st hi sz fa N i p T s j : Int} {v vi : Vw} {A : Int → Vw} {tp : Int → Int}
theorem s_X1_odds (hd : 14 ≤ d) (hC : CI M v n A hi vi tp sz fa N) : CS G d mX1_odds [dR 0, dI j, dI k] M (orT (postI fun y M1 => ((0 ≤ j ∧ j ≤ 5) ∧ 0 ≤ k ∧ k ≤ 5) ∧ y = oddsAns v j k ∧ CO M v n A hi vi tp sz fa N 0 0 M1) (fun a E M1 => CO M v n A hi vi tp sz fa N 1 6 M1 ∧ ¬ ((0 ≤ j ∧ j ≤ 5) ∧ 0 ≤ k ∧ k ≤ 5) ∧ E = "java/lang/IllegalArgumentException")) := by
  obtain ⟨hC1, hC54, hCA, hCR⟩ := id hC; obtain ⟨hS, hTab, hTx, hLn, hSk, hnx⟩ := id hC1; obtain ⟨hA, hL, hR⟩ := id hC54; obtain ⟨⟨s0, s199, s200, s201, s202, s203⟩, ⟨c0, c1, c2, c3, c4, c5, c6, c7, c8, c9, c10, c11, c12⟩, c203, hSt, m189, m191, g193, g196, ⟨⟨r2, r3, r4, r5, r6, r7, r53⟩, ⟨w0, w1, w2, w3, w4, w5, w6⟩, wx1, wx2, wx3⟩⟩ := id hS; have hv := hA.1; have hv8 := hv.n8; have hv0 := hv.1.1; have hv3 := hv.2.2.2.1; have hs54 := hSt 54 (by unfold SB; omega); obtain ⟨p0, p1, ⟨d0, d1, d2, d3, d4, d5, d6, d7⟩, ⟨t1, t2, t3, t4, t5, t6⟩, p5, p6, p7⟩ := id hs54; have t7 : msh M (54 + 7) = some (4, 0) := p5.2.1; have t10 : msh M (54 + 10) = some (4, 0) := p6.2.1; obtain ⟨hB, hW, hLw⟩ := id hR.1; obtain ⟨b1, b2, b3, b4, b5, b6, b7, b8, b9, b10, b11, b12, b13, b14, b15⟩ := id hB; obtain ⟨hn, hn2, hat, hAc⟩ := id hCA; obtain ⟨⟨hki, hhi⟩, hIm, ⟨htp, hsz, hsz2⟩, hfa⟩ := id hCR
  have h7 := hv.2.2.2.2.2.2.2.1
  refine CS.mkQ (by decide) (Nat.le_of_ble_eq_true rfl) fun Q hQ => ?_
  by_cases hjk : (0 ≤ j ∧ j ≤ 5) ∧ 0 ≤ k ∧ k ≤ 5
  · have hpw := pow5 (t := j.toNat) (by omega)
    have hp2 : pw j ≤ 32 := by
      have := pw_mono (a := j.toNat) (b := 5) (by omega)
      rw [show ((j.toNat : Nat) : Int) = j by omega] at this
      exact this
    have hp1 := pw_pos j
    have epw : pw j = ((2 ^ j.toNat : Nat) : Int) := rfl
    have lp : ∀ (t : Nat) (s z : Int), (pw j - s).toNat = t → (0 ≤ s ∧ s ≤ pw j) → (z = seS (v 7) k j.toNat s.toNat) → WP G d mX1_odds 55 [some (dR 0), some (dI j), some (dI k), some (dL (100 ^ j.toNat)), none, some (dL z), none, some (dI s), none, none, none] [] (M) Q := by
      intro t
      induction t using Nat.strongRecOn with
      | _ t ih =>
        intro s z ht z0 hz
        have hzr := seS_r (al := v 7) (k := k) (n := j.toNat) (by omega) s.toNat
        rw [← hz, show ((s.toNat : Nat) : Int) = s by omega] at hzr
        have hzm : s * 100 ^ j.toNat ≤ 32 * 10000000000 := Int.mul_le_mul (by omega) (by omega) (by omega) (by omega)
        by_cases hs : s < pw j
        · skip
          have lp2 : ∀ (t2 : Nat) (i q : Int), (j - i).toNat = t2 → (0 ≤ i ∧ i ≤ j) → (q = prS (v 7) (if bc0 s < k then 0 else 1) s i.toNat) → WP G d mX1_odds 82 [some (dR 0), some (dI j), some (dI k), some (dL (100 ^ j.toNat)), none, some (dL z), none, some (dI s), some (dL q), none, some (dI i)] [] (M) Q := by
            intro t2
            induction t2 using Nat.strongRecOn with
            | _ t2 ih2 =>
              intro i q ht2 i0 hq
              have hqr := prS_r (al := v 7) (x := if bc0 s < k then 0 else 1) (s := s) (by omega) (by split <;> omega) i.toNat
              have hpi := pow5 (t := i.toNat) (by omega)
              rw [← hq] at hqr
              have m1 : 0 ≤ q * v 7 := Int.mul_nonneg hqr.1 (by omega)
              have m2 : q * v 7 ≤ 10000000000 * 100 := Int.mul_le_mul (by omega) (by omega) (by omega) (by omega)
              have m3 : 0 ≤ q * (100 - v 7) := Int.mul_nonneg hqr.1 (by omega)
              have m4 : q * (100 - v 7) ≤ 10000000000 * 100 := Int.mul_le_mul (by omega) (by omega) (by omega) (by omega)
              have es : prS (v 7) (if bc0 s < k then 0 else 1) s (i + 1).toNat = q * (if bitI s i = 1 then v 7 else 100 - v 7) := by
                rw [show (i + 1).toNat = i.toNat + 1 by omega, hq]
                show prS _ _ _ i.toNat * (if bitI s ((i.toNat : Nat) : Int) = 1 then _ else _) = _
                rw [show ((i.toNat : Nat) : Int) = i by omega]
              by_cases hi : i < j
              · refine x_iload dX1_odds_82 rfl ?_
                refine x_iload_n dX1_odds_84 rfl rfl ?_
                refine x_icmp_ge (tgt := 132) dX1_odds_85 (by decide) (fun h85 => ?_) (fun h85 => ?_)
                · omega
                · refine x_lload dX1_odds_88 rfl ?_
                  refine x_iload dX1_odds_90 rfl ?_
                  refine x_iload dX1_odds_92 rfl ?_
                  refine x_ishr dX1_odds_94 ?_
                  refine x_iconst dX1_odds_95 rfl ?_
                  refine x_iand dX1_odds_96 ?_
                  rw [has_e (show i32 s from ⟨by omega, by omega⟩) (by omega)]
                  refine x_iconst dX1_odds_97 rfl ?_
                  refine x_icmp_ne (tgt := 112) dX1_odds_98 (by decide) (fun h98 => ?_) (fun h98 => ?_)
                  · refine x_bipush dX1_odds_112 rfl ?_
                    refine x_aload_n dX1_odds_114 rfl rfl ?_
                    refine g_getR (kI := 1) rfl dX1_odds_115 fX1_22_1 (by first | assumption | first | assumption | (simp (disch := omega) only [shI, shR, shL, shC, shD, shW, sh_V, shN_e, shN_n, crI, crL, crC, crW, crV, crR_e, crR_n, crN_e, crN_n, ciR, ciL, ciD, ciN_e, ciN_n, rdI_e, rdI_n, rdC_i, rdC_o, rdW, rdU_e, rdU_n, rdLW, clI, clR, clC, clD, clW, clV, clN_e, clN_n, clL_e, clL_n]; done) | (simp (disch := omega) only [shI, shR, shL, shC, shD, shW, sh_V, shN_e, shN_n, crI, crL, crC, crW, crV, crR_e, crR_n, crN_e, crN_n, ciR, ciL, ciD, ciN_e, ciN_n, rdI_e, rdI_n, rdC_i, rdC_o, rdW, rdU_e, rdU_n, rdLW, clI, clR, clC, clD, clW, clV, clN_e, clN_n, clL_e, clL_n] <;> first | assumption | rfl | omega)) (by first | assumption | first | assumption | (simp (disch := omega) only [shI, shR, shL, shC, shD, shW, sh_V, shN_e, shN_n, crI, crL, crC, crW, crV, crR_e, crR_n, crN_e, crN_n, ciR, ciL, ciD, ciN_e, ciN_n, rdI_e, rdI_n, rdC_i, rdC_o, rdW, rdU_e, rdU_n, rdLW, clI, clR, clC, clD, clW, clV, clN_e, clN_n, clL_e, clL_n]; done) | (simp (disch := omega) only [shI, shR, shL, shC, shD, shW, sh_V, shN_e, shN_n, crI, crL, crC, crW, crV, crR_e, crR_n, crN_e, crN_n, ciR, ciL, ciD, ciN_e, ciN_n, rdI_e, rdI_n, rdC_i, rdC_o, rdW, rdU_e, rdU_n, rdLW, clI, clR, clC, clD, clW, clV, clN_e, clN_n, clL_e, clL_n] <;> first | assumption | rfl | omega)) ?_
                    refine g_getI (kI := 15) rfl dX1_odds_118 fX1_347_3 (by first | assumption | first | assumption | (simp (disch := omega) only [shI, shR, shL, shC, shD, shW, sh_V, shN_e, shN_n, crI, crL, crC, crW, crV, crR_e, crR_n, crN_e, crN_n, ciR, ciL, ciD, ciN_e, ciN_n, rdI_e, rdI_n, rdC_i, rdC_o, rdW, rdU_e, rdU_n, rdLW, clI, clR, clC, clD, clW, clV, clN_e, clN_n, clL_e, clL_n]; done) | (simp (disch := omega) only [shI, shR, shL, shC, shD, shW, sh_V, shN_e, shN_n, crI, crL, crC, crW, crV, crR_e, crR_n, crN_e, crN_n, ciR, ciL, ciD, ciN_e, ciN_n, rdI_e, rdI_n, rdC_i, rdC_o, rdW, rdU_e, rdU_n, rdLW, clI, clR, clC, clD, clW, clV, clN_e, clN_n, clL_e, clL_n] <;> first | assumption | rfl | omega)) ?_
                    try simp (disch := omega) only [rdI_e, rdI_n, rdC_i, rdC_o, rdW, rdR, rdU_e, rdU_n, rdLW, Int.add_zero, b7]
                    first | refine x_isubN dX1_odds_121 (by unfold i32; omega) ?_ | refine x_isub dX1_odds_121 ?_
                    refine x_i2l dX1_odds_122 ?_
                    first | refine x_lmulN dX1_odds_123 (by unfold i64; omega) ?_ | refine x_lmul dX1_odds_123 ?_
                    refine x_lstore (L' := [some _, some _, some _, some _, none, some _, none, some _, some _, none, some _]) dX1_odds_124 (by decide) rfl ?_
                    first | refine x_iincN (L' := [some _, some _, some _, some _, none, some _, none, some _, some _, none, some _]) dX1_odds_126 rfl (by decide) (by unfold i32; omega) rfl ?_ | refine x_iinc (L' := [some _, some _, some _, some _, none, some _, none, some _, some _, none, some _]) dX1_odds_126 rfl (by decide) rfl ?_
                    refine x_goto (tgt := 82) dX1_odds_129 (by decide) ?_
                    refine ih2 _ (by omega) (i + 1) _ rfl (by omega) ?_
                    rw [es]
                    first
                    | exact congrArg (fun z => q * z) (if_pos h98).symm
                    | exact congrArg (fun z => q * z) (if_neg h98).symm
                  · refine x_aload_n dX1_odds_101 rfl rfl ?_
                    refine g_getR (kI := 1) rfl dX1_odds_102 fX1_22_1 (by first | assumption | first | assumption | (simp (disch := omega) only [shI, shR, shL, shC, shD, shW, sh_V, shN_e, shN_n, crI, crL, crC, crW, crV, crR_e, crR_n, crN_e, crN_n, ciR, ciL, ciD, ciN_e, ciN_n, rdI_e, rdI_n, rdC_i, rdC_o, rdW, rdU_e, rdU_n, rdLW, clI, clR, clC, clD, clW, clV, clN_e, clN_n, clL_e, clL_n]; done) | (simp (disch := omega) only [shI, shR, shL, shC, shD, shW, sh_V, shN_e, shN_n, crI, crL, crC, crW, crV, crR_e, crR_n, crN_e, crN_n, ciR, ciL, ciD, ciN_e, ciN_n, rdI_e, rdI_n, rdC_i, rdC_o, rdW, rdU_e, rdU_n, rdLW, clI, clR, clC, clD, clW, clV, clN_e, clN_n, clL_e, clL_n] <;> first | assumption | rfl | omega)) (by first | assumption | first | assumption | (simp (disch := omega) only [shI, shR, shL, shC, shD, shW, sh_V, shN_e, shN_n, crI, crL, crC, crW, crV, crR_e, crR_n, crN_e, crN_n, ciR, ciL, ciD, ciN_e, ciN_n, rdI_e, rdI_n, rdC_i, rdC_o, rdW, rdU_e, rdU_n, rdLW, clI, clR, clC, clD, clW, clV, clN_e, clN_n, clL_e, clL_n]; done) | (simp (disch := omega) only [shI, shR, shL, shC, shD, shW, sh_V, shN_e, shN_n, crI, crL, crC, crW, crV, crR_e, crR_n, crN_e, crN_n, ciR, ciL, ciD, ciN_e, ciN_n, rdI_e, rdI_n, rdC_i, rdC_o, rdW, rdU_e, rdU_n, rdLW, clI, clR, clC, clD, clW, clV, clN_e, clN_n, clL_e, clL_n] <;> first | assumption | rfl | omega)) ?_
                    refine g_getI (kI := 15) rfl dX1_odds_105 fX1_347_3 (by first | assumption | first | assumption | (simp (disch := omega) only [shI, shR, shL, shC, shD, shW, sh_V, shN_e, shN_n, crI, crL, crC, crW, crV, crR_e, crR_n, crN_e, crN_n, ciR, ciL, ciD, ciN_e, ciN_n, rdI_e, rdI_n, rdC_i, rdC_o, rdW, rdU_e, rdU_n, rdLW, clI, clR, clC, clD, clW, clV, clN_e, clN_n, clL_e, clL_n]; done) | (simp (disch := omega) only [shI, shR, shL, shC, shD, shW, sh_V, shN_e, shN_n, crI, crL, crC, crW, crV, crR_e, crR_n, crN_e, crN_n, ciR, ciL, ciD, ciN_e, ciN_n, rdI_e, rdI_n, rdC_i, rdC_o, rdW, rdU_e, rdU_n, rdLW, clI, clR, clC, clD, clW, clV, clN_e, clN_n, clL_e, clL_n] <;> first | assumption | rfl | omega)) ?_
                    try simp (disch := omega) only [rdI_e, rdI_n, rdC_i, rdC_o, rdW, rdR, rdU_e, rdU_n, rdLW, Int.add_zero, b7]
                    refine x_i2l dX1_odds_108 ?_
                    refine x_goto (tgt := 123) dX1_odds_109 (by decide) ?_
                    first | refine x_lmulN dX1_odds_123 (by unfold i64; omega) ?_ | refine x_lmul dX1_odds_123 ?_
                    refine x_lstore (L' := [some _, some _, some _, some _, none, some _, none, some _, some _, none, some _]) dX1_odds_124 (by decide) rfl ?_
                    first | refine x_iincN (L' := [some _, some _, some _, some _, none, some _, none, some _, some _, none, some _]) dX1_odds_126 rfl (by decide) (by unfold i32; omega) rfl ?_ | refine x_iinc (L' := [some _, some _, some _, some _, none, some _, none, some _, some _, none, some _]) dX1_odds_126 rfl (by decide) rfl ?_
                    refine x_goto (tgt := 82) dX1_odds_129 (by decide) ?_
                    refine ih2 _ (by omega) (i + 1) _ rfl (by omega) ?_
                    rw [es]
                    first
                    | exact congrArg (fun z => q * z) (if_pos h98).symm
                    | exact congrArg (fun z => q * z) (if_neg h98).symm
              · have ei : i = j := by omega
                have es2 : seS (v 7) k j.toNat (s + 1).toNat = z + q := by
                  rw [show (s + 1).toNat = s.toNat + 1 by omega, hz, hq, ei]
                  show seS _ _ _ s.toNat + prS _ (if bc0 ((s.toNat : Nat) : Int) < k then 0 else 1) ((s.toNat : Nat) : Int) _ = _
                  rw [show ((s.toNat : Nat) : Int) = s by omega]
                refine x_iload dX1_odds_82 rfl ?_
                refine x_iload_n dX1_odds_84 rfl rfl ?_
                refine x_icmp_ge (tgt := 132) dX1_odds_85 (by decide) (fun h85 => ?_) (fun h85 => ?_)
                · refine x_lload dX1_odds_132 rfl ?_
                  refine x_lload dX1_odds_134 rfl ?_
                  first | refine x_laddN dX1_odds_136 (by unfold i64; omega) ?_ | refine x_ladd dX1_odds_136 ?_
                  refine x_lstore (L' := [some _, some _, some _, some _, none, some _, none, some _, some _, none, some _]) dX1_odds_137 (by decide) rfl ?_
                  first | refine x_iincN (L' := [some _, some _, some _, some _, none, some _, none, some _, some _, none, some _]) dX1_odds_139 rfl (by decide) (by unfold i32; omega) rfl ?_ | refine x_iinc (L' := [some _, some _, some _, some _, none, some _, none, some _, some _, none, some _]) dX1_odds_139 rfl (by decide) rfl ?_
                  refine x_goto (tgt := 55) dX1_odds_142 (by decide) ?_
                  exact x_fgt (L' := [some (dR 0), some (dI j), some (dI k), some (dL (100 ^ j.toNat)), none, some (dL (z + q)), none, some (dI (s + 1)), none, none, none]) (by repeat (first | exact trivial | refine ⟨rfl, ?_⟩)) (ih _ (by omega) (s + 1) _ rfl (by omega) es2.symm)
                · omega
          refine x_iload dX1_odds_55 rfl ?_
          refine x_iconst dX1_odds_57 rfl ?_
          refine x_iload_n dX1_odds_58 rfl rfl ?_
          refine x_ishl dX1_odds_59 ?_
          rw [jshl_1 (by omega)]
          refine x_icmp_ge (tgt := 145) dX1_odds_60 (by decide) (fun h60 => ?_) (fun h60 => ?_)
          · omega
          · refine x_iload dX1_odds_63 rfl ?_
            refine g_callI (vs := [_]) (d' := d - 1) rfl (s_bitCount (by omega) (by omega)) dX1_odds_65 kX1_388 (by omega) (by decide) rfl (Nat.le_of_ble_eq_true rfl) (rcv_n) (fun x65 M65 h65 => ?_)
            obtain ⟨e65, f65⟩ := h65
            have f65' := f65.symm
            subst f65'
            subst e65
            refine x_iload_n dX1_odds_68 rfl rfl ?_
            refine x_icmp_ge (tgt := 76) dX1_odds_69 (by decide) (fun h69 => ?_) (fun h69 => ?_)
            · refine x_lconst (z := 1) dX1_odds_76 rfl ?_
              refine x_lstore (L' := [some _, some _, some _, some _, none, some _, none, some _, some _, none, none]) dX1_odds_77 (by decide) rfl ?_
              refine x_iconst dX1_odds_79 rfl ?_
              refine x_istore (L' := [some _, some _, some _, some _, none, some _, none, some _, some _, none, some _]) dX1_odds_80 (by decide) rfl ?_
              first
              | exact lp2 _ 0 _ rfl (by omega) (if_pos (Int.not_le.mp h69)).symm
              | exact lp2 _ 0 _ rfl (by omega) (if_neg (Int.not_lt.mpr h69)).symm
            · refine x_lconst (z := 0) dX1_odds_72 rfl ?_
              refine x_goto (tgt := 77) dX1_odds_73 (by decide) ?_
              refine x_lstore (L' := [some _, some _, some _, some _, none, some _, none, some _, some _, none, none]) dX1_odds_77 (by decide) rfl ?_
              refine x_iconst dX1_odds_79 rfl ?_
              refine x_istore (L' := [some _, some _, some _, some _, none, some _, none, some _, some _, none, some _]) dX1_odds_80 (by decide) rfl ?_
              first
              | exact lp2 _ 0 _ rfl (by omega) (if_pos (Int.not_le.mp h69)).symm
              | exact lp2 _ 0 _ rfl (by omega) (if_neg (Int.not_lt.mpr h69)).symm
        · have es : s = pw j := by omega
          have ew : z = waySum (v 7) j.toNat k (6 - k).toNat := by
            rw [hz, es, epw, Int.toNat_natCast]
            exact seS_e hjk.1 hjk.2 (by omega)
          refine x_iload dX1_odds_55 rfl ?_
          refine x_iconst dX1_odds_57 rfl ?_
          refine x_iload_n dX1_odds_58 rfl rfl ?_
          refine x_ishl dX1_odds_59 ?_
          rw [jshl_1 (by omega)]
          refine x_icmp_ge (tgt := 145) dX1_odds_60 (by decide) (fun h60 => ?_) (fun h60 => ?_)
          · refine x_ldc2 (z := 10000) dX1_odds_145 q1595 (by decide) ?_
            refine x_lload dX1_odds_148 rfl ?_
            first | refine x_lmulN dX1_odds_150 (by unfold i64; omega) ?_ | refine x_lmul dX1_odds_150 ?_
            refine x_lload_n dX1_odds_151 rfl rfl ?_
            refine x_ldivN dX1_odds_152 (by omega) (by omega) ?_
            refine x_l2i dX1_odds_153 ?_
            refine x_ireturn rfl dX1_odds_154 ?_
            refine hQ _ _ (Or.inl ⟨_, rfl, hjk, ?_, CO.r hC⟩)
            unfold oddsAns
            rw [ew]
          · omega
    have lpa : ∀ (t3 : Nat) (i : Int), (j - i).toNat = t3 → (0 ≤ i ∧ i ≤ j) → WP G d mX1_odds 34 [some (dR 0), some (dI j), some (dI k), some (dL (100 ^ i.toNat)), none, some (dL 0), none, some (dI i), none, none, none] [] (M) Q := by
      intro t3
      induction t3 using Nat.strongRecOn with
      | _ t3 ih3 =>
        intro i ht3 i0
        have hpi := pow5 (t := i.toNat) (by omega)
        by_cases hi : i < j
        · have epw : (100 : Int) ^ (i + 1).toNat = 100 ^ i.toNat * 100 := by rw [show (i + 1).toNat = i.toNat + 1 by omega, Int.pow_succ]
          refine x_iload dX1_odds_34 rfl ?_
          refine x_iload_n dX1_odds_36 rfl rfl ?_
          refine x_icmp_ge (tgt := 52) dX1_odds_37 (by decide) (fun h37 => ?_) (fun h37 => ?_)
          · omega
          · refine x_lload_n dX1_odds_40 rfl rfl ?_
            refine x_ldc2 (z := 100) dX1_odds_41 q1594 (by decide) ?_
            first | refine x_lmulN dX1_odds_44 (by unfold i64; omega) ?_ | refine x_lmul dX1_odds_44 ?_
            refine x_lstore_n (L' := [some _, some _, some _, some _, none, some _, none, some _, none, none, none]) dX1_odds_45 rfl (by decide) rfl ?_
            first | refine x_iincN (L' := [some _, some _, some _, some _, none, some _, none, some _, none, none, none]) dX1_odds_46 rfl (by decide) (by unfold i32; omega) rfl ?_ | refine x_iinc (L' := [some _, some _, some _, some _, none, some _, none, some _, none, none, none]) dX1_odds_46 rfl (by decide) rfl ?_
            refine x_goto (tgt := 34) dX1_odds_49 (by decide) ?_
            rw [← epw]
            exact ih3 _ (by omega) (i + 1) rfl (by omega)
        · have ei : i.toNat = j.toNat := by omega
          rw [ei]
          refine x_iload dX1_odds_34 rfl ?_
          refine x_iload_n dX1_odds_36 rfl rfl ?_
          refine x_icmp_ge (tgt := 52) dX1_odds_37 (by decide) (fun h37 => ?_) (fun h37 => ?_)
          · refine x_iconst dX1_odds_52 rfl ?_
            refine x_istore (L' := [some _, some _, some _, some _, none, some _, none, some _, none, none, none]) dX1_odds_53 (by decide) rfl ?_
            exact lp _ 0 0 rfl (by omega) rfl
          · omega
    refine x_iload_n dX1_odds_0 rfl rfl ?_
    refine x_iconst dX1_odds_1 rfl ?_
    refine x_iconst dX1_odds_2 rfl ?_
    refine g_callI (vs := [_, _, _]) (d' := d - 1) rfl (s_X1_isIn (by omega)) dX1_odds_3 kX1_104 (by omega) (by decide) rfl (Nat.le_of_ble_eq_true rfl) (rcv_n) (fun x3 M3 h3 => ?_)
    obtain ⟨e3, f3⟩ := h3
    have f3' := f3.symm
    subst f3'
    subst e3
    refine x_if_eq (tgt := 22) dX1_odds_6 (by decide) (fun h6 => ?_) (fun h6 => ?_)
    · try simp only [vP_0, vP_1, vP_n0, vP_n1, Classical.not_not] at h6
      omega
    · try simp only [vP_0, vP_1, vP_n0, vP_n1, Classical.not_not] at h6
      refine x_iload_n dX1_odds_9 rfl rfl ?_
      refine x_iconst dX1_odds_10 rfl ?_
      refine x_iconst dX1_odds_11 rfl ?_
      refine g_callI (vs := [_, _, _]) (d' := d - 1) rfl (s_X1_isIn (by omega)) dX1_odds_12 kX1_104 (by omega) (by decide) rfl (Nat.le_of_ble_eq_true rfl) (rcv_n) (fun x12 M12 h12 => ?_)
      obtain ⟨e12, f12⟩ := h12
      have f12' := f12.symm
      subst f12'
      subst e12
      refine x_if_eq (tgt := 22) dX1_odds_15 (by decide) (fun h15 => ?_) (fun h15 => ?_)
      · try simp only [vP_0, vP_1, vP_n0, vP_n1, Classical.not_not] at h15
        omega
      · try simp only [vP_0, vP_1, vP_n0, vP_n1, Classical.not_not] at h15
        refine x_iconst dX1_odds_18 rfl ?_
        refine x_goto (tgt := 23) dX1_odds_19 (by decide) ?_
        refine g_callNX (vs := [_]) (d' := d - 1) rfl (s_X1_must (by omega) (Or.inr rfl)) dX1_odds_23 kX1_116 (by omega) (by decide) rfl (Nat.le_of_ble_eq_true rfl) (rcv_n) (fun M23 h23 => ?_) (fun a23 E23 M23 h23 => ?_)
        · obtain ⟨q23, e23⟩ := h23
          subst e23
          refine x_lconst (z := 1) dX1_odds_26 rfl ?_
          refine x_lstore_n (L' := [some _, some _, some _, some _, none, none, none, none, none, none, none]) dX1_odds_27 rfl (by decide) rfl ?_
          refine x_lconst (z := 0) dX1_odds_28 rfl ?_
          refine x_lstore (L' := [some _, some _, some _, some _, none, some _, none, none, none, none, none]) dX1_odds_29 (by decide) rfl ?_
          refine x_iconst dX1_odds_31 rfl ?_
          refine x_istore (L' := [some _, some _, some _, some _, none, some _, none, some _, none, none, none]) dX1_odds_32 (by decide) rfl ?_
          exact x_fgt (by repeat (first | exact trivial | refine ⟨rfl, ?_⟩)) (lpa _ 0 rfl (by omega))
        · obtain ⟨q23, eE23, eM23⟩ := h23
          exact absurd q23 (by decide)
  · refine x_iload_n dX1_odds_0 rfl rfl ?_
    refine x_iconst dX1_odds_1 rfl ?_
    refine x_iconst dX1_odds_2 rfl ?_
    refine g_callI (vs := [_, _, _]) (d' := d - 1) rfl (s_X1_isIn (by omega)) dX1_odds_3 kX1_104 (by omega) (by decide) rfl (Nat.le_of_ble_eq_true rfl) (rcv_n) (fun x3 M3 h3 => ?_)
    obtain ⟨e3, f3⟩ := h3
    have f3' := f3.symm
    subst f3'
    subst e3
    refine x_if_eq (tgt := 22) dX1_odds_6 (by decide) (fun h6 => ?_) (fun h6 => ?_)
    · try simp only [vP_0, vP_1, vP_n0, vP_n1, Classical.not_not] at h6
      refine x_iconst dX1_odds_22 rfl ?_
      refine g_callNX (vs := [_]) (d' := d - 1) rfl (s_X1_must (by omega) (by first | omega | exact vP_r _)) dX1_odds_23 kX1_116 (by omega) (by decide) rfl (Nat.le_of_ble_eq_true rfl) (rcv_n) (fun M23 h23 => ?_) (fun a23 E23 M23 h23 => ?_)
      · obtain ⟨q23, e23⟩ := h23
        subst e23
        try simp only [vP_0, vP_1, vP_n0, vP_n1, Classical.not_not] at q23
        refine x_lconst (z := 1) dX1_odds_26 rfl ?_
        refine x_lstore_n (L' := [some _, some _, some _, some _, none, none, none, none, none, none, none]) dX1_odds_27 rfl (by decide) rfl ?_
        refine x_lconst (z := 0) dX1_odds_28 rfl ?_
        refine x_lstore (L' := [some _, some _, some _, some _, none, some _, none, none, none, none, none]) dX1_odds_29 (by decide) rfl ?_
        refine x_iconst dX1_odds_31 rfl ?_
        refine x_istore (L' := [some _, some _, some _, some _, none, some _, none, some _, none, none, none]) dX1_odds_32 (by decide) rfl ?_
        exact absurd (by omega) hjk
      · obtain ⟨q23, eE23, eM23⟩ := h23
        subst eE23
        subst eM23
        exact th_nil rfl (hQ _ _ (Or.inr ⟨_, _, rfl, CO.xx hC, hjk, rfl⟩))
    · try simp only [vP_0, vP_1, vP_n0, vP_n1, Classical.not_not] at h6
      refine x_iload_n dX1_odds_9 rfl rfl ?_
      refine x_iconst dX1_odds_10 rfl ?_
      refine x_iconst dX1_odds_11 rfl ?_
      refine g_callI (vs := [_, _, _]) (d' := d - 1) rfl (s_X1_isIn (by omega)) dX1_odds_12 kX1_104 (by omega) (by decide) rfl (Nat.le_of_ble_eq_true rfl) (rcv_n) (fun x12 M12 h12 => ?_)
      obtain ⟨e12, f12⟩ := h12
      have f12' := f12.symm
      subst f12'
      subst e12
      refine x_if_eq (tgt := 22) dX1_odds_15 (by decide) (fun h15 => ?_) (fun h15 => ?_)
      · try simp only [vP_0, vP_1, vP_n0, vP_n1, Classical.not_not] at h15
        refine x_iconst dX1_odds_22 rfl ?_
        refine g_callNX (vs := [_]) (d' := d - 1) rfl (s_X1_must (by omega) (by first | omega | exact vP_r _)) dX1_odds_23 kX1_116 (by omega) (by decide) rfl (Nat.le_of_ble_eq_true rfl) (rcv_n) (fun M23 h23 => ?_) (fun a23 E23 M23 h23 => ?_)
        · obtain ⟨q23, e23⟩ := h23
          subst e23
          try simp only [vP_0, vP_1, vP_n0, vP_n1, Classical.not_not] at q23
          refine x_lconst (z := 1) dX1_odds_26 rfl ?_
          refine x_lstore_n (L' := [some _, some _, some _, some _, none, none, none, none, none, none, none]) dX1_odds_27 rfl (by decide) rfl ?_
          refine x_lconst (z := 0) dX1_odds_28 rfl ?_
          refine x_lstore (L' := [some _, some _, some _, some _, none, some _, none, none, none, none, none]) dX1_odds_29 (by decide) rfl ?_
          refine x_iconst dX1_odds_31 rfl ?_
          refine x_istore (L' := [some _, some _, some _, some _, none, some _, none, some _, none, none, none]) dX1_odds_32 (by decide) rfl ?_
          exact absurd (by omega) hjk
        · obtain ⟨q23, eE23, eM23⟩ := h23
          subst eE23
          subst eM23
          exact th_nil rfl (hQ _ _ (Or.inr ⟨_, _, rfl, CO.xx hC, hjk, rfl⟩))
      · try simp only [vP_0, vP_1, vP_n0, vP_n1, Classical.not_not] at h15
        refine x_iconst dX1_odds_18 rfl ?_
        refine x_goto (tgt := 23) dX1_odds_19 (by decide) ?_
        refine g_callNX (vs := [_]) (d' := d - 1) rfl (s_X1_must (by omega) (by first | omega | exact vP_r _)) dX1_odds_23 kX1_116 (by omega) (by decide) rfl (Nat.le_of_ble_eq_true rfl) (rcv_n) (fun M23 h23 => ?_) (fun a23 E23 M23 h23 => ?_)
        · obtain ⟨q23, e23⟩ := h23
          subst e23
          try simp only [vP_0, vP_1, vP_n0, vP_n1, Classical.not_not] at q23
          refine x_lconst (z := 1) dX1_odds_26 rfl ?_
          refine x_lstore_n (L' := [some _, some _, some _, some _, none, none, none, none, none, none, none]) dX1_odds_27 rfl (by decide) rfl ?_
          refine x_lconst (z := 0) dX1_odds_28 rfl ?_
          refine x_lstore (L' := [some _, some _, some _, some _, none, some _, none, none, none, none, none]) dX1_odds_29 (by decide) rfl ?_
          refine x_iconst dX1_odds_31 rfl ?_
          refine x_istore (L' := [some _, some _, some _, some _, none, some _, none, some _, none, none, none]) dX1_odds_32 (by decide) rfl ?_
          exact absurd (by omega) hjk
        · obtain ⟨q23, eE23, eM23⟩ := h23
          subst eE23
          subst eM23
          exact th_nil rfl (hQ _ _ (Or.inr ⟨_, _, rfl, CO.xx hC, hjk, rfl⟩))
end X1

