/-! GuestView: pairs -/
theorem cd_bit {v : Vw} {T : Int → Int} {s o : Int} (ho : o ≠ -1) (h : 0 ≤ cdP v T s o) : bitI (clrI s (lo0 s)) o = 1 ∧ ¬ clashV v (lo0 s) o := by
  unfold cdP at h
  rw [if_neg ho] at h
  by_cases q : bitI (clrI s (lo0 s)) o = 1 ∧ ¬ clashV v (lo0 s) o
  · exact q
  · rw [if_neg q] at h
    omega
section X1
variable {G : GW} {d : Nat} {M M1 : Mem} {a b c e k n x y op w st hi sz fa N i p T s : Int} {v vi : Vw} {A : Int → Vw} {tp : Int → Int}
theorem s_X1_pairs (hd : 18 ≤ d) (hC : CI M v n A hi vi tp sz fa N) : CS G d mX1_pairs [dR 0, dI p] M (orT (postI fun y M1 => (p = -1 ∨ 0 ≤ p ∧ p < v 0) ∧ y = pairsAns v p ∧ CO M v n A hi vi tp sz fa N 0 0 M1) (fun a E M1 => CO M v n A hi vi tp sz fa N 1 6 M1 ∧ ¬ (p = -1 ∨ 0 ≤ p ∧ p < v 0) ∧ E = "java/lang/IndexOutOfBoundsException")) := by
  obtain ⟨hC1, hC54, hCA, hCR⟩ := id hC; obtain ⟨hS, hTab, hTx, hLn, hSk, hnx⟩ := id hC1; obtain ⟨hA, hL, hR⟩ := id hC54; obtain ⟨⟨s0, s199, s200, s201, s202, s203⟩, ⟨c0, c1, c2, c3, c4, c5, c6, c7, c8, c9, c10, c11, c12⟩, c203, hSt, m189, m191, g193, g196, ⟨⟨r2, r3, r4, r5, r6, r7, r53⟩, ⟨w0, w1, w2, w3, w4, w5, w6⟩, wx1, wx2, wx3⟩⟩ := id hS; have hv := hA.1; have hv8 := hv.n8; have hv0 := hv.1.1; have hv3 := hv.2.2.2.1; have hs54 := hSt 54 (by unfold SB; omega); obtain ⟨p0, p1, ⟨d0, d1, d2, d3, d4, d5, d6, d7⟩, ⟨t1, t2, t3, t4, t5, t6⟩, p5, p6, p7⟩ := id hs54; have t7 : msh M (54 + 7) = some (4, 0) := p5.2.1; have t10 : msh M (54 + 10) = some (4, 0) := p6.2.1; obtain ⟨hB, hW, hLw⟩ := id hR.1; obtain ⟨b1, b2, b3, b4, b5, b6, b7, b8, b9, b10, b11, b12, b13, b14, b15⟩ := id hB; obtain ⟨hn, hn2, hat, hAc⟩ := id hCA; obtain ⟨⟨hki, hhi⟩, hIm, ⟨htp, hsz, hsz2⟩, hfa⟩ := id hCR
  have hvB : okB v := hv
  have h8 := pw_le8 (t := (v 0).toNat) (by omega)
  have hpp := pw_pos (v 0)
  rw [show (((v 0).toNat : Nat) : Int) = v 0 by omega] at h8
  have hbig : i32 (pw (v 0)) := ⟨by omega, by omega⟩
  refine CS.mkQ (by decide) (Nat.le_of_ble_eq_true rfl) fun Q hQ => ?_
  have full : ∀ g : Ci, (∀ b k, ¬ b = 200 → g b k = mci M b k) → (∀ j, 0 ≤ j → j < pw (v 0) → g 200 j = tT v j) → 0 ≤ p ∧ p < v 0 → WP G d mX1_pairs 39 [some (dR 0), some (dI p), some (dI (pw (v 0) - 1)), none, none] [] (wI M g) Q := by
    intro g hf hl hp
    have gb1 : g 54 8 = v 0 := (hf _ _ (by omega)).trans b1
    have hCO : CO M v n A hi vi tp sz fa N 0 0 (wI M g) := CO.o hC fun b k q1 q2 => hf b k (by omega)
    have hCg := hCO.1
    have fin : ∀ y, y = pwP v p 256 (pw (v 0) - 1) → y = pairsAns v p := fun y hy => by
      unfold pairsAns
      rw [if_neg (by omega)]
      exact hy
    have hp1 : 1 < pw (v 0) := by
      have h1 := pw_s (k := v 0 - 1) (by omega)
      have h2 := pw_pos (v 0 - 1)
      rw [show v 0 - 1 + 1 = v 0 by omega] at h1
      omega
    have lp : ∀ (t : Nat) (s : Int) (fu : Nat), (s).toNat = t → (0 < s) → (s < pw (v 0)) → (s ≤ fu) → (bitI s p = 1) → (pwP v p 256 (pw (v 0) - 1) = pwP v p fu s) → WP G d mX1_pairs 39 [some (dR 0), some (dI p), some (dI s), none, none] [] (wI M g) Q := by
      intro t
      induction t using Nat.strongRecOn with
      | _ t ih =>
        intro s fu ht z0 z1 z2 hb hs
        obtain ⟨y, hy1, hy2⟩ := paO_x hvB (s := s) (by omega) z1
        have hl0 := lo0_r (x := s) (by omega) (by omega)
        have hl1 := lo_lt ⟨hv0, hv8⟩ (by omega) z1
        have r1 := clr_r (s := s) (by omega) hl0 (lo0_b (by omega))
        obtain ⟨fu, rfl⟩ : ∃ f2, fu = f2 + 1 := ⟨fu - 1, by omega⟩
        rw [pwP_s (s := s) (t := fu)] at hs
        have rT := tT_r hvB (n := 256) (s := s) (by omega) (by omega) (by omega) (by omega)
        have eT := hl s (by omega) z1
        have eT1 := hl (clrI s (lo0 s)) (by omega) (by omega)
        have cbp := clr_b (s := s) (k := lo0 s) (j := p) (by omega) hl0 (by omega)
        have e1 : cdP v (tT v) s (-1) = tT v (clrI s (lo0 s)) := if_pos rfl
        have tail : ∀ o, (∀ o', -1 ≤ o' → o' < o → ¬ cdP v (tT v) s o' = tT v s) → cdP v (tT v) s o = tT v s → (-1 ≤ o ∧ o < v 0) → WP G d mX1_pairs 134 [some (dR 0), some (dI p), some (dI s), some (dI (lo0 s)), some (dI o)] [] (wI M g) Q := by
          intro o hn ho ho2
          have ep := paO_e ho (by omega) hn
          rw [ep] at hs
          by_cases q1 : lo0 s = p
          · rw [if_pos q1] at hs
            refine x_iload_n dX1_pairs_134 rfl rfl ?_
            refine x_iload_n dX1_pairs_135 rfl rfl ?_
            refine x_icmp_ne (tgt := 142) dX1_pairs_136 (by decide) (fun h136 => ?_) (fun h136 => ?_)
            · exact absurd q1 h136
            · refine x_iload dX1_pairs_139 rfl ?_
              refine x_ireturn rfl dX1_pairs_141 ?_
              exact hQ _ _ (Or.inl ⟨_, rfl, Or.inr hp, fin _ hs.symm, hCO⟩)
          · rw [if_neg q1] at hs
            by_cases q2 : o = p
            · rw [if_pos q2] at hs
              refine x_iload_n dX1_pairs_134 rfl rfl ?_
              refine x_iload_n dX1_pairs_135 rfl rfl ?_
              refine x_icmp_ne (tgt := 142) dX1_pairs_136 (by decide) (fun h136 => ?_) (fun h136 => ?_)
              · refine x_iload dX1_pairs_142 rfl ?_
                refine x_iload_n dX1_pairs_144 rfl rfl ?_
                refine x_icmp_ne (tgt := 150) dX1_pairs_145 (by decide) (fun h145 => ?_) (fun h145 => ?_)
                · exact absurd q2 h145
                · refine x_iload_n dX1_pairs_148 rfl rfl ?_
                  refine x_ireturn rfl dX1_pairs_149 ?_
                  exact hQ _ _ (Or.inl ⟨_, rfl, Or.inr hp, fin _ hs.symm, hCO⟩)
              · exact absurd h136 q1
            · rw [if_neg q2] at hs
              rw [if_neg (Ne.symm q1)] at cbp
              have nz : ∀ z : Int, 0 ≤ z → bitI z p = 1 → 0 < z := fun z z0 z1 => by
                by_cases e : z = 0
                · rw [e, bit_0] at z1; omega
                · omega
              by_cases q3 : o = -1
              · unfold nxP at hs
                rw [if_pos q3] at hs
                have hb2 := cbp.trans hb
                have z0' := nz _ r1.1 hb2
                refine x_iload_n dX1_pairs_134 rfl rfl ?_
                refine x_iload_n dX1_pairs_135 rfl rfl ?_
                refine x_icmp_ne (tgt := 142) dX1_pairs_136 (by decide) (fun h136 => ?_) (fun h136 => ?_)
                · refine x_iload dX1_pairs_142 rfl ?_
                  refine x_iload_n dX1_pairs_144 rfl rfl ?_
                  refine x_icmp_ne (tgt := 150) dX1_pairs_145 (by decide) (fun h145 => ?_) (fun h145 => ?_)
                  · refine x_iload_n dX1_pairs_150 rfl rfl ?_
                    refine x_iconst dX1_pairs_151 rfl ?_
                    refine x_iload_n dX1_pairs_152 rfl rfl ?_
                    refine x_ishl dX1_pairs_153 ?_
                    refine x_iconst dX1_pairs_154 rfl ?_
                    refine x_ixor dX1_pairs_155 ?_
                    refine x_iand dX1_pairs_156 ?_
                    rw [clr_c (by omega) (by omega)]
                    refine x_istore_n (L' := [some _, some _, some _, some _, some _]) dX1_pairs_157 rfl (by decide) rfl ?_
                    refine x_iload dX1_pairs_158 rfl ?_
                    refine x_iconst dX1_pairs_160 rfl ?_
                    refine x_icmp_eq (tgt := 173) dX1_pairs_161 (by decide) (fun h161 => ?_) (fun h161 => ?_)
                    · refine x_goto (tgt := 39) dX1_pairs_173 (by decide) ?_
                      exact x_fgt (by repeat (first | exact trivial | refine ⟨rfl, ?_⟩)) (ih _ (by omega) (clrI s (lo0 s)) fu rfl z0' (by omega) (by omega) hb2 hs)
                    · exact absurd q3 h161
                  · exact absurd h145 q2
                · exact absurd h136 q1
              · unfold nxP at hs
                rw [if_neg q3] at hs
                have cb := cd_bit q3 (by rw [ho]; omega)
                have r2 := clr_r (s := clrI s (lo0 s)) (by omega) (k := o) (by omega) cb.1
                have hb2 : bitI (clrI (clrI s (lo0 s)) o) p = 1 := by
                  rw [clr_b (by omega) (by omega) (by omega), if_neg (Ne.symm q2), cbp]
                  exact hb
                have z0' := nz _ r2.1 hb2
                refine x_iload_n dX1_pairs_134 rfl rfl ?_
                refine x_iload_n dX1_pairs_135 rfl rfl ?_
                refine x_icmp_ne (tgt := 142) dX1_pairs_136 (by decide) (fun h136 => ?_) (fun h136 => ?_)
                · refine x_iload dX1_pairs_142 rfl ?_
                  refine x_iload_n dX1_pairs_144 rfl rfl ?_
                  refine x_icmp_ne (tgt := 150) dX1_pairs_145 (by decide) (fun h145 => ?_) (fun h145 => ?_)
                  · refine x_iload_n dX1_pairs_150 rfl rfl ?_
                    refine x_iconst dX1_pairs_151 rfl ?_
                    refine x_iload_n dX1_pairs_152 rfl rfl ?_
                    refine x_ishl dX1_pairs_153 ?_
                    refine x_iconst dX1_pairs_154 rfl ?_
                    refine x_ixor dX1_pairs_155 ?_
                    refine x_iand dX1_pairs_156 ?_
                    rw [clr_c (by omega) (by omega)]
                    refine x_istore_n (L' := [some _, some _, some _, some _, some _]) dX1_pairs_157 rfl (by decide) rfl ?_
                    refine x_iload dX1_pairs_158 rfl ?_
                    refine x_iconst dX1_pairs_160 rfl ?_
                    refine x_icmp_eq (tgt := 173) dX1_pairs_161 (by decide) (fun h161 => ?_) (fun h161 => ?_)
                    · exact absurd h161 q3
                    · refine x_iload_n dX1_pairs_164 rfl rfl ?_
                      refine x_iconst dX1_pairs_165 rfl ?_
                      refine x_iload dX1_pairs_166 rfl ?_
                      refine x_ishl dX1_pairs_168 ?_
                      refine x_iconst dX1_pairs_169 rfl ?_
                      refine x_ixor dX1_pairs_170 ?_
                      refine x_iand dX1_pairs_171 ?_
                      rw [clr_c (by omega) (by omega)]
                      refine x_istore_n (L' := [some _, some _, some _, some _, some _]) dX1_pairs_172 rfl (by decide) rfl ?_
                      refine x_goto (tgt := 39) dX1_pairs_173 (by decide) ?_
                      exact x_fgt (by repeat (first | exact trivial | refine ⟨rfl, ?_⟩)) (ih _ (by omega) (clrI (clrI s (lo0 s)) o) fu rfl z0' (by omega) (by omega) hb2 hs)
                  · exact absurd h145 q2
                · exact absurd h136 q1
        have inner : ∀ (t2 : Nat) (o : Int), (y - o).toNat = t2 → (lo0 s + 1 ≤ o) → (o ≤ y) → (∀ o', -1 ≤ o' → o' < o → ¬ cdP v (tT v) s o' = tT v s) → WP G d mX1_pairs 75 [some (dR 0), some (dI p), some (dI s), some (dI (lo0 s)), some (dI o)] [] (wI M g) Q := by
          intro t2
          induction t2 using Nat.strongRecOn with
          | _ t2 ih2 =>
            intro o ht2 o0 o1 hn
            have ho8 : o < v 0 := by omega
            have bo : bitI (clrI s (lo0 s)) o = bitI s o := by
              rw [clr_b (by omega) hl0 (by omega), if_neg (by omega)]
            have n1 := (hv.op (lo0 s) (by omega) (by omega)).1
            have n2 := (hv.op o (by omega) (by omega)).1
            have nx : ¬ cdP v (tT v) s o = tT v s → WP G d mX1_pairs 75 [some (dR 0), some (dI p), some (dI s), some (dI (lo0 s)), some (dI (o + 1))] [] (wI M g) Q := fun q => by
              have hne : ¬ o = y := fun z => q (z ▸ hy2)
              refine ih2 _ (by omega) (o + 1) rfl (by omega) (by omega) fun o' a1 a2 => ?_
              by_cases e : o' = o
              · rw [e]; exact q
              · exact hn o' a1 (by omega)
            by_cases hb : bitI s o = 1
            · have r2 := clr_r (s := clrI s (lo0 s)) (by omega) (k := o) (by omega) (bo.trans hb)
              have rT2 := tT_r hvB (n := 256) (s := clrI (clrI s (lo0 s)) o) (by omega) (by omega) (by omega) (by omega)
              have eT2 := hl (clrI (clrI s (lo0 s)) o) (by omega) (by omega)
              refine x_iload_n dX1_pairs_75 rfl rfl ?_
              refine x_iload dX1_pairs_76 rfl ?_
              refine x_ishr dX1_pairs_78 ?_
              refine x_iconst dX1_pairs_79 rfl ?_
              refine x_iand dX1_pairs_80 ?_
              rw [has_e (show i32 s from ⟨by omega, by omega⟩) (by omega)]
              refine x_if_eq (tgt := 128) dX1_pairs_81 (by decide) (fun h81 => ?_) (fun h81 => ?_)
              · omega
              · refine x_aload_n dX1_pairs_84 rfl rfl ?_
                refine x_iload_n dX1_pairs_85 rfl rfl ?_
                refine x_iload dX1_pairs_86 rfl ?_
                refine g_callI (vs := [_, _, _]) (d' := d - 1) rfl (s_X1_areClashing (M := wI M g) (by omega) hCg (by omega) (by omega)) dX1_pairs_88 kX1_385 (by omega) (by decide) rfl (Nat.le_of_ble_eq_true rfl) (rcv_o (by first | assumption | first | assumption | (simp (disch := omega) only [shI, shR, shL, shC, shD, shW, sh_V, shN_e, shN_n, crI, crL, crC, crW, crV, crR_e, crR_n, crN_e, crN_n, ciR, ciL, ciD, ciN_e, ciN_n, rdI_e, rdI_n, rdC_i, rdC_o, rdW, rdU_e, rdU_n, rdLW, clI, clR, clC, clD, clW, clV, clN_e, clN_n, clL_e, clL_n]; done) | (simp (disch := omega) only [shI, shR, shL, shC, shD, shW, sh_V, shN_e, shN_n, crI, crL, crC, crW, crV, crR_e, crR_n, crN_e, crN_n, ciR, ciL, ciD, ciN_e, ciN_n, rdI_e, rdI_n, rdC_i, rdC_o, rdW, rdU_e, rdU_n, rdLW, clI, clR, clC, clD, clW, clV, clN_e, clN_n, clL_e, clL_n] <;> first | assumption | rfl | omega)) rfl) (fun x88 M88 h88 => ?_)
                obtain ⟨e88, f88⟩ := h88
                have f88' := f88.symm
                subst f88'
                subst e88
                try simp (disch := omega) only [rdI_e, rdI_n, rdC_i, rdC_o, rdW, rdR, rdU_e, rdU_n, rdLW, Int.add_zero, eT, eT2]
                refine x_if_ne (tgt := 128) dX1_pairs_91 (by decide) (fun h91 => ?_) (fun h91 => ?_)
                · try simp only [vP_0, vP_1, vP_n0, vP_n1, Classical.not_not] at h91
                  first | refine x_iincN (L' := [some _, some _, some _, some _, some _]) dX1_pairs_128 rfl (by decide) (by unfold i32; omega) rfl ?_ | refine x_iinc (L' := [some _, some _, some _, some _, some _]) dX1_pairs_128 rfl (by decide) rfl ?_
                  refine x_goto (tgt := 75) dX1_pairs_131 (by decide) ?_
                  first
                  | (refine nx ?_
                     have ec : cdP v (tT v) s o = -1 := by
                       unfold cdP
                       rw [if_neg (by omega), if_neg fun q => q.2 h91]
                     rw [ec]
                     omega)
                  | (refine nx ?_
                     have ec : cdP v (tT v) s o = opN v (lo0 s) + opN v o + tT v (clrI (clrI s (lo0 s)) o) := by
                       unfold cdP
                       rw [if_neg (by omega), if_pos ⟨bo.trans hb, h91⟩]
                     rw [ec]
                     exact h125)
                · try simp only [vP_0, vP_1, vP_n0, vP_n1, Classical.not_not] at h91
                  refine x_aload_n dX1_pairs_94 rfl rfl ?_
                  refine x_iload_n dX1_pairs_95 rfl rfl ?_
                  refine x_iload dX1_pairs_96 rfl ?_
                  refine g_callI (vs := [_, _, _]) (d' := d - 1) rfl (s_X1_sizes (M := wI M g) (by omega) hCg (by omega) (by omega)) dX1_pairs_98 kX1_412 (by omega) (by decide) rfl (Nat.le_of_ble_eq_true rfl) (rcv_o (by first | assumption | first | assumption | (simp (disch := omega) only [shI, shR, shL, shC, shD, shW, sh_V, shN_e, shN_n, crI, crL, crC, crW, crV, crR_e, crR_n, crN_e, crN_n, ciR, ciL, ciD, ciN_e, ciN_n, rdI_e, rdI_n, rdC_i, rdC_o, rdW, rdU_e, rdU_n, rdLW, clI, clR, clC, clD, clW, clV, clN_e, clN_n, clL_e, clL_n]; done) | (simp (disch := omega) only [shI, shR, shL, shC, shD, shW, sh_V, shN_e, shN_n, crI, crL, crC, crW, crV, crR_e, crR_n, crN_e, crN_n, ciR, ciL, ciD, ciN_e, ciN_n, rdI_e, rdI_n, rdC_i, rdC_o, rdW, rdU_e, rdU_n, rdLW, clI, clR, clC, clD, clW, clV, clN_e, clN_n, clL_e, clL_n] <;> first | assumption | rfl | omega)) rfl) (fun x98 M98 h98 => ?_)
                  obtain ⟨e98, f98⟩ := h98
                  have f98' := f98.symm
                  subst f98'
                  subst e98
                  try simp (disch := omega) only [rdI_e, rdI_n, rdC_i, rdC_o, rdW, rdR, rdU_e, rdU_n, rdLW, Int.add_zero, eT, eT2]
                  refine x_aload_n dX1_pairs_101 rfl rfl ?_
                  refine g_getR (kI := 10) rfl dX1_pairs_102 fX1_56_1 (by first | assumption | first | assumption | (simp (disch := omega) only [shI, shR, shL, shC, shD, shW, sh_V, shN_e, shN_n, crI, crL, crC, crW, crV, crR_e, crR_n, crN_e, crN_n, ciR, ciL, ciD, ciN_e, ciN_n, rdI_e, rdI_n, rdC_i, rdC_o, rdW, rdU_e, rdU_n, rdLW, clI, clR, clC, clD, clW, clV, clN_e, clN_n, clL_e, clL_n]; done) | (simp (disch := omega) only [shI, shR, shL, shC, shD, shW, sh_V, shN_e, shN_n, crI, crL, crC, crW, crV, crR_e, crR_n, crN_e, crN_n, ciR, ciL, ciD, ciN_e, ciN_n, rdI_e, rdI_n, rdC_i, rdC_o, rdW, rdU_e, rdU_n, rdLW, clI, clR, clC, clD, clW, clV, clN_e, clN_n, clL_e, clL_n] <;> first | assumption | rfl | omega)) (by first | assumption | first | assumption | (simp (disch := omega) only [shI, shR, shL, shC, shD, shW, sh_V, shN_e, shN_n, crI, crL, crC, crW, crV, crR_e, crR_n, crN_e, crN_n, ciR, ciL, ciD, ciN_e, ciN_n, rdI_e, rdI_n, rdC_i, rdC_o, rdW, rdU_e, rdU_n, rdLW, clI, clR, clC, clD, clW, clV, clN_e, clN_n, clL_e, clL_n]; done) | (simp (disch := omega) only [shI, shR, shL, shC, shD, shW, sh_V, shN_e, shN_n, crI, crL, crC, crW, crV, crR_e, crR_n, crN_e, crN_n, ciR, ciL, ciD, ciN_e, ciN_n, rdI_e, rdI_n, rdC_i, rdC_o, rdW, rdU_e, rdU_n, rdLW, clI, clR, clC, clD, clW, clV, clN_e, clN_n, clL_e, clL_n] <;> first | assumption | rfl | omega)) ?_
                  refine x_iload_n dX1_pairs_105 rfl rfl ?_
                  refine x_iconst dX1_pairs_106 rfl ?_
                  refine x_iload_n dX1_pairs_107 rfl rfl ?_
                  refine x_ishl dX1_pairs_108 ?_
                  refine x_iconst dX1_pairs_109 rfl ?_
                  refine x_iload dX1_pairs_110 rfl ?_
                  refine x_ishl dX1_pairs_112 ?_
                  rw [jshl_1 (by omega), jshl_1 (by omega)]
                  refine x_ior dX1_pairs_113 ?_
                  refine x_iconst dX1_pairs_114 rfl ?_
                  refine x_ixor dX1_pairs_115 ?_
                  refine x_iand dX1_pairs_116 ?_
                  rw [two1 (by omega) (by omega) (by omega) (by omega)]
                  refine x_iald dX1_pairs_117 (by first | assumption | first | assumption | (simp (disch := omega) only [shI, shR, shL, shC, shD, shW, sh_V, shN_e, shN_n, crI, crL, crC, crW, crV, crR_e, crR_n, crN_e, crN_n, ciR, ciL, ciD, ciN_e, ciN_n, rdI_e, rdI_n, rdC_i, rdC_o, rdW, rdU_e, rdU_n, rdLW, clI, clR, clC, clD, clW, clV, clN_e, clN_n, clL_e, clL_n]; done) | (simp (disch := omega) only [shI, shR, shL, shC, shD, shW, sh_V, shN_e, shN_n, crI, crL, crC, crW, crV, crR_e, crR_n, crN_e, crN_n, ciR, ciL, ciD, ciN_e, ciN_n, rdI_e, rdI_n, rdC_i, rdC_o, rdW, rdU_e, rdU_n, rdLW, clI, clR, clC, clD, clW, clV, clN_e, clN_n, clL_e, clL_n] <;> first | assumption | rfl | omega)) (by omega) (by omega) ?_
                  try simp (disch := omega) only [rdI_e, rdI_n, rdC_i, rdC_o, rdW, rdR, rdU_e, rdU_n, rdLW, Int.add_zero, eT, eT2]
                  first | refine x_iaddN dX1_pairs_118 (by unfold i32; omega) ?_ | refine x_iadd dX1_pairs_118 ?_
                  refine x_aload_n dX1_pairs_119 rfl rfl ?_
                  refine g_getR (kI := 10) rfl dX1_pairs_120 fX1_56_1 (by first | assumption | first | assumption | (simp (disch := omega) only [shI, shR, shL, shC, shD, shW, sh_V, shN_e, shN_n, crI, crL, crC, crW, crV, crR_e, crR_n, crN_e, crN_n, ciR, ciL, ciD, ciN_e, ciN_n, rdI_e, rdI_n, rdC_i, rdC_o, rdW, rdU_e, rdU_n, rdLW, clI, clR, clC, clD, clW, clV, clN_e, clN_n, clL_e, clL_n]; done) | (simp (disch := omega) only [shI, shR, shL, shC, shD, shW, sh_V, shN_e, shN_n, crI, crL, crC, crW, crV, crR_e, crR_n, crN_e, crN_n, ciR, ciL, ciD, ciN_e, ciN_n, rdI_e, rdI_n, rdC_i, rdC_o, rdW, rdU_e, rdU_n, rdLW, clI, clR, clC, clD, clW, clV, clN_e, clN_n, clL_e, clL_n] <;> first | assumption | rfl | omega)) (by first | assumption | first | assumption | (simp (disch := omega) only [shI, shR, shL, shC, shD, shW, sh_V, shN_e, shN_n, crI, crL, crC, crW, crV, crR_e, crR_n, crN_e, crN_n, ciR, ciL, ciD, ciN_e, ciN_n, rdI_e, rdI_n, rdC_i, rdC_o, rdW, rdU_e, rdU_n, rdLW, clI, clR, clC, clD, clW, clV, clN_e, clN_n, clL_e, clL_n]; done) | (simp (disch := omega) only [shI, shR, shL, shC, shD, shW, sh_V, shN_e, shN_n, crI, crL, crC, crW, crV, crR_e, crR_n, crN_e, crN_n, ciR, ciL, ciD, ciN_e, ciN_n, rdI_e, rdI_n, rdC_i, rdC_o, rdW, rdU_e, rdU_n, rdLW, clI, clR, clC, clD, clW, clV, clN_e, clN_n, clL_e, clL_n] <;> first | assumption | rfl | omega)) ?_
                  refine x_iload_n dX1_pairs_123 rfl rfl ?_
                  refine x_iald dX1_pairs_124 (by first | assumption | first | assumption | (simp (disch := omega) only [shI, shR, shL, shC, shD, shW, sh_V, shN_e, shN_n, crI, crL, crC, crW, crV, crR_e, crR_n, crN_e, crN_n, ciR, ciL, ciD, ciN_e, ciN_n, rdI_e, rdI_n, rdC_i, rdC_o, rdW, rdU_e, rdU_n, rdLW, clI, clR, clC, clD, clW, clV, clN_e, clN_n, clL_e, clL_n]; done) | (simp (disch := omega) only [shI, shR, shL, shC, shD, shW, sh_V, shN_e, shN_n, crI, crL, crC, crW, crV, crR_e, crR_n, crN_e, crN_n, ciR, ciL, ciD, ciN_e, ciN_n, rdI_e, rdI_n, rdC_i, rdC_o, rdW, rdU_e, rdU_n, rdLW, clI, clR, clC, clD, clW, clV, clN_e, clN_n, clL_e, clL_n] <;> first | assumption | rfl | omega)) (by omega) (by omega) ?_
                  try simp (disch := omega) only [rdI_e, rdI_n, rdC_i, rdC_o, rdW, rdR, rdU_e, rdU_n, rdLW, Int.add_zero, eT, eT2]
                  refine x_icmp_eq (tgt := 134) dX1_pairs_125 (by decide) (fun h125 => ?_) (fun h125 => ?_)
                  · refine tail o hn ?_ (by omega)
                    have ec : cdP v (tT v) s o = opN v (lo0 s) + opN v o + tT v (clrI (clrI s (lo0 s)) o) := by
                      unfold cdP
                      rw [if_neg (by omega), if_pos ⟨bo.trans hb, h91⟩]
                    rw [ec]
                    exact h125
                  · first | refine x_iincN (L' := [some _, some _, some _, some _, some _]) dX1_pairs_128 rfl (by decide) (by unfold i32; omega) rfl ?_ | refine x_iinc (L' := [some _, some _, some _, some _, some _]) dX1_pairs_128 rfl (by decide) rfl ?_
                    refine x_goto (tgt := 75) dX1_pairs_131 (by decide) ?_
                    first
                    | (refine nx ?_
                       have ec : cdP v (tT v) s o = -1 := by
                         unfold cdP
                         rw [if_neg (by omega), if_neg fun q => q.2 h91]
                       rw [ec]
                       omega)
                    | (refine nx ?_
                       have ec : cdP v (tT v) s o = opN v (lo0 s) + opN v o + tT v (clrI (clrI s (lo0 s)) o) := by
                         unfold cdP
                         rw [if_neg (by omega), if_pos ⟨bo.trans hb, h91⟩]
                       rw [ec]
                       exact h125)
            · refine x_iload_n dX1_pairs_75 rfl rfl ?_
              refine x_iload dX1_pairs_76 rfl ?_
              refine x_ishr dX1_pairs_78 ?_
              refine x_iconst dX1_pairs_79 rfl ?_
              refine x_iand dX1_pairs_80 ?_
              rw [has_e (show i32 s from ⟨by omega, by omega⟩) (by omega)]
              refine x_if_eq (tgt := 128) dX1_pairs_81 (by decide) (fun h81 => ?_) (fun h81 => ?_)
              · first | refine x_iincN (L' := [some _, some _, some _, some _, some _]) dX1_pairs_128 rfl (by decide) (by unfold i32; omega) rfl ?_ | refine x_iinc (L' := [some _, some _, some _, some _, some _]) dX1_pairs_128 rfl (by decide) rfl ?_
                refine x_goto (tgt := 75) dX1_pairs_131 (by decide) ?_
                refine nx ?_
                have ec : cdP v (tT v) s o = -1 := by
                  unfold cdP
                  rw [if_neg (by omega), if_neg fun q => hb (bo.symm.trans q.1)]
                rw [ec]
                omega
              · exact absurd (by have := bitI_r s o; omega) hb
        refine x_iload_n dX1_pairs_39 rfl rfl ?_
        refine x_if_eq (tgt := 176) dX1_pairs_40 (by decide) (fun h40 => ?_) (fun h40 => ?_)
        · omega
        · refine x_iload_n dX1_pairs_43 rfl rfl ?_
          refine g_callI (vs := [_]) (d' := d - 1) rfl (s_ntz (by omega) (by omega)) dX1_pairs_44 kX1_409 (by omega) (by decide) rfl (Nat.le_of_ble_eq_true rfl) (rcv_n) (fun x44 M44 h44 => ?_)
          obtain ⟨e44, f44⟩ := h44
          have f44' := f44.symm
          subst f44'
          subst e44
          try simp (disch := omega) only [rdI_e, rdI_n, rdC_i, rdC_o, rdW, rdR, rdU_e, rdU_n, rdLW, Int.add_zero, eT, eT1]
          refine x_istore_n (L' := [some _, some _, some _, some _, none]) dX1_pairs_47 rfl (by decide) rfl ?_
          refine x_iconst dX1_pairs_48 rfl ?_
          refine x_istore (L' := [some _, some _, some _, some _, some _]) dX1_pairs_49 (by decide) rfl ?_
          refine x_aload_n dX1_pairs_51 rfl rfl ?_
          refine g_getR (kI := 10) rfl dX1_pairs_52 fX1_56_1 (by first | assumption | first | assumption | (simp (disch := omega) only [shI, shR, shL, shC, shD, shW, sh_V, shN_e, shN_n, crI, crL, crC, crW, crV, crR_e, crR_n, crN_e, crN_n, ciR, ciL, ciD, ciN_e, ciN_n, rdI_e, rdI_n, rdC_i, rdC_o, rdW, rdU_e, rdU_n, rdLW, clI, clR, clC, clD, clW, clV, clN_e, clN_n, clL_e, clL_n]; done) | (simp (disch := omega) only [shI, shR, shL, shC, shD, shW, sh_V, shN_e, shN_n, crI, crL, crC, crW, crV, crR_e, crR_n, crN_e, crN_n, ciR, ciL, ciD, ciN_e, ciN_n, rdI_e, rdI_n, rdC_i, rdC_o, rdW, rdU_e, rdU_n, rdLW, clI, clR, clC, clD, clW, clV, clN_e, clN_n, clL_e, clL_n] <;> first | assumption | rfl | omega)) (by first | assumption | first | assumption | (simp (disch := omega) only [shI, shR, shL, shC, shD, shW, sh_V, shN_e, shN_n, crI, crL, crC, crW, crV, crR_e, crR_n, crN_e, crN_n, ciR, ciL, ciD, ciN_e, ciN_n, rdI_e, rdI_n, rdC_i, rdC_o, rdW, rdU_e, rdU_n, rdLW, clI, clR, clC, clD, clW, clV, clN_e, clN_n, clL_e, clL_n]; done) | (simp (disch := omega) only [shI, shR, shL, shC, shD, shW, sh_V, shN_e, shN_n, crI, crL, crC, crW, crV, crR_e, crR_n, crN_e, crN_n, ciR, ciL, ciD, ciN_e, ciN_n, rdI_e, rdI_n, rdC_i, rdC_o, rdW, rdU_e, rdU_n, rdLW, clI, clR, clC, clD, clW, clV, clN_e, clN_n, clL_e, clL_n] <;> first | assumption | rfl | omega)) ?_
          refine x_iload_n dX1_pairs_55 rfl rfl ?_
          refine x_iload_n dX1_pairs_56 rfl rfl ?_
          refine x_iconst dX1_pairs_57 rfl ?_
          first | refine x_isubN dX1_pairs_58 (by unfold i32; omega) ?_ | refine x_isub dX1_pairs_58 ?_
          refine x_iand dX1_pairs_59 ?_
          rw [low1 (by omega)]
          refine x_iald dX1_pairs_60 (by first | assumption | first | assumption | (simp (disch := omega) only [shI, shR, shL, shC, shD, shW, sh_V, shN_e, shN_n, crI, crL, crC, crW, crV, crR_e, crR_n, crN_e, crN_n, ciR, ciL, ciD, ciN_e, ciN_n, rdI_e, rdI_n, rdC_i, rdC_o, rdW, rdU_e, rdU_n, rdLW, clI, clR, clC, clD, clW, clV, clN_e, clN_n, clL_e, clL_n]; done) | (simp (disch := omega) only [shI, shR, shL, shC, shD, shW, sh_V, shN_e, shN_n, crI, crL, crC, crW, crV, crR_e, crR_n, crN_e, crN_n, ciR, ciL, ciD, ciN_e, ciN_n, rdI_e, rdI_n, rdC_i, rdC_o, rdW, rdU_e, rdU_n, rdLW, clI, clR, clC, clD, clW, clV, clN_e, clN_n, clL_e, clL_n] <;> first | assumption | rfl | omega)) (by omega) (by omega) ?_
          try simp (disch := omega) only [rdI_e, rdI_n, rdC_i, rdC_o, rdW, rdR, rdU_e, rdU_n, rdLW, Int.add_zero, eT, eT1]
          refine x_aload_n dX1_pairs_61 rfl rfl ?_
          refine g_getR (kI := 10) rfl dX1_pairs_62 fX1_56_1 (by first | assumption | first | assumption | (simp (disch := omega) only [shI, shR, shL, shC, shD, shW, sh_V, shN_e, shN_n, crI, crL, crC, crW, crV, crR_e, crR_n, crN_e, crN_n, ciR, ciL, ciD, ciN_e, ciN_n, rdI_e, rdI_n, rdC_i, rdC_o, rdW, rdU_e, rdU_n, rdLW, clI, clR, clC, clD, clW, clV, clN_e, clN_n, clL_e, clL_n]; done) | (simp (disch := omega) only [shI, shR, shL, shC, shD, shW, sh_V, shN_e, shN_n, crI, crL, crC, crW, crV, crR_e, crR_n, crN_e, crN_n, ciR, ciL, ciD, ciN_e, ciN_n, rdI_e, rdI_n, rdC_i, rdC_o, rdW, rdU_e, rdU_n, rdLW, clI, clR, clC, clD, clW, clV, clN_e, clN_n, clL_e, clL_n] <;> first | assumption | rfl | omega)) (by first | assumption | first | assumption | (simp (disch := omega) only [shI, shR, shL, shC, shD, shW, sh_V, shN_e, shN_n, crI, crL, crC, crW, crV, crR_e, crR_n, crN_e, crN_n, ciR, ciL, ciD, ciN_e, ciN_n, rdI_e, rdI_n, rdC_i, rdC_o, rdW, rdU_e, rdU_n, rdLW, clI, clR, clC, clD, clW, clV, clN_e, clN_n, clL_e, clL_n]; done) | (simp (disch := omega) only [shI, shR, shL, shC, shD, shW, sh_V, shN_e, shN_n, crI, crL, crC, crW, crV, crR_e, crR_n, crN_e, crN_n, ciR, ciL, ciD, ciN_e, ciN_n, rdI_e, rdI_n, rdC_i, rdC_o, rdW, rdU_e, rdU_n, rdLW, clI, clR, clC, clD, clW, clV, clN_e, clN_n, clL_e, clL_n] <;> first | assumption | rfl | omega)) ?_
          refine x_iload_n dX1_pairs_65 rfl rfl ?_
          refine x_iald dX1_pairs_66 (by first | assumption | first | assumption | (simp (disch := omega) only [shI, shR, shL, shC, shD, shW, sh_V, shN_e, shN_n, crI, crL, crC, crW, crV, crR_e, crR_n, crN_e, crN_n, ciR, ciL, ciD, ciN_e, ciN_n, rdI_e, rdI_n, rdC_i, rdC_o, rdW, rdU_e, rdU_n, rdLW, clI, clR, clC, clD, clW, clV, clN_e, clN_n, clL_e, clL_n]; done) | (simp (disch := omega) only [shI, shR, shL, shC, shD, shW, sh_V, shN_e, shN_n, crI, crL, crC, crW, crV, crR_e, crR_n, crN_e, crN_n, ciR, ciL, ciD, ciN_e, ciN_n, rdI_e, rdI_n, rdC_i, rdC_o, rdW, rdU_e, rdU_n, rdLW, clI, clR, clC, clD, clW, clV, clN_e, clN_n, clL_e, clL_n] <;> first | assumption | rfl | omega)) (by omega) (by omega) ?_
          try simp (disch := omega) only [rdI_e, rdI_n, rdC_i, rdC_o, rdW, rdR, rdU_e, rdU_n, rdLW, Int.add_zero, eT, eT1]
          refine x_icmp_eq (tgt := 134) dX1_pairs_67 (by decide) (fun h67 => ?_) (fun h67 => ?_)
          · exact tail (-1) (fun o' a1 a2 => by omega) (e1.trans h67) (by omega)
          · refine x_iload_n dX1_pairs_70 rfl rfl ?_
            refine x_iconst dX1_pairs_71 rfl ?_
            first | refine x_iaddN dX1_pairs_72 (by unfold i32; omega) ?_ | refine x_iadd dX1_pairs_72 ?_
            refine x_istore (L' := [some _, some _, some _, some _, some _]) dX1_pairs_73 (by decide) rfl ?_
            have hn0 : ∀ o', -1 ≤ o' → o' < lo0 s + 1 → ¬ cdP v (tT v) s o' = tT v s := fun o' a1 a2 => by
              by_cases e : o' = -1
              · rw [e, e1]; exact h67
              · rw [cd_lo (by omega) (by omega)]
                omega
            exact inner _ (lo0 s + 1) rfl (by omega) (by
              by_cases q : y < lo0 s + 1
              · exact absurd hy2 (hn0 y hy1.1 q)
              · omega) hn0
    exact lp _ (pw (v 0) - 1) 256 rfl (by omega) (by omega) (by omega) (pm1 ⟨hv0, hv8⟩ hp) rfl
  by_cases hp1 : p = -1
  · refine x_iload_n dX1_pairs_0 rfl rfl ?_
    refine x_iconst dX1_pairs_1 rfl ?_
    refine x_icmp_eq (tgt := 11) dX1_pairs_2 (by decide) (fun h2 => ?_) (fun h2 => ?_)
    · refine x_aload_n dX1_pairs_11 rfl rfl ?_
      refine g_callN (vs := [_]) (d' := d - 1) rfl (s_X1_allBest (by omega) hC) dX1_pairs_12 kX1_415 (by omega) (by decide) rfl (Nat.le_of_ble_eq_true rfl) (rcv_o (by first | assumption | first | assumption | (simp (disch := omega) only [shI, shR, shL, shC, shD, shW, sh_V, shN_e, shN_n, crI, crL, crC, crW, crV, crR_e, crR_n, crN_e, crN_n, ciR, ciL, ciD, ciN_e, ciN_n, rdI_e, rdI_n, rdC_i, rdC_o, rdW, rdU_e, rdU_n, rdLW, clI, clR, clC, clD, clW, clV, clN_e, clN_n, clL_e, clL_n]; done) | (simp (disch := omega) only [shI, shR, shL, shC, shD, shW, sh_V, shN_e, shN_n, crI, crL, crC, crW, crV, crR_e, crR_n, crN_e, crN_n, ciR, ciL, ciD, ciN_e, ciN_n, rdI_e, rdI_n, rdC_i, rdC_o, rdW, rdU_e, rdU_n, rdLW, clI, clR, clC, clD, clW, clV, clN_e, clN_n, clL_e, clL_n] <;> first | assumption | rfl | omega)) rfl) (fun M12 h12 => ?_)
      obtain ⟨g12, e12, f12, l12⟩ := h12
      subst e12
      refine x_iconst dX1_pairs_15 rfl ?_
      refine x_aload_n dX1_pairs_16 rfl rfl ?_
      refine g_getR (kI := 1) rfl dX1_pairs_17 fX1_22_1 (by first | assumption | first | assumption | (simp (disch := omega) only [shI, shR, shL, shC, shD, shW, sh_V, shN_e, shN_n, crI, crL, crC, crW, crV, crR_e, crR_n, crN_e, crN_n, ciR, ciL, ciD, ciN_e, ciN_n, rdI_e, rdI_n, rdC_i, rdC_o, rdW, rdU_e, rdU_n, rdLW, clI, clR, clC, clD, clW, clV, clN_e, clN_n, clL_e, clL_n]; done) | (simp (disch := omega) only [shI, shR, shL, shC, shD, shW, sh_V, shN_e, shN_n, crI, crL, crC, crW, crV, crR_e, crR_n, crN_e, crN_n, ciR, ciL, ciD, ciN_e, ciN_n, rdI_e, rdI_n, rdC_i, rdC_o, rdW, rdU_e, rdU_n, rdLW, clI, clR, clC, clD, clW, clV, clN_e, clN_n, clL_e, clL_n] <;> first | assumption | rfl | omega)) (by first | assumption | first | assumption | (simp (disch := omega) only [shI, shR, shL, shC, shD, shW, sh_V, shN_e, shN_n, crI, crL, crC, crW, crV, crR_e, crR_n, crN_e, crN_n, ciR, ciL, ciD, ciN_e, ciN_n, rdI_e, rdI_n, rdC_i, rdC_o, rdW, rdU_e, rdU_n, rdLW, clI, clR, clC, clD, clW, clV, clN_e, clN_n, clL_e, clL_n]; done) | (simp (disch := omega) only [shI, shR, shL, shC, shD, shW, sh_V, shN_e, shN_n, crI, crL, crC, crW, crV, crR_e, crR_n, crN_e, crN_n, ciR, ciL, ciD, ciN_e, ciN_n, rdI_e, rdI_n, rdC_i, rdC_o, rdW, rdU_e, rdU_n, rdLW, clI, clR, clC, clD, clW, clV, clN_e, clN_n, clL_e, clL_n] <;> first | assumption | rfl | omega)) ?_
      refine g_getI (kI := 8) rfl dX1_pairs_20 fX1_101_3 (by first | assumption | first | assumption | (simp (disch := omega) only [shI, shR, shL, shC, shD, shW, sh_V, shN_e, shN_n, crI, crL, crC, crW, crV, crR_e, crR_n, crN_e, crN_n, ciR, ciL, ciD, ciN_e, ciN_n, rdI_e, rdI_n, rdC_i, rdC_o, rdW, rdU_e, rdU_n, rdLW, clI, clR, clC, clD, clW, clV, clN_e, clN_n, clL_e, clL_n]; done) | (simp (disch := omega) only [shI, shR, shL, shC, shD, shW, sh_V, shN_e, shN_n, crI, crL, crC, crW, crV, crR_e, crR_n, crN_e, crN_n, ciR, ciL, ciD, ciN_e, ciN_n, rdI_e, rdI_n, rdC_i, rdC_o, rdW, rdU_e, rdU_n, rdLW, clI, clR, clC, clD, clW, clV, clN_e, clN_n, clL_e, clL_n] <;> first | assumption | rfl | omega)) ?_
      try simp (disch := omega) only [rdI_e, rdI_n, rdC_i, rdC_o, rdW, rdR, rdU_e, rdU_n, rdLW, Int.add_zero, b1]
      rw [show g12 54 8 = v 0 from (f12 54 8 (by omega)).trans b1]
      refine x_ishl dX1_pairs_23 ?_
      rw [jshl_1 (by omega)]
      refine x_iconst dX1_pairs_24 rfl ?_
      first | refine x_isubN dX1_pairs_25 (by unfold i32; omega) ?_ | refine x_isub dX1_pairs_25 ?_
      refine x_istore_n (L' := [some _, some _, some _, none, none]) dX1_pairs_26 rfl (by decide) rfl ?_
      refine x_iload_n dX1_pairs_27 rfl rfl ?_
      refine x_iconst dX1_pairs_28 rfl ?_
      refine x_icmp_ne (tgt := 39) dX1_pairs_29 (by decide) (fun h29 => ?_) (fun h29 => ?_)
      · exact absurd hp1 h29
      · refine x_aload_n dX1_pairs_32 rfl rfl ?_
        refine g_getR (kI := 10) rfl dX1_pairs_33 fX1_56_1 (by first | assumption | first | assumption | (simp (disch := omega) only [shI, shR, shL, shC, shD, shW, sh_V, shN_e, shN_n, crI, crL, crC, crW, crV, crR_e, crR_n, crN_e, crN_n, ciR, ciL, ciD, ciN_e, ciN_n, rdI_e, rdI_n, rdC_i, rdC_o, rdW, rdU_e, rdU_n, rdLW, clI, clR, clC, clD, clW, clV, clN_e, clN_n, clL_e, clL_n]; done) | (simp (disch := omega) only [shI, shR, shL, shC, shD, shW, sh_V, shN_e, shN_n, crI, crL, crC, crW, crV, crR_e, crR_n, crN_e, crN_n, ciR, ciL, ciD, ciN_e, ciN_n, rdI_e, rdI_n, rdC_i, rdC_o, rdW, rdU_e, rdU_n, rdLW, clI, clR, clC, clD, clW, clV, clN_e, clN_n, clL_e, clL_n] <;> first | assumption | rfl | omega)) (by first | assumption | first | assumption | (simp (disch := omega) only [shI, shR, shL, shC, shD, shW, sh_V, shN_e, shN_n, crI, crL, crC, crW, crV, crR_e, crR_n, crN_e, crN_n, ciR, ciL, ciD, ciN_e, ciN_n, rdI_e, rdI_n, rdC_i, rdC_o, rdW, rdU_e, rdU_n, rdLW, clI, clR, clC, clD, clW, clV, clN_e, clN_n, clL_e, clL_n]; done) | (simp (disch := omega) only [shI, shR, shL, shC, shD, shW, sh_V, shN_e, shN_n, crI, crL, crC, crW, crV, crR_e, crR_n, crN_e, crN_n, ciR, ciL, ciD, ciN_e, ciN_n, rdI_e, rdI_n, rdC_i, rdC_o, rdW, rdU_e, rdU_n, rdLW, clI, clR, clC, clD, clW, clV, clN_e, clN_n, clL_e, clL_n] <;> first | assumption | rfl | omega)) ?_
        refine x_iload_n dX1_pairs_36 rfl rfl ?_
        have eT := l12 (pw (v 0) - 1) (by omega) (by omega)
        refine x_iald dX1_pairs_37 (by first | assumption | first | assumption | (simp (disch := omega) only [shI, shR, shL, shC, shD, shW, sh_V, shN_e, shN_n, crI, crL, crC, crW, crV, crR_e, crR_n, crN_e, crN_n, ciR, ciL, ciD, ciN_e, ciN_n, rdI_e, rdI_n, rdC_i, rdC_o, rdW, rdU_e, rdU_n, rdLW, clI, clR, clC, clD, clW, clV, clN_e, clN_n, clL_e, clL_n]; done) | (simp (disch := omega) only [shI, shR, shL, shC, shD, shW, sh_V, shN_e, shN_n, crI, crL, crC, crW, crV, crR_e, crR_n, crN_e, crN_n, ciR, ciL, ciD, ciN_e, ciN_n, rdI_e, rdI_n, rdC_i, rdC_o, rdW, rdU_e, rdU_n, rdLW, clI, clR, clC, clD, clW, clV, clN_e, clN_n, clL_e, clL_n] <;> first | assumption | rfl | omega)) (by omega) (by omega) ?_
        try simp (disch := omega) only [rdI_e, rdI_n, rdC_i, rdC_o, rdW, rdR, rdU_e, rdU_n, rdLW, Int.add_zero, b1]
        refine x_ireturn rfl dX1_pairs_38 ?_
        refine hQ _ _ (Or.inl ⟨_, rfl, Or.inl hp1, ?_, CO.o hC fun b k q1 q2 => f12 b k (by omega)⟩)
        unfold pairsAns
        rw [if_pos hp1]
        exact l12 _ (by omega) (by omega)
    · exact absurd hp1 h2
  · refine x_iload_n dX1_pairs_0 rfl rfl ?_
    refine x_iconst dX1_pairs_1 rfl ?_
    refine x_icmp_eq (tgt := 11) dX1_pairs_2 (by decide) (fun h2 => ?_) (fun h2 => ?_)
    · exact absurd h2 hp1
    · refine x_aload_n dX1_pairs_5 rfl rfl ?_
      refine x_iload_n dX1_pairs_6 rfl rfl ?_
      refine g_callRX (vs := [_, _]) (d' := d - 1) rfl (s_X1_opOf (by omega) hC) dX1_pairs_7 kX1_240 (by omega) (by decide) rfl (Nat.le_of_ble_eq_true rfl) (rcv_o (by first | assumption | first | assumption | (simp (disch := omega) only [shI, shR, shL, shC, shD, shW, sh_V, shN_e, shN_n, crI, crL, crC, crW, crV, crR_e, crR_n, crN_e, crN_n, ciR, ciL, ciD, ciN_e, ciN_n, rdI_e, rdI_n, rdC_i, rdC_o, rdW, rdU_e, rdU_n, rdLW, clI, clR, clC, clD, clW, clV, clN_e, clN_n, clL_e, clL_n]; done) | (simp (disch := omega) only [shI, shR, shL, shC, shD, shW, sh_V, shN_e, shN_n, crI, crL, crC, crW, crV, crR_e, crR_n, crN_e, crN_n, ciR, ciL, ciD, ciN_e, ciN_n, rdI_e, rdI_n, rdC_i, rdC_o, rdW, rdU_e, rdU_n, rdLW, clI, clR, clC, clD, clW, clV, clN_e, clN_n, clL_e, clL_n] <;> first | assumption | rfl | omega)) rfl) (fun x7 M7 h7 => ?_) (fun a7 E7 M7 h7 => ?_)
      · obtain ⟨q7, e7, f7⟩ := h7
        subst e7
        subst f7
        refine x_pop dX1_pairs_10 rfl ?_
        refine x_aload_n dX1_pairs_11 rfl rfl ?_
        refine g_callN (vs := [_]) (d' := d - 1) rfl (s_X1_allBest (by omega) hC) dX1_pairs_12 kX1_415 (by omega) (by decide) rfl (Nat.le_of_ble_eq_true rfl) (rcv_o (by first | assumption | first | assumption | (simp (disch := omega) only [shI, shR, shL, shC, shD, shW, sh_V, shN_e, shN_n, crI, crL, crC, crW, crV, crR_e, crR_n, crN_e, crN_n, ciR, ciL, ciD, ciN_e, ciN_n, rdI_e, rdI_n, rdC_i, rdC_o, rdW, rdU_e, rdU_n, rdLW, clI, clR, clC, clD, clW, clV, clN_e, clN_n, clL_e, clL_n]; done) | (simp (disch := omega) only [shI, shR, shL, shC, shD, shW, sh_V, shN_e, shN_n, crI, crL, crC, crW, crV, crR_e, crR_n, crN_e, crN_n, ciR, ciL, ciD, ciN_e, ciN_n, rdI_e, rdI_n, rdC_i, rdC_o, rdW, rdU_e, rdU_n, rdLW, clI, clR, clC, clD, clW, clV, clN_e, clN_n, clL_e, clL_n] <;> first | assumption | rfl | omega)) rfl) (fun M12 h12 => ?_)
        obtain ⟨g12, e12, f12, l12⟩ := h12
        subst e12
        refine x_iconst dX1_pairs_15 rfl ?_
        refine x_aload_n dX1_pairs_16 rfl rfl ?_
        refine g_getR (kI := 1) rfl dX1_pairs_17 fX1_22_1 (by first | assumption | first | assumption | (simp (disch := omega) only [shI, shR, shL, shC, shD, shW, sh_V, shN_e, shN_n, crI, crL, crC, crW, crV, crR_e, crR_n, crN_e, crN_n, ciR, ciL, ciD, ciN_e, ciN_n, rdI_e, rdI_n, rdC_i, rdC_o, rdW, rdU_e, rdU_n, rdLW, clI, clR, clC, clD, clW, clV, clN_e, clN_n, clL_e, clL_n]; done) | (simp (disch := omega) only [shI, shR, shL, shC, shD, shW, sh_V, shN_e, shN_n, crI, crL, crC, crW, crV, crR_e, crR_n, crN_e, crN_n, ciR, ciL, ciD, ciN_e, ciN_n, rdI_e, rdI_n, rdC_i, rdC_o, rdW, rdU_e, rdU_n, rdLW, clI, clR, clC, clD, clW, clV, clN_e, clN_n, clL_e, clL_n] <;> first | assumption | rfl | omega)) (by first | assumption | first | assumption | (simp (disch := omega) only [shI, shR, shL, shC, shD, shW, sh_V, shN_e, shN_n, crI, crL, crC, crW, crV, crR_e, crR_n, crN_e, crN_n, ciR, ciL, ciD, ciN_e, ciN_n, rdI_e, rdI_n, rdC_i, rdC_o, rdW, rdU_e, rdU_n, rdLW, clI, clR, clC, clD, clW, clV, clN_e, clN_n, clL_e, clL_n]; done) | (simp (disch := omega) only [shI, shR, shL, shC, shD, shW, sh_V, shN_e, shN_n, crI, crL, crC, crW, crV, crR_e, crR_n, crN_e, crN_n, ciR, ciL, ciD, ciN_e, ciN_n, rdI_e, rdI_n, rdC_i, rdC_o, rdW, rdU_e, rdU_n, rdLW, clI, clR, clC, clD, clW, clV, clN_e, clN_n, clL_e, clL_n] <;> first | assumption | rfl | omega)) ?_
        refine g_getI (kI := 8) rfl dX1_pairs_20 fX1_101_3 (by first | assumption | first | assumption | (simp (disch := omega) only [shI, shR, shL, shC, shD, shW, sh_V, shN_e, shN_n, crI, crL, crC, crW, crV, crR_e, crR_n, crN_e, crN_n, ciR, ciL, ciD, ciN_e, ciN_n, rdI_e, rdI_n, rdC_i, rdC_o, rdW, rdU_e, rdU_n, rdLW, clI, clR, clC, clD, clW, clV, clN_e, clN_n, clL_e, clL_n]; done) | (simp (disch := omega) only [shI, shR, shL, shC, shD, shW, sh_V, shN_e, shN_n, crI, crL, crC, crW, crV, crR_e, crR_n, crN_e, crN_n, ciR, ciL, ciD, ciN_e, ciN_n, rdI_e, rdI_n, rdC_i, rdC_o, rdW, rdU_e, rdU_n, rdLW, clI, clR, clC, clD, clW, clV, clN_e, clN_n, clL_e, clL_n] <;> first | assumption | rfl | omega)) ?_
        try simp (disch := omega) only [rdI_e, rdI_n, rdC_i, rdC_o, rdW, rdR, rdU_e, rdU_n, rdLW, Int.add_zero, b1]
        rw [show g12 54 8 = v 0 from (f12 54 8 (by omega)).trans b1]
        refine x_ishl dX1_pairs_23 ?_
        rw [jshl_1 (by omega)]
        refine x_iconst dX1_pairs_24 rfl ?_
        first | refine x_isubN dX1_pairs_25 (by unfold i32; omega) ?_ | refine x_isub dX1_pairs_25 ?_
        refine x_istore_n (L' := [some _, some _, some _, none, none]) dX1_pairs_26 rfl (by decide) rfl ?_
        refine x_iload_n dX1_pairs_27 rfl rfl ?_
        refine x_iconst dX1_pairs_28 rfl ?_
        refine x_icmp_ne (tgt := 39) dX1_pairs_29 (by decide) (fun h29 => ?_) (fun h29 => ?_)
        · exact x_fgt (by repeat (first | exact trivial | refine ⟨rfl, ?_⟩)) (full g12 f12 l12 q7)
        · exact absurd h29 hp1
      · obtain ⟨q7, eE7, eM7⟩ := h7
        subst eE7
        subst eM7
        exact th_nil rfl (hQ _ _ (Or.inr ⟨_, _, rfl, CO.xx hC, by omega, rfl⟩))
end X1

