/-! GuestView$State: sums of the law -/
theorem sumR_s (v : Vw) (fc : Int → Int) (w : Int) (k : Int) (hk : 0 ≤ k) : sumR v fc w (k + 1).toNat = sumR v fc w k.toNat + @ite Int (v (369 + 4 * k) = w ∧ holdV v fc k) (Classical.propDecidable _) (v (370 + 4 * k)) 0 := by
  rw [show (k + 1).toNat = k.toNat + 1 by omega]
  show sumR v fc w k.toNat + @ite Int (v (369 + 4 * (k.toNat : Int)) = w ∧ holdV v fc (k.toNat : Int)) (Classical.propDecidable _) (v (370 + 4 * (k.toNat : Int))) 0 = _
  rw [show ((k.toNat : Nat) : Int) = k by omega]
theorem trt_1 {v : Vw} {p w : Int} : trtV v p w = 1 ↔ witV v p w ≠ -1 := vP_1
section XS
variable {G : GW} {d : Nat} {M : Mem} {B T p N : Int} {v : Vw}
theorem s_X3_sum {which op : Int} (hd : 38 ≤ d) (h : StS (msh M) (mcr M) p) (hB : RelB (mci M) p v N) (hv : okB v) (hW : RelW (mci M) p v) (hL : LawR (msh M) (mci M) (mcr M) B T p v) (hp : p + 3 < B) (ho : 0 ≤ op ∧ op < v 0) : CS G d mX3_sum [dR p, dI which, dI op] M (postI fun x M1 => ∃ g, M1 = wI M g ∧ (x = sumV v which op ∧ 0 ≤ x ∧ x ≤ 480) ∧ Fo (p + 3) (p + 3) (mci M) g) := by
  have hh := h
  obtain ⟨p0, p1, ⟨c0, c1, c2, c3, c4, c5, c6, c7⟩, ⟨t1, t2, t3, t4, t5, t6⟩, p5, p6, p7⟩ := h
  have hv8 := hv.n8
  have hOS := p7 op ho.1 (by omega)
  have hOO := hOS.2.1
  have hO6 := hOS.2.2.1
  have hRO := hB.2.2.2.2.2.2.2.2.2.2.2.2.2.1 op ho.1 ho.2
  have hop := hv.op op ho.1 ho.2
  have hfo := factOk hv ho
  have hww : ∀ w, 0 ≤ w → w < 4 → mci M (p + 13 + 4 * op + 3) w = witV v op w := fun w a b => hW op w ho.1 ho.2 a b
  have loop2 : ∀ (t : Nat) (k x : Int) (g : Int → Int → Int), (12 - k).toNat = t → 0 ≤ k → k ≤ 12 → Fo (p + 3) (p + 3) (mci M) g → (∀ i, 0 ≤ i → i < 10 → g (p + 3) i = factV v op i) → (v 2 = 0 ∧ k = 0 ∧ x = 0 ∨ v 2 = 1 ∧ k ≤ v 368 ∧ x = sumR v (factV v op) which k.toNat) → 0 ≤ x → x ≤ 40 * k → WP G d mX3_sum 137 [some (dR p), some (dI which), some (dI op), some (dR (p + 13 + 4 * op)), some (dI x), some (dI k)] [] (wI M g) (postI fun x M1 => ∃ g, M1 = wI M g ∧ (x = sumV v which op ∧ 0 ≤ x ∧ x ≤ 480) ∧ Fo (p + 3) (p + 3) (mci M) g) := by
    intro t
    induction t using Nat.strongRecOn with
    | _ t ih =>
      intro k x g ht hk hk2 hf hg hx hx0 hx1
      have e10 : mci (wI M g) p 10 = mci M p 10 := hf _ _ (by omega)
      have hfc : FcOk (mci (wI M g) (p + 3)) := fun i a b => by rw [mci_wI, hg i a b]; exact hfo i a b
      have hsm : Same B T (msh M) (mci M) (mcr M) (msh M) g (mcr M) := fun a a1 a2 => ⟨rfl, fun i => hf _ _ (by omega), fun i => rfl⟩
      rcases hL with ⟨l1, l2⟩ | ⟨l1, l2, l3, l4⟩
      · have l0 := l2
        refine x_iload dX3_sum_137 rfl ?_
        refine x_aload_n dX3_sum_139 rfl rfl ?_
        refine g_getI (kI := 10) rfl dX3_sum_140 fX3_46_3 (by assumption) ?_
        rw [e10]
        refine x_icmp_ge (tgt := 172) dX3_sum_143 (by decide) (fun h143 => ?_) (fun h143 => ?_)
        · refine x_iload dX3_sum_172 rfl ?_
          refine x_ireturn rfl dX3_sum_174 ?_
          refine ⟨_, rfl, g, rfl, ⟨?_, hx0, by omega⟩, hf⟩
          unfold sumV
          rw [if_neg (by omega)]
          omega
        · omega
      · by_cases hkk : k < v 368
        · obtain ⟨l, m1, m2, m3, m4⟩ := l4 k hk hkk
          have m5 := m4.same hsm (Int.le_refl T)
          have hln := m4.2.1.2
          have hs := sumR_s v (factV v op) which k hk
          refine x_iload dX3_sum_137 rfl ?_
          refine x_aload_n dX3_sum_139 rfl rfl ?_
          refine g_getI (kI := 10) rfl dX3_sum_140 fX3_46_3 (by assumption) ?_
          rw [e10]
          refine x_icmp_ge (tgt := 172) dX3_sum_143 (by decide) (fun h143 => ?_) (fun h143 => ?_)
          · omega
          · refine x_iload dX3_sum_146 rfl ?_
            refine x_aload_n dX3_sum_148 rfl rfl ?_
            refine g_getR (kI := 1) rfl dX3_sum_149 fX3_19_3 (by assumption) (by assumption) ?_
            refine x_iload dX3_sum_152 rfl ?_
            refine x_aald (t := 134) rfl (by decide) dX3_sum_154 (by assumption) (by omega) (by omega) (by exact m1) ?_
            refine x_iload_n dX3_sum_155 rfl rfl ?_
            refine x_aload_n dX3_sum_156 rfl rfl ?_
            refine g_getR (kI := 2) rfl dX3_sum_157 fX3_23_3 (by assumption) (by assumption) ?_
            refine g_to (w := which) (d' := d - 1) (by omega) (by omega) t3 hfc hg m5 m2 m3 kX3_122_X15_to kX3_122_X16_to kX3_122_X17_to (by omega) dX3_sum_160 (Nat.le_of_ble_eq_true rfl) ?_
            intro x160 h160
            have hx2 : 0 ≤ x160 ∧ x160 ≤ 40 ∧ x160 = @ite Int (v (369 + 4 * k) = which ∧ holdV v (factV v op) k) (Classical.propDecidable _) (v (370 + 4 * k)) 0 := by
              by_cases q : v (369 + 4 * k) = which ∧ holdV v (factV v op) k
              · rw [if_pos q, h160.1 q]
                omega
              · rw [if_neg q, h160.2 q]
                omega
            first | refine x_iaddN dX3_sum_163 (by unfold i32; omega) ?_ | refine x_iadd dX3_sum_163 ?_
            refine x_istore (L' := [some _, some _, some _, some _, some _, some _]) dX3_sum_164 (by decide) rfl ?_
            first | refine x_iincN (L' := [some _, some _, some _, some _, some _, some _]) dX3_sum_166 rfl (by decide) (by unfold i32; omega) rfl ?_ | refine x_iinc (L' := [some _, some _, some _, some _, some _, some _]) dX3_sum_166 rfl (by decide) rfl ?_
            refine x_goto (tgt := 137) dX3_sum_169 (by decide) ?_
            exact ih _ (by omega) (k + 1) _ g rfl (by omega) (by omega) hf hg (Or.inr ⟨l1, by omega, by omega⟩) (by omega) (by omega)
        · refine x_iload dX3_sum_137 rfl ?_
          refine x_aload_n dX3_sum_139 rfl rfl ?_
          refine g_getI (kI := 10) rfl dX3_sum_140 fX3_46_3 (by assumption) ?_
          rw [e10]
          refine x_icmp_ge (tgt := 172) dX3_sum_143 (by decide) (fun h143 => ?_) (fun h143 => ?_)
          · refine x_iload dX3_sum_172 rfl ?_
            refine x_ireturn rfl dX3_sum_174 ?_
            refine ⟨_, rfl, g, rfl, ⟨?_, hx0, by omega⟩, hf⟩
            unfold sumV
            rw [if_pos l1]
            rcases hx with q | q
            · omega
            · rw [q.2.2, show k = v 368 by omega]
          · omega
  have loop1 : ∀ (t : Nat) (k : Int) (g : Int → Int → Int), (4 - k).toNat = t → 0 ≤ k → k ≤ 4 → Fo (p + 3) (p + 3) (mci M) g → (g (p + 3) 0 = op ∧ g (p + 3) 1 = opN v op ∧ ∀ i, 0 ≤ i → i < k → g (p + 3) (2 + i) = trtV v op i) → WP G d mX3_sum 27 [some (dR p), some (dI which), some (dI op), some (dR (p + 13 + 4 * op)), some (dI k), none] [] (wI M g) (postI fun x M1 => ∃ g, M1 = wI M g ∧ (x = sumV v which op ∧ 0 ≤ x ∧ x ≤ 480) ∧ Fo (p + 3) (p + 3) (mci M) g) := by
    intro t
    induction t using Nat.strongRecOn with
    | _ t ih =>
      intro k g ht hk hk2 hf hg
      obtain ⟨g0, g1, g2⟩ := hg
      have hBg := hB.fo hf hv8 (fun _ => Or.inr (Or.inr (Or.inr ⟨rfl, rfl⟩)))
      have eW : k < 4 → g (p + 13 + 4 * op + 3) k = witV v op k := fun q => (hf _ _ (by omega)).trans (hww k hk q)
      by_cases hk4 : k < 4
      · have eWk := eW hk4
        refine x_iload dX3_sum_27 rfl ?_
        refine x_iconst dX3_sum_29 rfl ?_
        refine x_icmp_ge (tgt := 62) dX3_sum_30 (by decide) (fun h30 => ?_) (fun h30 => ?_)
        · omega
        · refine x_aload_n dX3_sum_33 rfl rfl ?_
          refine g_getR (kI := 2) rfl dX3_sum_34 fX3_23_3 (by assumption) (by assumption) ?_
          refine x_iconst dX3_sum_37 rfl ?_
          refine x_iload dX3_sum_38 rfl ?_
          first | refine x_iaddN dX3_sum_40 (by unfold i32; omega) ?_ | refine x_iadd dX3_sum_40 ?_
          refine x_aload_n dX3_sum_41 rfl rfl ?_
          refine x_iload dX3_sum_42 rfl ?_
          refine g_callI (vs := [_, _]) (d' := d - 1) rfl (s_X6_is (M := wI M g) (by omega) hOS.2 hk hk4) dX3_sum_44 kX3_103 (by omega) (by decide) rfl (Nat.le_of_ble_eq_true rfl) (rcv_o (by assumption) rfl) (fun x44 M44 h44 => ?_)
          obtain ⟨e44, f44⟩ := h44
          have f44' := f44.symm
          subst f44'
          refine x_if_eq (tgt := 54) dX3_sum_47 (by decide) (fun h47 => ?_) (fun h47 => ?_)
          · refine x_iconst dX3_sum_54 rfl ?_
            refine x_iast (by omega) dX3_sum_55 (by assumption) (by omega) (by omega) ?_
            first | refine x_iincN (L' := [some _, some _, some _, some _, some _, none]) dX3_sum_56 rfl (by decide) (by unfold i32; omega) rfl ?_ | refine x_iinc (L' := [some _, some _, some _, some _, some _, none]) dX3_sum_56 rfl (by decide) rfl ?_
            refine x_goto (tgt := 27) dX3_sum_59 (by decide) ?_
            refine ih _ (by omega) (k + 1) (up g (p + 3) (2 + k) _) rfl (by omega) (by omega) (fun b i r => ?_) ⟨?_, ?_, fun i r1 r2 => ?_⟩
            · have := hf b i r
              simp (disch := omega) only [rdI_e, rdI_n, rdC_i, rdC_o, rdW, rdR, rdU_e, rdU_n]
              exact this
            · simp (disch := omega) only [rdI_e, rdI_n, rdC_i, rdC_o, rdW, rdR, rdU_e, rdU_n]
              exact g0
            · simp (disch := omega) only [rdI_e, rdI_n, rdC_i, rdC_o, rdW, rdR, rdU_e, rdU_n]
              exact g1
            · by_cases e : i = k
              · subst e
                simp (disch := omega) only [rdI_e, rdI_n, rdC_i, rdC_o, rdW, rdR, rdU_e, rdU_n]
                rw [mci_wI, eWk] at e44
                have : x44 = trtV v op i := e44
                have := vP_r (witV v op i ≠ -1)
                omega
              · have := g2 i r1 (by omega)
                simp (disch := omega) only [rdI_e, rdI_n, rdC_i, rdC_o, rdW, rdR, rdU_e, rdU_n]
                exact this
          · refine x_iconst dX3_sum_50 rfl ?_
            refine x_goto (tgt := 55) dX3_sum_51 (by decide) ?_
            refine x_iast (by omega) dX3_sum_55 (by assumption) (by omega) (by omega) ?_
            first | refine x_iincN (L' := [some _, some _, some _, some _, some _, none]) dX3_sum_56 rfl (by decide) (by unfold i32; omega) rfl ?_ | refine x_iinc (L' := [some _, some _, some _, some _, some _, none]) dX3_sum_56 rfl (by decide) rfl ?_
            refine x_goto (tgt := 27) dX3_sum_59 (by decide) ?_
            refine ih _ (by omega) (k + 1) (up g (p + 3) (2 + k) _) rfl (by omega) (by omega) (fun b i r => ?_) ⟨?_, ?_, fun i r1 r2 => ?_⟩
            · have := hf b i r
              simp (disch := omega) only [rdI_e, rdI_n, rdC_i, rdC_o, rdW, rdR, rdU_e, rdU_n]
              exact this
            · simp (disch := omega) only [rdI_e, rdI_n, rdC_i, rdC_o, rdW, rdR, rdU_e, rdU_n]
              exact g0
            · simp (disch := omega) only [rdI_e, rdI_n, rdC_i, rdC_o, rdW, rdR, rdU_e, rdU_n]
              exact g1
            · by_cases e : i = k
              · subst e
                simp (disch := omega) only [rdI_e, rdI_n, rdC_i, rdC_o, rdW, rdR, rdU_e, rdU_n]
                rw [mci_wI, eWk] at e44
                have : x44 = trtV v op i := e44
                have := vP_r (witV v op i ≠ -1)
                omega
              · have := g2 i r1 (by omega)
                simp (disch := omega) only [rdI_e, rdI_n, rdC_i, rdC_o, rdW, rdR, rdU_e, rdU_n]
                exact this
      · have eo4 : mci (wI M g) (p + 13 + 4 * op) 4 = opG v op := (hf _ _ (by omega)).trans hRO.2.1
        have eo5 : mci (wI M g) (p + 13 + 4 * op) 5 = opP v op := (hf _ _ (by omega)).trans hRO.2.2.1
        have w0 : g (p + 13 + 4 * op + 3) 0 = witV v op 0 := (hf _ _ (by omega)).trans (hww 0 (by omega) (by omega))
        have w1 : g (p + 13 + 4 * op + 3) 1 = witV v op 1 := (hf _ _ (by omega)).trans (hww 1 (by omega) (by omega))
        have w2 : g (p + 13 + 4 * op + 3) 2 = witV v op 2 := (hf _ _ (by omega)).trans (hww 2 (by omega) (by omega))
        have hse : sensV v op = vP (witV v op 0 ≠ -1 ∨ witV v op 1 ≠ -1 ∨ witV v op 2 ≠ -1) := vP_c (by rw [trt_1, trt_1, trt_1])
        have fin : ∀ u a b c, u = usesV v op → a = opG v op → b = opP v op → c = sensV v op → ∀ i, 0 ≤ i → i < 10 → up (up (up (up g (p + 3) 6 u) (p + 3) 7 a) (p + 3) 8 b) (p + 3) 9 c (p + 3) i = factV v op i := by
          intro u a b c e1 e2 e3 e4 i i0 i1
          rcases (show i = 0 ∨ i = 1 ∨ i = 2 ∨ i = 3 ∨ i = 4 ∨ i = 5 ∨ i = 6 ∨ i = 7 ∨ i = 8 ∨ i = 9 by omega) with e | e | e | e | e | e | e | e | e | e <;> subst e <;> simp (disch := omega) only [rdI_e, rdI_n, rdC_i, rdC_o, rdW, rdR, rdU_e, rdU_n]
          · exact g0
          · exact g1
          · exact g2 0 (by omega) (by omega)
          · exact g2 1 (by omega) (by omega)
          · exact g2 2 (by omega) (by omega)
          · exact g2 3 (by omega) (by omega)
          · exact e1
          · exact e2
          · exact e3
          · exact e4
        have hfF : ∀ u a b c, Fo (p + 3) (p + 3) (mci M) (up (up (up (up g (p + 3) 6 u) (p + 3) 7 a) (p + 3) 8 b) (p + 3) 9 c) := fun u a b c b' i r => by
          have := hf b' i r
          simp (disch := omega) only [rdI_e, rdI_n, rdC_i, rdC_o, rdW, rdR, rdU_e, rdU_n]
          exact this
        have hG := hop.2.1
        have hP := hop.2.2.1
        refine x_iload dX3_sum_27 rfl ?_
        refine x_iconst dX3_sum_29 rfl ?_
        refine x_icmp_ge (tgt := 62) dX3_sum_30 (by decide) (fun h30 => ?_) (fun h30 => ?_)
        · refine x_aload_n dX3_sum_62 rfl rfl ?_
          refine g_getR (kI := 2) rfl dX3_sum_63 fX3_23_3 (by assumption) (by assumption) ?_
          refine x_bipush dX3_sum_66 rfl ?_
          refine x_aload_n dX3_sum_68 rfl rfl ?_
          refine x_iload_n dX3_sum_69 rfl rfl ?_
          refine g_callI (vs := [_, _]) (d' := d - 1) rfl (s_X3_uses (M := wI M g) (by omega) hh hBg hv) dX3_sum_70 kX3_107 (by omega) (by decide) rfl (Nat.le_of_ble_eq_true rfl) (rcv_o (by assumption) rfl) (fun x70 M70 h70 => ?_)
          obtain ⟨e70, f70⟩ := h70
          have f70' := f70.symm
          subst f70'
          refine x_iast (by omega) dX3_sum_73 (by assumption) (by omega) (by omega) ?_
          refine x_aload_n dX3_sum_74 rfl rfl ?_
          refine g_getR (kI := 2) rfl dX3_sum_75 fX3_23_3 (by assumption) (by assumption) ?_
          refine x_bipush dX3_sum_78 rfl ?_
          refine x_aload_n dX3_sum_80 rfl rfl ?_
          refine g_getZ (kI := 4) rfl dX3_sum_81 fX3_111_6 (by assumption) ?_
          rw [show ∀ x, mci (mI (wI M g) (p + 3) 6 x) (p + 13 + 4 * op) 4 = opG v op from fun x => by simp (disch := omega) only [rdI_e, rdI_n, rdC_i, rdC_o, rdW, rdR, rdU_e, rdU_n]; exact eo4]
          refine x_if_eq (tgt := 91) dX3_sum_84 (by decide) (fun h84 => ?_) (fun h84 => ?_)
          · refine x_iconst dX3_sum_91 rfl ?_
            refine x_iast (by omega) dX3_sum_92 (by assumption) (by omega) (by omega) ?_
            refine x_aload_n dX3_sum_93 rfl rfl ?_
            refine g_getR (kI := 2) rfl dX3_sum_94 fX3_23_3 (by assumption) (by assumption) ?_
            refine x_bipush dX3_sum_97 rfl ?_
            refine x_aload_n dX3_sum_99 rfl rfl ?_
            refine g_getZ (kI := 5) rfl dX3_sum_100 fX3_115_6 (by assumption) ?_
            rw [show ∀ x y, mci (mI (mI (wI M g) (p + 3) 6 x) (p + 3) 7 y) (p + 13 + 4 * op) 5 = opP v op from fun x y => by simp (disch := omega) only [rdI_e, rdI_n, rdC_i, rdC_o, rdW, rdR, rdU_e, rdU_n]; exact eo5]
            refine x_if_eq (tgt := 110) dX3_sum_103 (by decide) (fun h103 => ?_) (fun h103 => ?_)
            · refine x_iconst dX3_sum_110 rfl ?_
              refine x_iast (by omega) dX3_sum_111 (by assumption) (by omega) (by omega) ?_
              refine x_aload_n dX3_sum_112 rfl rfl ?_
              refine g_getR (kI := 2) rfl dX3_sum_113 fX3_23_3 (by assumption) (by assumption) ?_
              refine x_bipush dX3_sum_116 rfl ?_
              refine x_aload_n dX3_sum_118 rfl rfl ?_
              refine g_callI (vs := [_]) (d' := d - 1) rfl (s_X6_isSensitive (by omega) hOS.2) dX3_sum_119 kX3_118 (by omega) (by decide) rfl (Nat.le_of_ble_eq_true rfl) (rcv_o (by assumption) rfl) (fun x119 M119 h119 => ?_)
              obtain ⟨e119, f119⟩ := h119
              have f119' := f119.symm
              subst f119'
              rw [rdI_n (by omega), rdI_n (by omega), rdI_n (by omega), rdI_n (by omega), rdI_n (by omega), rdI_n (by omega), rdI_n (by omega), rdI_n (by omega), rdI_n (by omega), mci_wI, w0, w1, w2, ← hse] at e119
              refine x_if_eq (tgt := 129) dX3_sum_122 (by decide) (fun h122 => ?_) (fun h122 => ?_)
              · refine x_iconst dX3_sum_129 rfl ?_
                refine x_iast (by omega) dX3_sum_130 (by assumption) (by omega) (by omega) ?_
                refine x_iconst dX3_sum_131 rfl ?_
                refine x_istore (L' := [some _, some _, some _, some _, some _, none]) dX3_sum_132 (by decide) rfl ?_
                refine x_iconst dX3_sum_134 rfl ?_
                refine x_istore (L' := [some _, some _, some _, some _, some _, some _]) dX3_sum_135 (by decide) rfl ?_
                have hs01 : sensV v op = 0 ∨ sensV v op = 1 := vP_r _
                refine loop2 _ 0 0 _ rfl (by omega) (by omega) (hfF x70 _ _ _) (fin _ _ _ _ e70 (by omega) (by omega) (by omega)) ?_ (by omega) (by omega)
                rcases hL with ⟨l1, l2⟩ | ⟨l1, l2, l3, l4⟩
                · exact Or.inl ⟨l1, rfl, rfl⟩
                · exact Or.inr ⟨l1, l3.1, rfl⟩
              · refine x_iconst dX3_sum_125 rfl ?_
                refine x_goto (tgt := 130) dX3_sum_126 (by decide) ?_
                refine x_iast (by omega) dX3_sum_130 (by assumption) (by omega) (by omega) ?_
                refine x_iconst dX3_sum_131 rfl ?_
                refine x_istore (L' := [some _, some _, some _, some _, some _, none]) dX3_sum_132 (by decide) rfl ?_
                refine x_iconst dX3_sum_134 rfl ?_
                refine x_istore (L' := [some _, some _, some _, some _, some _, some _]) dX3_sum_135 (by decide) rfl ?_
                have hs01 : sensV v op = 0 ∨ sensV v op = 1 := vP_r _
                refine loop2 _ 0 0 _ rfl (by omega) (by omega) (hfF x70 _ _ _) (fin _ _ _ _ e70 (by omega) (by omega) (by omega)) ?_ (by omega) (by omega)
                rcases hL with ⟨l1, l2⟩ | ⟨l1, l2, l3, l4⟩
                · exact Or.inl ⟨l1, rfl, rfl⟩
                · exact Or.inr ⟨l1, l3.1, rfl⟩
            · refine x_iconst dX3_sum_106 rfl ?_
              refine x_goto (tgt := 111) dX3_sum_107 (by decide) ?_
              refine x_iast (by omega) dX3_sum_111 (by assumption) (by omega) (by omega) ?_
              refine x_aload_n dX3_sum_112 rfl rfl ?_
              refine g_getR (kI := 2) rfl dX3_sum_113 fX3_23_3 (by assumption) (by assumption) ?_
              refine x_bipush dX3_sum_116 rfl ?_
              refine x_aload_n dX3_sum_118 rfl rfl ?_
              refine g_callI (vs := [_]) (d' := d - 1) rfl (s_X6_isSensitive (by omega) hOS.2) dX3_sum_119 kX3_118 (by omega) (by decide) rfl (Nat.le_of_ble_eq_true rfl) (rcv_o (by assumption) rfl) (fun x119 M119 h119 => ?_)
              obtain ⟨e119, f119⟩ := h119
              have f119' := f119.symm
              subst f119'
              rw [rdI_n (by omega), rdI_n (by omega), rdI_n (by omega), rdI_n (by omega), rdI_n (by omega), rdI_n (by omega), rdI_n (by omega), rdI_n (by omega), rdI_n (by omega), mci_wI, w0, w1, w2, ← hse] at e119
              refine x_if_eq (tgt := 129) dX3_sum_122 (by decide) (fun h122 => ?_) (fun h122 => ?_)
              · refine x_iconst dX3_sum_129 rfl ?_
                refine x_iast (by omega) dX3_sum_130 (by assumption) (by omega) (by omega) ?_
                refine x_iconst dX3_sum_131 rfl ?_
                refine x_istore (L' := [some _, some _, some _, some _, some _, none]) dX3_sum_132 (by decide) rfl ?_
                refine x_iconst dX3_sum_134 rfl ?_
                refine x_istore (L' := [some _, some _, some _, some _, some _, some _]) dX3_sum_135 (by decide) rfl ?_
                have hs01 : sensV v op = 0 ∨ sensV v op = 1 := vP_r _
                refine loop2 _ 0 0 _ rfl (by omega) (by omega) (hfF x70 _ _ _) (fin _ _ _ _ e70 (by omega) (by omega) (by omega)) ?_ (by omega) (by omega)
                rcases hL with ⟨l1, l2⟩ | ⟨l1, l2, l3, l4⟩
                · exact Or.inl ⟨l1, rfl, rfl⟩
                · exact Or.inr ⟨l1, l3.1, rfl⟩
              · refine x_iconst dX3_sum_125 rfl ?_
                refine x_goto (tgt := 130) dX3_sum_126 (by decide) ?_
                refine x_iast (by omega) dX3_sum_130 (by assumption) (by omega) (by omega) ?_
                refine x_iconst dX3_sum_131 rfl ?_
                refine x_istore (L' := [some _, some _, some _, some _, some _, none]) dX3_sum_132 (by decide) rfl ?_
                refine x_iconst dX3_sum_134 rfl ?_
                refine x_istore (L' := [some _, some _, some _, some _, some _, some _]) dX3_sum_135 (by decide) rfl ?_
                have hs01 : sensV v op = 0 ∨ sensV v op = 1 := vP_r _
                refine loop2 _ 0 0 _ rfl (by omega) (by omega) (hfF x70 _ _ _) (fin _ _ _ _ e70 (by omega) (by omega) (by omega)) ?_ (by omega) (by omega)
                rcases hL with ⟨l1, l2⟩ | ⟨l1, l2, l3, l4⟩
                · exact Or.inl ⟨l1, rfl, rfl⟩
                · exact Or.inr ⟨l1, l3.1, rfl⟩
          · refine x_iconst dX3_sum_87 rfl ?_
            refine x_goto (tgt := 92) dX3_sum_88 (by decide) ?_
            refine x_iast (by omega) dX3_sum_92 (by assumption) (by omega) (by omega) ?_
            refine x_aload_n dX3_sum_93 rfl rfl ?_
            refine g_getR (kI := 2) rfl dX3_sum_94 fX3_23_3 (by assumption) (by assumption) ?_
            refine x_bipush dX3_sum_97 rfl ?_
            refine x_aload_n dX3_sum_99 rfl rfl ?_
            refine g_getZ (kI := 5) rfl dX3_sum_100 fX3_115_6 (by assumption) ?_
            rw [show ∀ x y, mci (mI (mI (wI M g) (p + 3) 6 x) (p + 3) 7 y) (p + 13 + 4 * op) 5 = opP v op from fun x y => by simp (disch := omega) only [rdI_e, rdI_n, rdC_i, rdC_o, rdW, rdR, rdU_e, rdU_n]; exact eo5]
            refine x_if_eq (tgt := 110) dX3_sum_103 (by decide) (fun h103 => ?_) (fun h103 => ?_)
            · refine x_iconst dX3_sum_110 rfl ?_
              refine x_iast (by omega) dX3_sum_111 (by assumption) (by omega) (by omega) ?_
              refine x_aload_n dX3_sum_112 rfl rfl ?_
              refine g_getR (kI := 2) rfl dX3_sum_113 fX3_23_3 (by assumption) (by assumption) ?_
              refine x_bipush dX3_sum_116 rfl ?_
              refine x_aload_n dX3_sum_118 rfl rfl ?_
              refine g_callI (vs := [_]) (d' := d - 1) rfl (s_X6_isSensitive (by omega) hOS.2) dX3_sum_119 kX3_118 (by omega) (by decide) rfl (Nat.le_of_ble_eq_true rfl) (rcv_o (by assumption) rfl) (fun x119 M119 h119 => ?_)
              obtain ⟨e119, f119⟩ := h119
              have f119' := f119.symm
              subst f119'
              rw [rdI_n (by omega), rdI_n (by omega), rdI_n (by omega), rdI_n (by omega), rdI_n (by omega), rdI_n (by omega), rdI_n (by omega), rdI_n (by omega), rdI_n (by omega), mci_wI, w0, w1, w2, ← hse] at e119
              refine x_if_eq (tgt := 129) dX3_sum_122 (by decide) (fun h122 => ?_) (fun h122 => ?_)
              · refine x_iconst dX3_sum_129 rfl ?_
                refine x_iast (by omega) dX3_sum_130 (by assumption) (by omega) (by omega) ?_
                refine x_iconst dX3_sum_131 rfl ?_
                refine x_istore (L' := [some _, some _, some _, some _, some _, none]) dX3_sum_132 (by decide) rfl ?_
                refine x_iconst dX3_sum_134 rfl ?_
                refine x_istore (L' := [some _, some _, some _, some _, some _, some _]) dX3_sum_135 (by decide) rfl ?_
                have hs01 : sensV v op = 0 ∨ sensV v op = 1 := vP_r _
                refine loop2 _ 0 0 _ rfl (by omega) (by omega) (hfF x70 _ _ _) (fin _ _ _ _ e70 (by omega) (by omega) (by omega)) ?_ (by omega) (by omega)
                rcases hL with ⟨l1, l2⟩ | ⟨l1, l2, l3, l4⟩
                · exact Or.inl ⟨l1, rfl, rfl⟩
                · exact Or.inr ⟨l1, l3.1, rfl⟩
              · refine x_iconst dX3_sum_125 rfl ?_
                refine x_goto (tgt := 130) dX3_sum_126 (by decide) ?_
                refine x_iast (by omega) dX3_sum_130 (by assumption) (by omega) (by omega) ?_
                refine x_iconst dX3_sum_131 rfl ?_
                refine x_istore (L' := [some _, some _, some _, some _, some _, none]) dX3_sum_132 (by decide) rfl ?_
                refine x_iconst dX3_sum_134 rfl ?_
                refine x_istore (L' := [some _, some _, some _, some _, some _, some _]) dX3_sum_135 (by decide) rfl ?_
                have hs01 : sensV v op = 0 ∨ sensV v op = 1 := vP_r _
                refine loop2 _ 0 0 _ rfl (by omega) (by omega) (hfF x70 _ _ _) (fin _ _ _ _ e70 (by omega) (by omega) (by omega)) ?_ (by omega) (by omega)
                rcases hL with ⟨l1, l2⟩ | ⟨l1, l2, l3, l4⟩
                · exact Or.inl ⟨l1, rfl, rfl⟩
                · exact Or.inr ⟨l1, l3.1, rfl⟩
            · refine x_iconst dX3_sum_106 rfl ?_
              refine x_goto (tgt := 111) dX3_sum_107 (by decide) ?_
              refine x_iast (by omega) dX3_sum_111 (by assumption) (by omega) (by omega) ?_
              refine x_aload_n dX3_sum_112 rfl rfl ?_
              refine g_getR (kI := 2) rfl dX3_sum_113 fX3_23_3 (by assumption) (by assumption) ?_
              refine x_bipush dX3_sum_116 rfl ?_
              refine x_aload_n dX3_sum_118 rfl rfl ?_
              refine g_callI (vs := [_]) (d' := d - 1) rfl (s_X6_isSensitive (by omega) hOS.2) dX3_sum_119 kX3_118 (by omega) (by decide) rfl (Nat.le_of_ble_eq_true rfl) (rcv_o (by assumption) rfl) (fun x119 M119 h119 => ?_)
              obtain ⟨e119, f119⟩ := h119
              have f119' := f119.symm
              subst f119'
              rw [rdI_n (by omega), rdI_n (by omega), rdI_n (by omega), rdI_n (by omega), rdI_n (by omega), rdI_n (by omega), rdI_n (by omega), rdI_n (by omega), rdI_n (by omega), mci_wI, w0, w1, w2, ← hse] at e119
              refine x_if_eq (tgt := 129) dX3_sum_122 (by decide) (fun h122 => ?_) (fun h122 => ?_)
              · refine x_iconst dX3_sum_129 rfl ?_
                refine x_iast (by omega) dX3_sum_130 (by assumption) (by omega) (by omega) ?_
                refine x_iconst dX3_sum_131 rfl ?_
                refine x_istore (L' := [some _, some _, some _, some _, some _, none]) dX3_sum_132 (by decide) rfl ?_
                refine x_iconst dX3_sum_134 rfl ?_
                refine x_istore (L' := [some _, some _, some _, some _, some _, some _]) dX3_sum_135 (by decide) rfl ?_
                have hs01 : sensV v op = 0 ∨ sensV v op = 1 := vP_r _
                refine loop2 _ 0 0 _ rfl (by omega) (by omega) (hfF x70 _ _ _) (fin _ _ _ _ e70 (by omega) (by omega) (by omega)) ?_ (by omega) (by omega)
                rcases hL with ⟨l1, l2⟩ | ⟨l1, l2, l3, l4⟩
                · exact Or.inl ⟨l1, rfl, rfl⟩
                · exact Or.inr ⟨l1, l3.1, rfl⟩
              · refine x_iconst dX3_sum_125 rfl ?_
                refine x_goto (tgt := 130) dX3_sum_126 (by decide) ?_
                refine x_iast (by omega) dX3_sum_130 (by assumption) (by omega) (by omega) ?_
                refine x_iconst dX3_sum_131 rfl ?_
                refine x_istore (L' := [some _, some _, some _, some _, some _, none]) dX3_sum_132 (by decide) rfl ?_
                refine x_iconst dX3_sum_134 rfl ?_
                refine x_istore (L' := [some _, some _, some _, some _, some _, some _]) dX3_sum_135 (by decide) rfl ?_
                have hs01 : sensV v op = 0 ∨ sensV v op = 1 := vP_r _
                refine loop2 _ 0 0 _ rfl (by omega) (by omega) (hfF x70 _ _ _) (fin _ _ _ _ e70 (by omega) (by omega) (by omega)) ?_ (by omega) (by omega)
                rcases hL with ⟨l1, l2⟩ | ⟨l1, l2, l3, l4⟩
                · exact Or.inl ⟨l1, rfl, rfl⟩
                · exact Or.inr ⟨l1, l3.1, rfl⟩
        · omega
  have hp0 : ∀ x, mci (mI M (p + 3) 0 x) (p + 13 + 4 * op) 3 = opN v op := fun x => by simp (disch := omega) only [rdI_e, rdI_n, rdC_i, rdC_o, rdW, rdR, rdU_e, rdU_n]; exact hRO.1
  refine CS.mk (by decide) (Nat.le_of_ble_eq_true rfl) ?_
  refine x_aload_n dX3_sum_0 rfl rfl ?_
  refine g_getR (kI := 0) rfl dX3_sum_1 fX3_11_3 (by assumption) (by assumption) ?_
  refine x_iload_n dX3_sum_4 rfl rfl ?_
  refine x_aald (t := 126) rfl (by decide) dX3_sum_5 (by assumption) (by omega) (by omega) (by exact hOS.1) ?_
  refine x_astore_n (L' := [some _, some _, some _, some _, none, none]) dX3_sum_6 rfl (by decide) rfl ?_
  refine x_aload_n dX3_sum_7 rfl rfl ?_
  refine g_getR (kI := 2) rfl dX3_sum_8 fX3_23_3 (by assumption) (by assumption) ?_
  refine x_iconst dX3_sum_11 rfl ?_
  refine x_iload_n dX3_sum_12 rfl rfl ?_
  refine x_iast (by omega) dX3_sum_13 (by assumption) (by omega) (by omega) ?_
  refine x_aload_n dX3_sum_14 rfl rfl ?_
  refine g_getR (kI := 2) rfl dX3_sum_15 fX3_23_3 (by assumption) (by assumption) ?_
  refine x_iconst dX3_sum_18 rfl ?_
  refine x_aload_n dX3_sum_19 rfl rfl ?_
  refine g_getI (kI := 3) rfl dX3_sum_20 fX3_102_6 (by assumption) ?_
  rw [hp0]
  refine x_iast (by omega) dX3_sum_23 (by assumption) (by omega) (by omega) ?_
  refine x_iconst dX3_sum_24 rfl ?_
  refine x_istore (L' := [some _, some _, some _, some _, some _, none]) dX3_sum_25 (by decide) rfl ?_
  refine loop1 _ 0 (up (up (mci M) (p + 3) 0 op) (p + 3) 1 (opN v op)) rfl (by omega) (by omega) (fun b i r => by simp (disch := omega) only [rdI_e, rdI_n, rdC_i, rdC_o, rdW, rdR, rdU_e, rdU_n]) ⟨by simp (disch := omega) only [rdI_e, rdI_n, rdC_i, rdC_o, rdW, rdR, rdU_e, rdU_n], by simp (disch := omega) only [rdI_e, rdI_n, rdC_i, rdC_o, rdW, rdR, rdU_e, rdU_n], fun i a b => by omega⟩
theorem s_X3_emulation {op : Int} (hd : 39 ≤ d) (h : StS (msh M) (mcr M) p) (hB : RelB (mci M) p v N) (hv : okB v) (hW : RelW (mci M) p v) (hL : LawR (msh M) (mci M) (mcr M) B T p v) (hp : p + 3 < B) (ho : 0 ≤ op ∧ op < v 0) : CS G d mX3_emulation [dR p, dI op] M (postI fun x M1 => ∃ g, M1 = wI M g ∧ (x = emuV v op ∧ 0 ≤ x ∧ x ≤ 487) ∧ Fo (p + 3) (p + 3) (mci M) g) := by
  have hh := h
  obtain ⟨p0, p1, -⟩ := h
  have e6 := hB.2.2.2.2.2.1
  have h6 := hv.2.2.2.2.2.2.1
  refine CS.mk (by decide) (Nat.le_of_ble_eq_true rfl) ?_
  refine x_aload_n dX3_emulation_0 rfl rfl ?_
  refine g_getI (kI := 14) rfl dX3_emulation_1 fX3_53_3 (by assumption) ?_
  rw [e6]
  refine x_aload_n dX3_emulation_4 rfl rfl ?_
  refine x_iconst dX3_emulation_5 rfl ?_
  refine x_iload_n dX3_emulation_6 rfl rfl ?_
  refine g_callI (vs := [_, _, _]) (d' := d - 1) rfl (s_X3_sum (by omega) hh hB hv hW hL hp ho) dX3_emulation_7 kX3_126 (by omega) (by decide) rfl (Nat.le_of_ble_eq_true rfl) (rcv_o (by assumption) rfl) (fun x7 M7 h7 => ?_)
  obtain ⟨g, hM7, hx, hf⟩ := h7
  first | refine x_iaddN dX3_emulation_10 (by unfold i32; omega) ?_ | refine x_iadd dX3_emulation_10 ?_
  refine x_ireturn rfl dX3_emulation_11 ?_
  subst hM7
  exact ⟨_, rfl, g, rfl, ⟨by rw [hx.1]; rfl, by omega, by omega⟩, hf⟩
theorem s_X3_worth {op : Int} (hd : 39 ≤ d) (h : StS (msh M) (mcr M) p) (hB : RelB (mci M) p v N) (hv : okB v) (hW : RelW (mci M) p v) (hL : LawR (msh M) (mci M) (mcr M) B T p v) (hp : p + 3 < B) (ho : 0 ≤ op ∧ op < v 0) : CS G d mX3_worth [dR p, dI op] M (postI fun x M1 => ∃ g, M1 = wI M g ∧ (x = worV v op ∧ 0 ≤ x ∧ x ≤ 487) ∧ Fo (p + 3) (p + 3) (mci M) g) := by
  have hh := h
  obtain ⟨p0, p1, -⟩ := h
  refine CS.mk (by decide) (Nat.le_of_ble_eq_true rfl) ?_
  refine x_iconst dX3_worth_0 rfl ?_
  refine x_aload_n dX3_worth_1 rfl rfl ?_
  refine x_iconst dX3_worth_2 rfl ?_
  refine x_iload_n dX3_worth_3 rfl rfl ?_
  refine g_callI (vs := [_, _, _]) (d' := d - 1) rfl (s_X3_sum (by omega) hh hB hv hW hL hp ho) dX3_worth_4 kX3_126 (by omega) (by decide) rfl (Nat.le_of_ble_eq_true rfl) (rcv_o (by assumption) rfl) (fun x4 M4 h4 => ?_)
  obtain ⟨g, hM4, hx, hf⟩ := h4
  first | refine x_iaddN dX3_worth_7 (by unfold i32; omega) ?_ | refine x_iadd dX3_worth_7 ?_
  refine x_ireturn rfl dX3_worth_8 ?_
  subst hM4
  exact ⟨_, rfl, g, rfl, ⟨by rw [hx.1]; rfl, by omega, by omega⟩, hf⟩
theorem s_X3_blame {op : Int} (hd : 39 ≤ d) (h : StS (msh M) (mcr M) p) (hB : RelB (mci M) p v N) (hv : okB v) (hW : RelW (mci M) p v) (hL : LawR (msh M) (mci M) (mcr M) B T p v) (hp : p + 3 < B) (ho : 0 ≤ op ∧ op < v 0) : CS G d mX3_blame [dR p, dI op] M (postI fun x M1 => ∃ g, M1 = wI M g ∧ (x = sumV v 1 op ∧ 0 ≤ x ∧ x ≤ 487) ∧ Fo (p + 3) (p + 3) (mci M) g) := by
  have hh := h
  obtain ⟨p0, p1, -⟩ := h
  refine CS.mk (by decide) (Nat.le_of_ble_eq_true rfl) ?_
  refine x_aload_n dX3_blame_0 rfl rfl ?_
  refine x_iconst dX3_blame_1 rfl ?_
  refine x_iload_n dX3_blame_2 rfl rfl ?_
  refine g_callI (vs := [_, _, _]) (d' := d - 1) rfl (s_X3_sum (by omega) hh hB hv hW hL hp ho) dX3_blame_3 kX3_126 (by omega) (by decide) rfl (Nat.le_of_ble_eq_true rfl) (rcv_o (by assumption) rfl) (fun x3 M3 h3 => ?_)
  obtain ⟨g, hM3, hx, hf⟩ := h3
  refine x_ireturn rfl dX3_blame_6 ?_
  subst hM3
  exact ⟨_, rfl, g, rfl, ⟨hx.1, by omega, by omega⟩, hf⟩
end XS

