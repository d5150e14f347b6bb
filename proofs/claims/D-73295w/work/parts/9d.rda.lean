/-! GuestViewModel: reading of a law, atoms -/
theorem rCmp_e {tp : Int → Int} {e p c : Int} {u : Vw} : rCmp tp e (p, c, u) = (if tagW tp (skB tp e p) (wdB tp e (skB tp e p)) < 0 then
    match rSum tp e (skB tp e p, c, u) with
    | .inl x => .inl x
    | .inr y => if chP tp e 60 60 (skB tp e y.1) ∨ chP tp e 62 62 (skB tp e y.1) then
        match rSum tp e (skB tp e y.1 + 1, y.2) with
        | .inl x => .inl x
        | .inr z => .inr (em z (if chP tp e 60 60 (skB tp e y.1) then 12 else 13) 0)
      else .inl (skB tp e y.1)
  else .inr (em (wdB tp e (skB tp e p), c, u) (7 + tagW tp (skB tp e p) (wdB tp e (skB tp e p))) 0)) := rfl
section X8
variable {G : GW} {d : Nat} {M : Mem} {m p b dp c e lo hi k n o a x : Int} {w v u : Vw} {tp : Int → Int}
theorem s_cmp {Q : Res → Mem → Prop} (hd : 23 ≤ d) (hR : RdH M m tp e) (hp : (0 ≤ p ∧ p ≤ e) ∧ 0 ≤ c ∧ c < p) (hQ : ∀ x M1, LOut M m dp v (rCmp tp e (p, c, u)) x M1 → Q (rV (dI x)) M1) : WP G d mX8_readAtom 114 [some (dR m), none] [] (mQr M m p b dp c (drf v u)) Q := by
  obtain ⟨hT, he, htp, he2, hX⟩ := id hR
  have hs := skB_r (tp := tp) hp.1.2
  have hs2 := wdB_r (tp := tp) hs.2
  have hT_ := hT; obtain ⟨p0, p1, ⟨c1, c2, c3, c4, c5, c6, c7, c8, c9, c10, c11, c12, c13, c14, c15⟩, ⟨t1, t2, t3, t4, t5, t6, t7, t8, t9, t10, t11, t12, t13, t14, t15⟩⟩ := hT_
  by_cases hk : tagW tp (skB tp e p) (wdB tp e (skB tp e p)) < 0
  · rcases hm : rSum tp e (skB tp e p, c, u) with g | ⟨y1, y2, y3⟩
    · have er : rCmp tp e (p, c, u) = .inl g := by
        rw [rCmp_e, if_pos hk, hm]
      refine x_aload_n dX8_readAtom_114 rfl rfl ?_
      refine g_callI (vs := [_]) (d' := d - 1) rfl (s_X8_readTag (by omega) hR (by omega)) dX8_readAtom_115 kX8_245 (by omega) (by decide) rfl (Nat.le_of_ble_eq_true rfl) (rcv_o (by first | assumption | exact hT.2.1) rfl) (fun x115 M115 h115 => ?_)
      obtain ⟨eA, hM⟩ := h115.1 hk
      subst eA
      subst hM
      refine x_if_eq (tgt := 123) dX8_readAtom_118 (by decide) (fun h118 => ?_) (fun h118 => ?_)
      · try simp only [vP_0, vP_1, vP_n0, vP_n1, Classical.not_not] at h118
        refine x_aload_n dX8_readAtom_123 rfl rfl ?_
        refine g_callI (vs := [_]) (d' := d - 1) rfl (s_X8_readSum (by omega) hR (by omega)) dX8_readAtom_124 kX8_248 (by omega) (by decide) rfl (Nat.le_of_ble_eq_true rfl) (rcv_o (by first | assumption | exact hT.2.1) rfl) (fun x124 M124 h124 => ?_)
        obtain ⟨eA, p1, d1, c1, u1, hM⟩ := h124.1 g hm
        subst eA
        subst hM
        refine x_if_ne (tgt := 132) dX8_readAtom_127 (by decide) (fun h127 => ?_) (fun h127 => ?_)
        · try simp only [vP_0, vP_1, vP_n0, vP_n1, Classical.not_not] at h127
          simp at h127
        · try simp only [vP_0, vP_1, vP_n0, vP_n1, Classical.not_not] at h127
          refine x_iconst dX8_readAtom_130 rfl ?_
          refine x_zreturn (by first | exact Or.inl rfl | exact Or.inr rfl | exact vB_r _ | exact vP_r _ | assumption | omega) rfl dX8_readAtom_131 ?_
          exact hQ _ _ (LOut.f er)
      · try simp only [vP_0, vP_1, vP_n0, vP_n1, Classical.not_not] at h118
        simp at h118
    · have gg := rSum_g _ _ hs.2 hm 0
      have g1 : skB tp e p ≤ y1 ∧ y1 ≤ e := gg.1
      have g2 : c ≤ y2 := gg.2.1
      have g3 : y2 - c + 0 ≤ y1 - skB tp e p := gg.2.2.1
      have hs3 := skB_r (tp := tp) g1.2
      have hi := skB_i (tp := tp) (e := e) (p := y1) _ rfl
      have hz : ¬ (chP tp e 60 60 (skB tp e y1) ∨ chP tp e 62 62 (skB tp e y1)) → rCmp tp e (p, c, u) = .inl (skB tp e y1) := fun q => by
        rw [rCmp_e, if_pos hk, hm]
        exact if_neg q
      have hn : ∀ r, (chP tp e 60 60 (skB tp e y1) ∨ chP tp e 62 62 (skB tp e y1)) → rSum tp e (skB tp e y1 + 1, y2, y3) = r → rCmp tp e (p, c, u) = (match r with
        | .inl x => .inl x
        | .inr z => .inr (em z (if chP tp e 60 60 (skB tp e y1) then 12 else 13) 0)) := fun r q hr => by
        rw [rCmp_e, if_pos hk, hm, ← hr]
        exact if_pos q
      by_cases hl : chP tp e 60 60 (skB tp e y1)
      · have hl1 := hl.1
        rcases hm2 : rSum tp e (skB tp e y1 + 1, y2, y3) with g | ⟨z1, z2, z3⟩
        · have er : rCmp tp e (p, c, u) = .inl g := hn _ (Or.inl hl) hm2
          refine x_aload_n dX8_readAtom_114 rfl rfl ?_
          refine g_callI (vs := [_]) (d' := d - 1) rfl (s_X8_readTag (by omega) hR (by omega)) dX8_readAtom_115 kX8_245 (by omega) (by decide) rfl (Nat.le_of_ble_eq_true rfl) (rcv_o (by first | assumption | exact hT.2.1) rfl) (fun x115 M115 h115 => ?_)
          obtain ⟨eA, hM⟩ := h115.1 hk
          subst eA
          subst hM
          refine x_if_eq (tgt := 123) dX8_readAtom_118 (by decide) (fun h118 => ?_) (fun h118 => ?_)
          · try simp only [vP_0, vP_1, vP_n0, vP_n1, Classical.not_not] at h118
            refine x_aload_n dX8_readAtom_123 rfl rfl ?_
            refine g_callI (vs := [_]) (d' := d - 1) rfl (s_X8_readSum (by omega) hR (by omega)) dX8_readAtom_124 kX8_248 (by omega) (by decide) rfl (Nat.le_of_ble_eq_true rfl) (rcv_o (by first | assumption | exact hT.2.1) rfl) (fun x124 M124 h124 => ?_)
            obtain ⟨eA, b1, hM⟩ := h124.2 _ hm
            subst eA
            have hM2 : M124 = mQr M m y1 b1 dp y2 (drf v y3) := hM
            subst hM2
            refine x_if_ne (tgt := 132) dX8_readAtom_127 (by decide) (fun h127 => ?_) (fun h127 => ?_)
            · try simp only [vP_0, vP_1, vP_n0, vP_n1, Classical.not_not] at h127
              refine x_aload_n dX8_readAtom_132 rfl rfl ?_
              refine x_bipush dX8_readAtom_133 rfl ?_
              refine g_callI (vs := [_, _]) (d' := d - 1) rfl (s_X8_sign (by omega) hR (by omega)) dX8_readAtom_135 kX8_227 (by omega) (by decide) rfl (Nat.le_of_ble_eq_true rfl) (rcv_o (by first | assumption | exact hT.2.1) rfl) (fun x135 M135 h135 => ?_)
              obtain ⟨e1, t1', -⟩ := h135
              have hM := t1' hl
              subst hM
              rw [vP_t hl] at e1
              subst e1
              refine x_istore_n (L' := [some _, some _]) dX8_readAtom_138 rfl (by decide) rfl ?_
              refine x_iload_n dX8_readAtom_139 rfl rfl ?_
              refine x_if_ne (tgt := 152) dX8_readAtom_140 (by decide) (fun h140 => ?_) (fun h140 => ?_)
              · refine x_aload_n dX8_readAtom_152 rfl rfl ?_
                refine g_callI (vs := [_]) (d' := d - 1) rfl (s_X8_readSum (by omega) hR (by omega)) dX8_readAtom_153 kX8_248 (by omega) (by decide) rfl (Nat.le_of_ble_eq_true rfl) (rcv_o (by first | assumption | exact hT.2.1) rfl) (fun x153 M153 h153 => ?_)
                obtain ⟨eA, p1, d1, c1, u1, hM⟩ := h153.1 g hm2
                subst eA
                subst hM
                refine x_if_ne (tgt := 161) dX8_readAtom_156 (by decide) (fun h156 => ?_) (fun h156 => ?_)
                · try simp only [vP_0, vP_1, vP_n0, vP_n1, Classical.not_not] at h156
                  simp at h156
                · try simp only [vP_0, vP_1, vP_n0, vP_n1, Classical.not_not] at h156
                  refine x_iconst dX8_readAtom_159 rfl ?_
                  refine x_zreturn (by first | exact Or.inl rfl | exact Or.inr rfl | exact vB_r _ | exact vP_r _ | assumption | omega) rfl dX8_readAtom_160 ?_
                  exact hQ _ _ (LOut.f er)
              · simp at h140
            · try simp only [vP_0, vP_1, vP_n0, vP_n1, Classical.not_not] at h127
              simp at h127
          · try simp only [vP_0, vP_1, vP_n0, vP_n1, Classical.not_not] at h118
            simp at h118
        · have er : rCmp tp e (p, c, u) = .inr (em (z1, z2, z3) 12 0) := by
            rw [hn _ (Or.inl hl) hm2]
            show (.inr (em (z1, z2, z3) (if chP tp e 60 60 (skB tp e y1) then 12 else 13) 0) : LgR) = _
            rw [if_pos hl]
          have gz := rSum_g _ _ (by show skB tp e y1 + 1 ≤ e; omega) hm2 0
          have z1' : skB tp e y1 + 1 ≤ z1 ∧ z1 ≤ e := gz.1
          have z2' : y2 ≤ z2 := gz.2.1
          have z3' : z2 - y2 + 0 ≤ z1 - (skB tp e y1 + 1) := gz.2.2.1
          refine x_aload_n dX8_readAtom_114 rfl rfl ?_
          refine g_callI (vs := [_]) (d' := d - 1) rfl (s_X8_readTag (by omega) hR (by omega)) dX8_readAtom_115 kX8_245 (by omega) (by decide) rfl (Nat.le_of_ble_eq_true rfl) (rcv_o (by first | assumption | exact hT.2.1) rfl) (fun x115 M115 h115 => ?_)
          obtain ⟨eA, hM⟩ := h115.1 hk
          subst eA
          subst hM
          refine x_if_eq (tgt := 123) dX8_readAtom_118 (by decide) (fun h118 => ?_) (fun h118 => ?_)
          · try simp only [vP_0, vP_1, vP_n0, vP_n1, Classical.not_not] at h118
            refine x_aload_n dX8_readAtom_123 rfl rfl ?_
            refine g_callI (vs := [_]) (d' := d - 1) rfl (s_X8_readSum (by omega) hR (by omega)) dX8_readAtom_124 kX8_248 (by omega) (by decide) rfl (Nat.le_of_ble_eq_true rfl) (rcv_o (by first | assumption | exact hT.2.1) rfl) (fun x124 M124 h124 => ?_)
            obtain ⟨eA, b1, hM⟩ := h124.2 _ hm
            subst eA
            have hM2 : M124 = mQr M m y1 b1 dp y2 (drf v y3) := hM
            subst hM2
            refine x_if_ne (tgt := 132) dX8_readAtom_127 (by decide) (fun h127 => ?_) (fun h127 => ?_)
            · try simp only [vP_0, vP_1, vP_n0, vP_n1, Classical.not_not] at h127
              refine x_aload_n dX8_readAtom_132 rfl rfl ?_
              refine x_bipush dX8_readAtom_133 rfl ?_
              refine g_callI (vs := [_, _]) (d' := d - 1) rfl (s_X8_sign (by omega) hR (by omega)) dX8_readAtom_135 kX8_227 (by omega) (by decide) rfl (Nat.le_of_ble_eq_true rfl) (rcv_o (by first | assumption | exact hT.2.1) rfl) (fun x135 M135 h135 => ?_)
              obtain ⟨e1, t1', -⟩ := h135
              have hM := t1' hl
              subst hM
              rw [vP_t hl] at e1
              subst e1
              refine x_istore_n (L' := [some _, some _]) dX8_readAtom_138 rfl (by decide) rfl ?_
              refine x_iload_n dX8_readAtom_139 rfl rfl ?_
              refine x_if_ne (tgt := 152) dX8_readAtom_140 (by decide) (fun h140 => ?_) (fun h140 => ?_)
              · refine x_aload_n dX8_readAtom_152 rfl rfl ?_
                refine g_callI (vs := [_]) (d' := d - 1) rfl (s_X8_readSum (by omega) hR (by omega)) dX8_readAtom_153 kX8_248 (by omega) (by decide) rfl (Nat.le_of_ble_eq_true rfl) (rcv_o (by first | assumption | exact hT.2.1) rfl) (fun x153 M153 h153 => ?_)
                obtain ⟨eA, b2, hM⟩ := h153.2 _ hm2
                subst eA
                have hM3 : M153 = mQr M m z1 b2 dp z2 (drf v z3) := hM
                subst hM3
                refine x_if_ne (tgt := 161) dX8_readAtom_156 (by decide) (fun h156 => ?_) (fun h156 => ?_)
                · try simp only [vP_0, vP_1, vP_n0, vP_n1, Classical.not_not] at h156
                  refine x_aload_n dX8_readAtom_161 rfl rfl ?_
                  refine x_iload_n dX8_readAtom_162 rfl rfl ?_
                  refine x_if_eq (tgt := 171) dX8_readAtom_163 (by decide) (fun h163 => ?_) (fun h163 => ?_)
                  · simp at h163
                  · refine x_bipush dX8_readAtom_166 rfl ?_
                    refine x_goto (tgt := 173) dX8_readAtom_168 (by decide) ?_
                    refine x_iconst dX8_readAtom_173 rfl ?_
                    refine g_callN (vs := [_, _, _]) (d' := d - 1) rfl (s_X8_emits (by omega) hR (by omega)) dX8_readAtom_174 kX8_220 (by omega) (by decide) rfl (Nat.le_of_ble_eq_true rfl) (rcv_o (by first | assumption | exact hT.2.1) rfl) (fun M174 h174 => ?_)
                    have f174 := h174.symm
                    subst f174
                    refine x_iconst dX8_readAtom_177 rfl ?_
                    refine x_zreturn (by first | exact Or.inl rfl | exact Or.inr rfl | exact vB_r _ | exact vP_r _ | assumption | omega) rfl dX8_readAtom_178 ?_
                    exact hQ _ _ (LOut.s er)
                · try simp only [vP_0, vP_1, vP_n0, vP_n1, Classical.not_not] at h156
                  simp at h156
              · simp at h140
            · try simp only [vP_0, vP_1, vP_n0, vP_n1, Classical.not_not] at h127
              simp at h127
          · try simp only [vP_0, vP_1, vP_n0, vP_n1, Classical.not_not] at h118
            simp at h118
      · by_cases hl2 : chP tp e 62 62 (skB tp e y1)
        · have hl1 := hl2.1
          have hl3 : chP tp e 62 62 (skB tp e (skB tp e y1)) := by rw [hi]; exact hl2
          rcases hm2 : rSum tp e (skB tp e y1 + 1, y2, y3) with g | ⟨z1, z2, z3⟩
          · have er : rCmp tp e (p, c, u) = .inl g := hn _ (Or.inr hl2) hm2
            refine x_aload_n dX8_readAtom_114 rfl rfl ?_
            refine g_callI (vs := [_]) (d' := d - 1) rfl (s_X8_readTag (by omega) hR (by omega)) dX8_readAtom_115 kX8_245 (by omega) (by decide) rfl (Nat.le_of_ble_eq_true rfl) (rcv_o (by first | assumption | exact hT.2.1) rfl) (fun x115 M115 h115 => ?_)
            obtain ⟨eA, hM⟩ := h115.1 hk
            subst eA
            subst hM
            refine x_if_eq (tgt := 123) dX8_readAtom_118 (by decide) (fun h118 => ?_) (fun h118 => ?_)
            · try simp only [vP_0, vP_1, vP_n0, vP_n1, Classical.not_not] at h118
              refine x_aload_n dX8_readAtom_123 rfl rfl ?_
              refine g_callI (vs := [_]) (d' := d - 1) rfl (s_X8_readSum (by omega) hR (by omega)) dX8_readAtom_124 kX8_248 (by omega) (by decide) rfl (Nat.le_of_ble_eq_true rfl) (rcv_o (by first | assumption | exact hT.2.1) rfl) (fun x124 M124 h124 => ?_)
              obtain ⟨eA, b1, hM⟩ := h124.2 _ hm
              subst eA
              have hM2 : M124 = mQr M m y1 b1 dp y2 (drf v y3) := hM
              subst hM2
              refine x_if_ne (tgt := 132) dX8_readAtom_127 (by decide) (fun h127 => ?_) (fun h127 => ?_)
              · try simp only [vP_0, vP_1, vP_n0, vP_n1, Classical.not_not] at h127
                refine x_aload_n dX8_readAtom_132 rfl rfl ?_
                refine x_bipush dX8_readAtom_133 rfl ?_
                refine g_callI (vs := [_, _]) (d' := d - 1) rfl (s_X8_sign (by omega) hR (by omega)) dX8_readAtom_135 kX8_227 (by omega) (by decide) rfl (Nat.le_of_ble_eq_true rfl) (rcv_o (by first | assumption | exact hT.2.1) rfl) (fun x135 M135 h135 => ?_)
                obtain ⟨e1, -, f1'⟩ := h135
                have hM := f1' hl
                subst hM
                rw [vP_f hl] at e1
                subst e1
                refine x_istore_n (L' := [some _, some _]) dX8_readAtom_138 rfl (by decide) rfl ?_
                refine x_iload_n dX8_readAtom_139 rfl rfl ?_
                refine x_if_ne (tgt := 152) dX8_readAtom_140 (by decide) (fun h140 => ?_) (fun h140 => ?_)
                · simp at h140
                · refine x_aload_n dX8_readAtom_143 rfl rfl ?_
                  refine x_bipush dX8_readAtom_144 rfl ?_
                  refine g_callI (vs := [_, _]) (d' := d - 1) rfl (s_X8_sign (by omega) hR (by omega)) dX8_readAtom_146 kX8_227 (by omega) (by decide) rfl (Nat.le_of_ble_eq_true rfl) (rcv_o (by first | assumption | exact hT.2.1) rfl) (fun x146 M146 h146 => ?_)
                  obtain ⟨e2, t2', -⟩ := h146
                  have hM := t2' hl3
                  subst hM
                  rw [vP_t hl3] at e2
                  subst e2
                  rw [hi]
                  refine x_if_eq (tgt := 159) dX8_readAtom_149 (by decide) (fun h149 => ?_) (fun h149 => ?_)
                  · try simp only [vP_0, vP_1, vP_n0, vP_n1, Classical.not_not] at h149
                    simp at h149
                  · try simp only [vP_0, vP_1, vP_n0, vP_n1, Classical.not_not] at h149
                    refine x_aload_n dX8_readAtom_152 rfl rfl ?_
                    refine g_callI (vs := [_]) (d' := d - 1) rfl (s_X8_readSum (by omega) hR (by omega)) dX8_readAtom_153 kX8_248 (by omega) (by decide) rfl (Nat.le_of_ble_eq_true rfl) (rcv_o (by first | assumption | exact hT.2.1) rfl) (fun x153 M153 h153 => ?_)
                    obtain ⟨eA, p1, d1, c1, u1, hM⟩ := h153.1 g hm2
                    subst eA
                    subst hM
                    refine x_if_ne (tgt := 161) dX8_readAtom_156 (by decide) (fun h156 => ?_) (fun h156 => ?_)
                    · try simp only [vP_0, vP_1, vP_n0, vP_n1, Classical.not_not] at h156
                      simp at h156
                    · try simp only [vP_0, vP_1, vP_n0, vP_n1, Classical.not_not] at h156
                      refine x_iconst dX8_readAtom_159 rfl ?_
                      refine x_zreturn (by first | exact Or.inl rfl | exact Or.inr rfl | exact vB_r _ | exact vP_r _ | assumption | omega) rfl dX8_readAtom_160 ?_
                      exact hQ _ _ (LOut.f er)
              · try simp only [vP_0, vP_1, vP_n0, vP_n1, Classical.not_not] at h127
                simp at h127
            · try simp only [vP_0, vP_1, vP_n0, vP_n1, Classical.not_not] at h118
              simp at h118
          · have er : rCmp tp e (p, c, u) = .inr (em (z1, z2, z3) 13 0) := by
              rw [hn _ (Or.inr hl2) hm2]
              show (.inr (em (z1, z2, z3) (if chP tp e 60 60 (skB tp e y1) then 12 else 13) 0) : LgR) = _
              rw [if_neg hl]
            have gz := rSum_g _ _ (by show skB tp e y1 + 1 ≤ e; omega) hm2 0
            have z1' : skB tp e y1 + 1 ≤ z1 ∧ z1 ≤ e := gz.1
            have z2' : y2 ≤ z2 := gz.2.1
            have z3' : z2 - y2 + 0 ≤ z1 - (skB tp e y1 + 1) := gz.2.2.1
            refine x_aload_n dX8_readAtom_114 rfl rfl ?_
            refine g_callI (vs := [_]) (d' := d - 1) rfl (s_X8_readTag (by omega) hR (by omega)) dX8_readAtom_115 kX8_245 (by omega) (by decide) rfl (Nat.le_of_ble_eq_true rfl) (rcv_o (by first | assumption | exact hT.2.1) rfl) (fun x115 M115 h115 => ?_)
            obtain ⟨eA, hM⟩ := h115.1 hk
            subst eA
            subst hM
            refine x_if_eq (tgt := 123) dX8_readAtom_118 (by decide) (fun h118 => ?_) (fun h118 => ?_)
            · try simp only [vP_0, vP_1, vP_n0, vP_n1, Classical.not_not] at h118
              refine x_aload_n dX8_readAtom_123 rfl rfl ?_
              refine g_callI (vs := [_]) (d' := d - 1) rfl (s_X8_readSum (by omega) hR (by omega)) dX8_readAtom_124 kX8_248 (by omega) (by decide) rfl (Nat.le_of_ble_eq_true rfl) (rcv_o (by first | assumption | exact hT.2.1) rfl) (fun x124 M124 h124 => ?_)
              obtain ⟨eA, b1, hM⟩ := h124.2 _ hm
              subst eA
              have hM2 : M124 = mQr M m y1 b1 dp y2 (drf v y3) := hM
              subst hM2
              refine x_if_ne (tgt := 132) dX8_readAtom_127 (by decide) (fun h127 => ?_) (fun h127 => ?_)
              · try simp only [vP_0, vP_1, vP_n0, vP_n1, Classical.not_not] at h127
                refine x_aload_n dX8_readAtom_132 rfl rfl ?_
                refine x_bipush dX8_readAtom_133 rfl ?_
                refine g_callI (vs := [_, _]) (d' := d - 1) rfl (s_X8_sign (by omega) hR (by omega)) dX8_readAtom_135 kX8_227 (by omega) (by decide) rfl (Nat.le_of_ble_eq_true rfl) (rcv_o (by first | assumption | exact hT.2.1) rfl) (fun x135 M135 h135 => ?_)
                obtain ⟨e1, -, f1'⟩ := h135
                have hM := f1' hl
                subst hM
                rw [vP_f hl] at e1
                subst e1
                refine x_istore_n (L' := [some _, some _]) dX8_readAtom_138 rfl (by decide) rfl ?_
                refine x_iload_n dX8_readAtom_139 rfl rfl ?_
                refine x_if_ne (tgt := 152) dX8_readAtom_140 (by decide) (fun h140 => ?_) (fun h140 => ?_)
                · simp at h140
                · refine x_aload_n dX8_readAtom_143 rfl rfl ?_
                  refine x_bipush dX8_readAtom_144 rfl ?_
                  refine g_callI (vs := [_, _]) (d' := d - 1) rfl (s_X8_sign (by omega) hR (by omega)) dX8_readAtom_146 kX8_227 (by omega) (by decide) rfl (Nat.le_of_ble_eq_true rfl) (rcv_o (by first | assumption | exact hT.2.1) rfl) (fun x146 M146 h146 => ?_)
                  obtain ⟨e2, t2', -⟩ := h146
                  have hM := t2' hl3
                  subst hM
                  rw [vP_t hl3] at e2
                  subst e2
                  rw [hi]
                  refine x_if_eq (tgt := 159) dX8_readAtom_149 (by decide) (fun h149 => ?_) (fun h149 => ?_)
                  · try simp only [vP_0, vP_1, vP_n0, vP_n1, Classical.not_not] at h149
                    simp at h149
                  · try simp only [vP_0, vP_1, vP_n0, vP_n1, Classical.not_not] at h149
                    refine x_aload_n dX8_readAtom_152 rfl rfl ?_
                    refine g_callI (vs := [_]) (d' := d - 1) rfl (s_X8_readSum (by omega) hR (by omega)) dX8_readAtom_153 kX8_248 (by omega) (by decide) rfl (Nat.le_of_ble_eq_true rfl) (rcv_o (by first | assumption | exact hT.2.1) rfl) (fun x153 M153 h153 => ?_)
                    obtain ⟨eA, b2, hM⟩ := h153.2 _ hm2
                    subst eA
                    have hM3 : M153 = mQr M m z1 b2 dp z2 (drf v z3) := hM
                    subst hM3
                    refine x_if_ne (tgt := 161) dX8_readAtom_156 (by decide) (fun h156 => ?_) (fun h156 => ?_)
                    · try simp only [vP_0, vP_1, vP_n0, vP_n1, Classical.not_not] at h156
                      refine x_aload_n dX8_readAtom_161 rfl rfl ?_
                      refine x_iload_n dX8_readAtom_162 rfl rfl ?_
                      refine x_if_eq (tgt := 171) dX8_readAtom_163 (by decide) (fun h163 => ?_) (fun h163 => ?_)
                      · refine x_bipush dX8_readAtom_171 rfl ?_
                        refine x_iconst dX8_readAtom_173 rfl ?_
                        refine g_callN (vs := [_, _, _]) (d' := d - 1) rfl (s_X8_emits (by omega) hR (by omega)) dX8_readAtom_174 kX8_220 (by omega) (by decide) rfl (Nat.le_of_ble_eq_true rfl) (rcv_o (by first | assumption | exact hT.2.1) rfl) (fun M174 h174 => ?_)
                        have f174 := h174.symm
                        subst f174
                        refine x_iconst dX8_readAtom_177 rfl ?_
                        refine x_zreturn (by first | exact Or.inl rfl | exact Or.inr rfl | exact vB_r _ | exact vP_r _ | assumption | omega) rfl dX8_readAtom_178 ?_
                        exact hQ _ _ (LOut.s er)
                      · simp at h163
                    · try simp only [vP_0, vP_1, vP_n0, vP_n1, Classical.not_not] at h156
                      simp at h156
              · try simp only [vP_0, vP_1, vP_n0, vP_n1, Classical.not_not] at h127
                simp at h127
            · try simp only [vP_0, vP_1, vP_n0, vP_n1, Classical.not_not] at h118
              simp at h118
        · have hl3 : ¬ chP tp e 62 62 (skB tp e (skB tp e y1)) := by rw [hi]; exact hl2
          have er := hz (fun q => by rcases q with q | q; exact hl q; exact hl2 q)
          refine x_aload_n dX8_readAtom_114 rfl rfl ?_
          refine g_callI (vs := [_]) (d' := d - 1) rfl (s_X8_readTag (by omega) hR (by omega)) dX8_readAtom_115 kX8_245 (by omega) (by decide) rfl (Nat.le_of_ble_eq_true rfl) (rcv_o (by first | assumption | exact hT.2.1) rfl) (fun x115 M115 h115 => ?_)
          obtain ⟨eA, hM⟩ := h115.1 hk
          subst eA
          subst hM
          refine x_if_eq (tgt := 123) dX8_readAtom_118 (by decide) (fun h118 => ?_) (fun h118 => ?_)
          · try simp only [vP_0, vP_1, vP_n0, vP_n1, Classical.not_not] at h118
            refine x_aload_n dX8_readAtom_123 rfl rfl ?_
            refine g_callI (vs := [_]) (d' := d - 1) rfl (s_X8_readSum (by omega) hR (by omega)) dX8_readAtom_124 kX8_248 (by omega) (by decide) rfl (Nat.le_of_ble_eq_true rfl) (rcv_o (by first | assumption | exact hT.2.1) rfl) (fun x124 M124 h124 => ?_)
            obtain ⟨eA, b1, hM⟩ := h124.2 _ hm
            subst eA
            have hM2 : M124 = mQr M m y1 b1 dp y2 (drf v y3) := hM
            subst hM2
            refine x_if_ne (tgt := 132) dX8_readAtom_127 (by decide) (fun h127 => ?_) (fun h127 => ?_)
            · try simp only [vP_0, vP_1, vP_n0, vP_n1, Classical.not_not] at h127
              refine x_aload_n dX8_readAtom_132 rfl rfl ?_
              refine x_bipush dX8_readAtom_133 rfl ?_
              refine g_callI (vs := [_, _]) (d' := d - 1) rfl (s_X8_sign (by omega) hR (by omega)) dX8_readAtom_135 kX8_227 (by omega) (by decide) rfl (Nat.le_of_ble_eq_true rfl) (rcv_o (by first | assumption | exact hT.2.1) rfl) (fun x135 M135 h135 => ?_)
              obtain ⟨e1, -, f1'⟩ := h135
              have hM := f1' hl
              subst hM
              rw [vP_f hl] at e1
              subst e1
              refine x_istore_n (L' := [some _, some _]) dX8_readAtom_138 rfl (by decide) rfl ?_
              refine x_iload_n dX8_readAtom_139 rfl rfl ?_
              refine x_if_ne (tgt := 152) dX8_readAtom_140 (by decide) (fun h140 => ?_) (fun h140 => ?_)
              · simp at h140
              · refine x_aload_n dX8_readAtom_143 rfl rfl ?_
                refine x_bipush dX8_readAtom_144 rfl ?_
                refine g_callI (vs := [_, _]) (d' := d - 1) rfl (s_X8_sign (by omega) hR (by omega)) dX8_readAtom_146 kX8_227 (by omega) (by decide) rfl (Nat.le_of_ble_eq_true rfl) (rcv_o (by first | assumption | exact hT.2.1) rfl) (fun x146 M146 h146 => ?_)
                obtain ⟨e2, -, f2'⟩ := h146
                have hM := f2' hl3
                subst hM
                rw [vP_f hl3] at e2
                subst e2
                rw [hi]
                refine x_if_eq (tgt := 159) dX8_readAtom_149 (by decide) (fun h149 => ?_) (fun h149 => ?_)
                · try simp only [vP_0, vP_1, vP_n0, vP_n1, Classical.not_not] at h149
                  refine x_iconst dX8_readAtom_159 rfl ?_
                  refine x_zreturn (by first | exact Or.inl rfl | exact Or.inr rfl | exact vB_r _ | exact vP_r _ | assumption | omega) rfl dX8_readAtom_160 ?_
                  exact hQ _ _ (LOut.f er)
                · try simp only [vP_0, vP_1, vP_n0, vP_n1, Classical.not_not] at h149
                  simp at h149
            · try simp only [vP_0, vP_1, vP_n0, vP_n1, Classical.not_not] at h127
              simp at h127
          · try simp only [vP_0, vP_1, vP_n0, vP_n1, Classical.not_not] at h118
            simp at h118
  · have er : rCmp tp e (p, c, u) = .inr (em (wdB tp e (skB tp e p), c, u) (7 + tagW tp (skB tp e p) (wdB tp e (skB tp e p))) 0) := by
      rw [rCmp_e, if_neg hk]
    refine x_aload_n dX8_readAtom_114 rfl rfl ?_
    refine g_callI (vs := [_]) (d' := d - 1) rfl (s_X8_readTag (by omega) hR (by omega)) dX8_readAtom_115 kX8_245 (by omega) (by decide) rfl (Nat.le_of_ble_eq_true rfl) (rcv_o (by first | assumption | exact hT.2.1) rfl) (fun x115 M115 h115 => ?_)
    obtain ⟨eA, hM⟩ := h115.2 hk
    subst eA
    subst hM
    refine x_if_eq (tgt := 123) dX8_readAtom_118 (by decide) (fun h118 => ?_) (fun h118 => ?_)
    · try simp only [vP_0, vP_1, vP_n0, vP_n1, Classical.not_not] at h118
      simp at h118
    · try simp only [vP_0, vP_1, vP_n0, vP_n1, Classical.not_not] at h118
      refine x_iconst dX8_readAtom_121 rfl ?_
      refine x_zreturn (by first | exact Or.inl rfl | exact Or.inr rfl | exact vB_r _ | exact vP_r _ | assumption | omega) rfl dX8_readAtom_122 ?_
      exact hQ _ _ (LOut.s er)
end X8

