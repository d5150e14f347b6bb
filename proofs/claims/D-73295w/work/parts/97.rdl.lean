/-! GuestViewModel: lines of a bench -/
theorem rMic_s {tp : Int → Int} {e o p : Int} {t : Nat} {v : Vw} : rMic tp e o (t + 1) p v = (if kndW tp (skB tp e p) (wdB tp e (skB tp e p)) < 0 then .inr (skB tp e p, v)
    else if opN v o = 3 then .inl (skB tp e p)
    else if hasN (kndW tp (skB tp e p) (wdB tp e (skB tp e p))) then
      match numP tp e (wdB tp e (skB tp e p)) 0 7 with
      | none => .inl (skB tp e (wdB tp e (skB tp e p)))
      | some y => rMic tp e o t y.1 (micU v o (kndW tp (skB tp e p) (wdB tp e (skB tp e p))) y.2)
    else rMic tp e o t (wdB tp e (skB tp e p)) (micU v o (kndW tp (skB tp e p) (wdB tp e (skB tp e p))) 0)) := rfl
theorem rMic_fr {tp : Int → Int} {e o : Int} : ∀ (t : Nat) (p : Int) (v : Vw) (y : Int × Vw), rMic tp e o t p v = .inr y → 0 ≤ opN v o ∧ opN v o ≤ 3 → ∀ k, ¬ (30 + 9 * o ≤ k ∧ k < 39 + 9 * o) → y.2 k = v k := by
  intro t
  induction t with
  | zero => intro p v y h; cases h
  | succ t ih =>
    intro p v y h hn k hk
    rw [rMic_s] at h
    have fr : ∀ a b, ¬ opN v o = 3 → micU v o a b k = v k := fun a b q => by
      unfold micU
      rw [us_n (by omega), us_n (by omega), us_n (by omega)]
    split at h
    · cases h; rfl
    · split at h
      · cases h
      · rename_i h3
        split at h
        · split at h
          · cases h
          · exact (ih _ _ _ h (by rw [micN]; omega) k hk).trans (fr _ _ h3)
        · exact (ih _ _ _ h (by rw [micN]; omega) k hk).trans (fr _ _ h3)
theorem BOut.z {M : Mem} {m dp c e : Int} {w : Vw} {r : BR} {x : Int} {M1 : Mem} (h : BOut M m dp c e w r x M1) : x = 0 ∨ x = 1 := by
  rcases hr : r with f | y
  · exact Or.inl (h.1 f hr).1
  · exact Or.inr (h.2 y hr).1
section X8
variable {G : GW} {d : Nat} {M : Mem} {m p b dp c e lo hi k n o a : Int} {w : Vw} {tp : Int → Int}
theorem s_X8_readOp (hd : 21 ≤ d) (hR : RdH M m tp e) (hp : 0 ≤ p ∧ p ≤ e) (h0 : 0 ≤ w 0 ∧ w 0 ≤ 8) : CS G d mX8_readOp [dR m] (mQr M m p b dp c w) (postI fun x M1 => BOut M m dp c e w (rOp tp e b p w) x M1) := by
  obtain ⟨hT, he, htp, he2, hX⟩ := id hR
  have hs := skB_r (tp := tp) hp.2
  have hs2 := wdB_r (tp := tp) hs.2
  have hT_ := hT; obtain ⟨p0, p1, ⟨c1, c2, c3, c4, c5, c6, c7, c8, c9, c10, c11, c12, c13, c14, c15⟩, ⟨t1, t2, t3, t4, t5, t6, t7, t8, t9, t10, t11, t12, t13, t14, t15⟩⟩ := hT_
  refine CS.mkQ (by decide) (Nat.le_of_ble_eq_true rfl) fun Q hQ => ?_
  by_cases h8 : w 0 = 8
  · have er : rOp tp e b p w = .inl b := if_pos h8
    refine x_aload_n dX8_readOp_0 rfl rfl ?_
    refine g_callI (vs := [_]) (d' := d - 1) rfl (s_X8_ops (by omega) hT mQ_wf) dX8_readOp_1 kX8_84 (by omega) (by decide) rfl (Nat.le_of_ble_eq_true rfl) (rcv_o (by first | assumption | exact hT.2.1) rfl) (fun x1 M1 h1 => ?_)
    obtain ⟨e1, f1⟩ := h1
    have f1' := f1.symm
    subst f1'
    subst e1
    try simp (disch := omega) only [rdI_e, rdI_n, rdC_i, rdC_o, rdW, rdR, rdU_e, rdU_n, rdLW, Int.add_zero, mQ_p, mQ_b, mQ_d, mQ_c, mQ_w, mQ_e, mQ_t, he, htp]
    refine x_istore_n (L' := [some _, some _, none]) dX8_readOp_4 rfl (by decide) rfl ?_
    refine x_iload_n dX8_readOp_5 rfl rfl ?_
    refine x_bipush dX8_readOp_6 rfl ?_
    refine x_icmp_ne (tgt := 13) dX8_readOp_8 (by decide) (fun h8' => ?_) (fun h8' => ?_)
    · omega
    · refine x_iconst dX8_readOp_11 rfl ?_
      refine x_zreturn (by first | exact Or.inl rfl | exact Or.inr rfl | exact vB_r _ | exact vP_r _ | assumption | omega) rfl dX8_readOp_12 ?_
      exact hQ _ _ ⟨_, rfl, BOut.f er hiW.rfl⟩
  · have aft : ∀ (P : Int) (W : Vw) (bb : Int), opW tp e (w 0) p w = (P, W) → opN W (w 0) = 0 → W 0 = w 0 → hiW w W → 0 ≤ P ∧ P ≤ e → WP G d mX8_readOp 62 [some (dR m), some (dI (w 0)), none] [] (mQr M m P bb dp c W) Q := by
      intro P W bb ho hn hW0 hh hP
      have er0 : rOp tp e b p w = if kndW tp (skB tp e P) (wdB tp e (skB tp e P)) < 0 then .inl (skB tp e P) else (match rMic tp e (w 0) 5 P W with
          | .inl x => .inl x
          | .inr y => .inr (y.1, us y.2 0 (y.2 0 + 1))) := by
        unfold rOp
        rw [if_neg h8, ho]
        rfl
      by_cases hk : kndW tp (skB tp e P) (wdB tp e (skB tp e P)) < 0
      · rw [if_pos hk] at er0
        refine x_aload_n dX8_readOp_62 rfl rfl ?_
        refine x_iload_n dX8_readOp_63 rfl rfl ?_
        refine g_callI (vs := [_, _]) (d' := d - 1) rfl (s_X8_readMicros (by omega) hR hP (by omega) hn) dX8_readOp_64 kX8_165 (by omega) (by decide) rfl (Nat.le_of_ble_eq_true rfl) (rcv_o (by first | assumption | exact hT.2.1) rfl) (fun x64 M64 h64 => ?_)
        obtain ⟨eA, p1, hM⟩ := h64.1 hk
        subst eA
        subst hM
        refine x_if_ne (tgt := 72) dX8_readOp_67 (by decide) (fun h67 => ?_) (fun h67 => ?_)
        · try simp only [vP_0, vP_1, vP_n0, vP_n1, Classical.not_not] at h67
          simp at h67
        · try simp only [vP_0, vP_1, vP_n0, vP_n1, Classical.not_not] at h67
          refine x_iconst dX8_readOp_70 rfl ?_
          refine x_zreturn (by first | exact Or.inl rfl | exact Or.inr rfl | exact vB_r _ | exact vP_r _ | assumption | omega) rfl dX8_readOp_71 ?_
          exact hQ _ _ ⟨_, rfl, BOut.f er0 hh⟩
      · rw [if_neg hk] at er0
        rcases hm : rMic tp e (w 0) 5 P W with f | ⟨y1, y2⟩
        · rw [hm] at er0
          refine x_aload_n dX8_readOp_62 rfl rfl ?_
          refine x_iload_n dX8_readOp_63 rfl rfl ?_
          refine g_callI (vs := [_, _]) (d' := d - 1) rfl (s_X8_readMicros (by omega) hR hP (by omega) hn) dX8_readOp_64 kX8_165 (by omega) (by decide) rfl (Nat.le_of_ble_eq_true rfl) (rcv_o (by first | assumption | exact hT.2.1) rfl) (fun x64 M64 h64 => ?_)
          obtain ⟨eA, p1, w1, hM, hh1⟩ := (h64.2 hk).1 f hm
          subst eA
          subst hM
          refine x_if_ne (tgt := 72) dX8_readOp_67 (by decide) (fun h67 => ?_) (fun h67 => ?_)
          · try simp only [vP_0, vP_1, vP_n0, vP_n1, Classical.not_not] at h67
            simp at h67
          · try simp only [vP_0, vP_1, vP_n0, vP_n1, Classical.not_not] at h67
            refine x_iconst dX8_readOp_70 rfl ?_
            refine x_zreturn (by first | exact Or.inl rfl | exact Or.inr rfl | exact vB_r _ | exact vP_r _ | assumption | omega) rfl dX8_readOp_71 ?_
            exact hQ _ _ ⟨_, rfl, BOut.f er0 (hh.trans hh1)⟩
        · rw [hm] at er0
          have y0 : y2 0 = w 0 := (rMic_fr 5 P W (y1, y2) hm (by omega) 0 (by omega)).trans hW0
          refine x_aload_n dX8_readOp_62 rfl rfl ?_
          refine x_iload_n dX8_readOp_63 rfl rfl ?_
          refine g_callI (vs := [_, _]) (d' := d - 1) rfl (s_X8_readMicros (by omega) hR hP (by omega) hn) dX8_readOp_64 kX8_165 (by omega) (by decide) rfl (Nat.le_of_ble_eq_true rfl) (rcv_o (by first | assumption | exact hT.2.1) rfl) (fun x64 M64 h64 => ?_)
          obtain ⟨eA, ⟨b1, hM⟩, hq1, hh1⟩ := (h64.2 hk).2 _ hm
          subst eA
          subst hM
          have hq2 : 0 ≤ y1 ∧ y1 ≤ e := hq1
          have hh2 : hiW W y2 := hh1
          refine x_if_ne (tgt := 72) dX8_readOp_67 (by decide) (fun h67 => ?_) (fun h67 => ?_)
          · try simp only [vP_0, vP_1, vP_n0, vP_n1, Classical.not_not] at h67
            refine x_aload_n dX8_readOp_72 rfl rfl ?_
            refine g_getR (kI := 1) rfl dX8_readOp_73 fX8_13_8 (by first | assumption | exact hT.2.1) (by first | assumption | exact hT.2.1) ?_
            refine x_iconst dX8_readOp_76 rfl ?_
            refine x_dup2 dX8_readOp_77 rfl rfl ?_
            refine x_iald dX8_readOp_78 (by first | assumption | exact hT.2.1) (by omega) (by omega) ?_
            try simp (disch := omega) only [rdI_e, rdI_n, rdC_i, rdC_o, rdW, rdR, rdU_e, rdU_n, rdLW, Int.add_zero, mQ_p, mQ_b, mQ_d, mQ_c, mQ_w, mQ_e, mQ_t, he, htp]
            refine x_iconst dX8_readOp_79 rfl ?_
            first | refine x_iaddN dX8_readOp_80 (by unfold i32; omega) ?_ | refine x_iadd dX8_readOp_80 ?_
            refine x_iast (by omega) dX8_readOp_81 (by first | assumption | exact hT.2.1) (by omega) (by omega) ?_
            try simp only [mQ_wp, mQ_wb, mQ_wd, mQ_wc, mQ_ww]
            refine x_iconst dX8_readOp_82 rfl ?_
            refine x_zreturn (by first | exact Or.inl rfl | exact Or.inr rfl | exact vB_r _ | exact vP_r _ | assumption | omega) rfl dX8_readOp_83 ?_
            exact hQ _ _ ⟨_, rfl, BOut.s er0 hq2 ((hh.trans hh2).us (by omega))⟩
          · try simp only [vP_0, vP_1, vP_n0, vP_n1, Classical.not_not] at h67
            simp at h67
    have lp : ∀ (t : Nat) (k : Int) (u : Vw), (9 - k).toNat = t → (0 ≤ k ∧ k ≤ 9) → (u = fun j => if 30 + 9 * w 0 ≤ j ∧ j < 30 + 9 * w 0 + k then 0 else w j) → WP G d mX8_readOp 15 [some (dR m), some (dI (w 0)), some (dI k)] [] (mQr M m p b dp c u) Q := by
      intro t
      induction t using Nat.strongRecOn with
      | _ t ih =>
        intro k u ht k0 hu
        by_cases hk9 : k < 9
        · refine x_iload_n dX8_readOp_15 rfl rfl ?_
          refine x_bipush dX8_readOp_16 rfl ?_
          refine x_icmp_ge (tgt := 38) dX8_readOp_18 (by decide) (fun h18 => ?_) (fun h18 => ?_)
          · omega
          · refine x_aload_n dX8_readOp_21 rfl rfl ?_
            refine g_getR (kI := 1) rfl dX8_readOp_22 fX8_13_8 (by first | assumption | exact hT.2.1) (by first | assumption | exact hT.2.1) ?_
            refine x_iload_n dX8_readOp_25 rfl rfl ?_
            refine x_iload_n dX8_readOp_26 rfl rfl ?_
            refine g_callI (vs := [_, _]) (d' := d - 1) rfl (s_X8_opAt (by omega) (by omega) (by omega)) dX8_readOp_27 kX8_74 (by omega) (by decide) rfl (Nat.le_of_ble_eq_true rfl) (rcv_n) (fun x27 M27 h27 => ?_)
            obtain ⟨e27, f27⟩ := h27
            have f27' := f27.symm
            subst f27'
            subst e27
            try simp (disch := omega) only [rdI_e, rdI_n, rdC_i, rdC_o, rdW, rdR, rdU_e, rdU_n, rdLW, Int.add_zero, mQ_p, mQ_b, mQ_d, mQ_c, mQ_w, mQ_e, mQ_t, he, htp]
            refine x_iconst dX8_readOp_30 rfl ?_
            refine x_iast (by omega) dX8_readOp_31 (by first | assumption | exact hT.2.1) (by omega) (by omega) ?_
            try simp only [mQ_wp, mQ_wb, mQ_wd, mQ_wc, mQ_ww]
            first | refine x_iincN (L' := [some _, some _, some _]) dX8_readOp_32 rfl (by decide) (by unfold i32; omega) rfl ?_ | refine x_iinc (L' := [some _, some _, some _]) dX8_readOp_32 rfl (by decide) rfl ?_
            refine x_goto (tgt := 15) dX8_readOp_35 (by decide) ?_
            refine ih _ (by omega) (k + 1) _ rfl (by omega) (funext fun j => ?_)
            unfold us
            have hj : u j = if 30 + 9 * w 0 ≤ j ∧ j < 30 + 9 * w 0 + k then 0 else w j := congrFun hu j
            rw [hj]
            by_cases q : j = 30 + 9 * w 0 + k
            · rw [if_pos q, if_pos (by omega)]
            · rw [if_neg q]
              by_cases q2 : 30 + 9 * w 0 ≤ j ∧ j < 30 + 9 * w 0 + k
              · rw [if_pos q2, if_pos (by omega)]
              · rw [if_neg q2, if_neg (by omega)]
        · have ez : u = zopV w (w 0) := by
            rw [hu]
            refine funext fun j => ?_
            unfold zopV
            by_cases q2 : 30 + 9 * w 0 ≤ j ∧ j < 39 + 9 * w 0
            · rw [if_pos q2, if_pos (by omega)]
            · rw [if_neg q2, if_neg (by omega)]
          have nz : ∀ x, opN (us (zopV w (w 0)) (31 + 9 * w 0) x) (w 0) = 0 := fun x => (us_n (by omega)).trans (if_pos (by omega))
          have z0 : ∀ x, us (zopV w (w 0)) (31 + 9 * w 0) x 0 = w 0 := fun x => (us_n (by omega)).trans (if_neg (by omega))
          have zh : ∀ x, hiW w (us (zopV w (w 0)) (31 + 9 * w 0) x) := fun x k q => (us_n (by omega)).trans (if_neg (by omega))
          subst ez
          by_cases hg : isW tp (skB tp e p) (wdB tp e (skB tp e p)) (txB 7)
          · refine x_iload_n dX8_readOp_15 rfl rfl ?_
            refine x_bipush dX8_readOp_16 rfl ?_
            refine x_icmp_ge (tgt := 38) dX8_readOp_18 (by decide) (fun h18 => ?_) (fun h18 => ?_)
            · refine x_aload_n dX8_readOp_38 rfl rfl ?_
              refine g_getR (kI := 1) rfl dX8_readOp_39 fX8_13_8 (by first | assumption | exact hT.2.1) (by first | assumption | exact hT.2.1) ?_
              refine x_iload_n dX8_readOp_42 rfl rfl ?_
              refine x_iconst dX8_readOp_43 rfl ?_
              refine g_callI (vs := [_, _]) (d' := d - 1) rfl (s_X8_opAt (by omega) (by omega) (by omega)) dX8_readOp_44 kX8_74 (by omega) (by decide) rfl (Nat.le_of_ble_eq_true rfl) (rcv_n) (fun x44 M44 h44 => ?_)
              obtain ⟨e44, f44⟩ := h44
              have f44' := f44.symm
              subst f44'
              subst e44
              try simp (disch := omega) only [rdI_e, rdI_n, rdC_i, rdC_o, rdW, rdR, rdU_e, rdU_n, rdLW, Int.add_zero, mQ_p, mQ_b, mQ_d, mQ_c, mQ_w, mQ_e, mQ_t, he, htp]
              refine x_aload_n dX8_readOp_47 rfl rfl ?_
              refine x_ldcs dX8_readOp_48 (List.mem_of_getElem? (i := 35) rfl) ?_
              refine g_callI (vs := [_, _]) (d' := d - 1) rfl (s_X8_passes (i := 7) (by omega) hR (by omega) (by omega) rfl) dX8_readOp_50 kX8_162 (by omega) (by decide) rfl (Nat.le_of_ble_eq_true rfl) (rcv_o (by first | assumption | exact hT.2.1) rfl) (fun x50 M50 h50 => ?_)
              obtain ⟨e50, t50, -⟩ := h50
              have hM := t50 hg
              subst hM
              rw [vP_t hg] at e50
              subst e50
              refine x_if_eq (tgt := 60) dX8_readOp_53 (by decide) (fun h53 => ?_) (fun h53 => ?_)
              · try simp only [vP_0, vP_1, vP_n0, vP_n1, Classical.not_not] at h53
                simp at h53
              · try simp only [vP_0, vP_1, vP_n0, vP_n1, Classical.not_not] at h53
                refine x_iconst dX8_readOp_56 rfl ?_
                refine x_goto (tgt := 61) dX8_readOp_57 (by decide) ?_
                refine x_iast (by omega) dX8_readOp_61 (by first | assumption | exact hT.2.1) (by omega) (by omega) ?_
                try simp only [mQ_wp, mQ_wb, mQ_wd, mQ_wc, mQ_ww]
                rw [show 30 + 9 * w 0 + 1 = 31 + 9 * w 0 by omega]
                exact x_fgt (by repeat (first | exact trivial | refine ⟨rfl, ?_⟩)) (aft _ _ _ (if_pos hg) (nz _) (z0 _) (zh _) (by omega))
            · omega
          · refine x_iload_n dX8_readOp_15 rfl rfl ?_
            refine x_bipush dX8_readOp_16 rfl ?_
            refine x_icmp_ge (tgt := 38) dX8_readOp_18 (by decide) (fun h18 => ?_) (fun h18 => ?_)
            · refine x_aload_n dX8_readOp_38 rfl rfl ?_
              refine g_getR (kI := 1) rfl dX8_readOp_39 fX8_13_8 (by first | assumption | exact hT.2.1) (by first | assumption | exact hT.2.1) ?_
              refine x_iload_n dX8_readOp_42 rfl rfl ?_
              refine x_iconst dX8_readOp_43 rfl ?_
              refine g_callI (vs := [_, _]) (d' := d - 1) rfl (s_X8_opAt (by omega) (by omega) (by omega)) dX8_readOp_44 kX8_74 (by omega) (by decide) rfl (Nat.le_of_ble_eq_true rfl) (rcv_n) (fun x44 M44 h44 => ?_)
              obtain ⟨e44, f44⟩ := h44
              have f44' := f44.symm
              subst f44'
              subst e44
              try simp (disch := omega) only [rdI_e, rdI_n, rdC_i, rdC_o, rdW, rdR, rdU_e, rdU_n, rdLW, Int.add_zero, mQ_p, mQ_b, mQ_d, mQ_c, mQ_w, mQ_e, mQ_t, he, htp]
              refine x_aload_n dX8_readOp_47 rfl rfl ?_
              refine x_ldcs dX8_readOp_48 (List.mem_of_getElem? (i := 35) rfl) ?_
              refine g_callI (vs := [_, _]) (d' := d - 1) rfl (s_X8_passes (i := 7) (by omega) hR (by omega) (by omega) rfl) dX8_readOp_50 kX8_162 (by omega) (by decide) rfl (Nat.le_of_ble_eq_true rfl) (rcv_o (by first | assumption | exact hT.2.1) rfl) (fun x50 M50 h50 => ?_)
              obtain ⟨e50, -, f50⟩ := h50
              have hM := f50 hg
              subst hM
              rw [vP_f hg] at e50
              subst e50
              refine x_if_eq (tgt := 60) dX8_readOp_53 (by decide) (fun h53 => ?_) (fun h53 => ?_)
              · try simp only [vP_0, vP_1, vP_n0, vP_n1, Classical.not_not] at h53
                refine x_iconst dX8_readOp_60 rfl ?_
                refine x_iast (by omega) dX8_readOp_61 (by first | assumption | exact hT.2.1) (by omega) (by omega) ?_
                try simp only [mQ_wp, mQ_wb, mQ_wd, mQ_wc, mQ_ww]
                rw [show 30 + 9 * w 0 + 1 = 31 + 9 * w 0 by omega]
                exact x_fgt (by repeat (first | exact trivial | refine ⟨rfl, ?_⟩)) (aft _ _ _ (if_neg hg) (nz _) (z0 _) (zh _) (by omega))
              · try simp only [vP_0, vP_1, vP_n0, vP_n1, Classical.not_not] at h53
                simp at h53
            · omega
    refine x_aload_n dX8_readOp_0 rfl rfl ?_
    refine g_callI (vs := [_]) (d' := d - 1) rfl (s_X8_ops (by omega) hT mQ_wf) dX8_readOp_1 kX8_84 (by omega) (by decide) rfl (Nat.le_of_ble_eq_true rfl) (rcv_o (by first | assumption | exact hT.2.1) rfl) (fun x1 M1 h1 => ?_)
    obtain ⟨e1, f1⟩ := h1
    have f1' := f1.symm
    subst f1'
    subst e1
    try simp (disch := omega) only [rdI_e, rdI_n, rdC_i, rdC_o, rdW, rdR, rdU_e, rdU_n, rdLW, Int.add_zero, mQ_p, mQ_b, mQ_d, mQ_c, mQ_w, mQ_e, mQ_t, he, htp]
    refine x_istore_n (L' := [some _, some _, none]) dX8_readOp_4 rfl (by decide) rfl ?_
    refine x_iload_n dX8_readOp_5 rfl rfl ?_
    refine x_bipush dX8_readOp_6 rfl ?_
    refine x_icmp_ne (tgt := 13) dX8_readOp_8 (by decide) (fun h8' => ?_) (fun h8' => ?_)
    · refine x_iconst dX8_readOp_13 rfl ?_
      refine x_istore_n (L' := [some _, some _, some _]) dX8_readOp_14 rfl (by decide) rfl ?_
      exact lp _ 0 w rfl (by omega) (funext fun j => (if_neg (by omega)).symm)
    · omega
end X8

