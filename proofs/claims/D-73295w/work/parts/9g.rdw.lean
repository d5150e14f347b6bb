/-! GuestViewModel: lines, all lines -/
theorem rBch_s {tp : Int → Int} {e p n : Int} {t : Nat} {v : Vw} : rBch tp e (t + 1) p n v = (if n < 14 then
      match rLin tp e (skB tp e p) (wdB tp e (skB tp e p)) v with
      | .inl x => .inl x
      | .inr y => if skB tp e y.1 = e then .inr (n + 1, y.2) else if tp (skB tp e y.1) = 59 then rBch tp e t (skB tp e y.1 + 1) (n + 1) y.2 else .inl (skB tp e y.1)
    else .inl (skB tp e p)) := rfl
theorem rLwl_s {tp : Int → Int} {e n p c : Int} {t : Nat} {u : Vw} : rLwl tp e (t + 1) n (p, c, u) = (if n < 12 then
      match rLaw tp e n (skB tp e p) (wdB tp e (skB tp e p)) c u with
      | .inl x => .inl x
      | .inr y => if skB tp e y.1 = e then .inr (n + 1, y.2) else if tp (skB tp e y.1) = 59 then rLwl tp e t (n + 1) (skB tp e y.1 + 1, y.2) else .inl (skB tp e y.1)
    else .inl (skB tp e p)) := rfl
section X8
variable {G : GW} {d : Nat} {M : Mem} {m p b dp c e lo hi k n o a x : Int} {w v u : Vw} {tp : Int → Int}
theorem s_readLineB (hd : 25 ≤ d) (hR : RdH M m tp e) (hp : 0 ≤ p ∧ p ≤ e) (h0 : 0 ≤ w 0 ∧ w 0 ≤ 8) : CS G d mX8_readLine [dR m, dI 1, dI n] (mQr M m p b dp c w) (postI fun x M1 => (n < 14 → BOut M m dp c e w (rLin tp e (skB tp e p) (wdB tp e (skB tp e p)) w) x M1) ∧ (¬ n < 14 → x = 0 ∧ M1 = mQr M m (wdB tp e (skB tp e p)) (skB tp e p) dp c w)) := by
  obtain ⟨hT, he, htp, he2, hX⟩ := id hR
  have hs := skB_r (tp := tp) hp.2
  have hs2 := wdB_r (tp := tp) hs.2
  have hT_ := hT; obtain ⟨p0, p1, ⟨c1, c2, c3, c4, c5, c6, c7, c8, c9, c10, c11, c12, c13, c14, c15⟩, ⟨t1, t2, t3, t4, t5, t6, t7, t8, t9, t10, t11, t12, t13, t14, t15⟩⟩ := hT_
  refine CS.mkQ (by decide) (Nat.le_of_ble_eq_true rfl) fun Q hQ => ?_
  refine x_aload_n dX8_readLine_0 rfl rfl ?_
  refine g_callN (vs := [_]) (d' := d - 1) rfl (s_X8_letters (by omega) hR (by omega)) dX8_readLine_1 kX8_121 (by omega) (by decide) rfl (Nat.le_of_ble_eq_true rfl) (rcv_o (by first | assumption | exact hT.2.1) rfl) (fun M1 h1 => ?_)
  have f1 := h1.symm
  subst f1
  refine x_iload_n dX8_readLine_4 rfl rfl ?_
  refine x_iload_n dX8_readLine_5 rfl rfl ?_
  refine x_if_eq (tgt := 14) dX8_readLine_6 (by decide) (fun h6 => ?_) (fun h6 => ?_)
  · simp at h6
  · refine x_bipush dX8_readLine_9 rfl ?_
    refine x_goto (tgt := 16) dX8_readLine_11 (by decide) ?_
    refine x_icmp_ge (tgt := 45) dX8_readLine_16 (by decide) (fun h16 => ?_) (fun h16 => ?_)
    · refine x_iconst dX8_readLine_45 rfl ?_
      refine x_zreturn (by first | exact Or.inl rfl | exact Or.inr rfl | exact vB_r _ | exact vP_r _ | assumption | omega) rfl dX8_readLine_46 ?_
      first
      | exact hQ _ _ ⟨_, rfl, fun q => absurd q (by omega), fun _ => ⟨rfl, rfl⟩⟩
      | (have ex : x24 = 0 := by omega
         subst ex
         exact hQ _ _ ⟨_, rfl, fun _ => h24, fun q => absurd q (by omega)⟩)
      | (have ex : x24 = 1 := by omega
         subst ex
         exact hQ _ _ ⟨_, rfl, fun _ => h24, fun q => absurd q (by omega)⟩)
    · refine x_iload_n dX8_readLine_19 rfl rfl ?_
      refine x_if_eq (tgt := 33) dX8_readLine_20 (by decide) (fun h20 => ?_) (fun h20 => ?_)
      · simp at h20
      · refine x_aload_n dX8_readLine_23 rfl rfl ?_
        refine g_callI (vs := [_]) (d' := d - 1) rfl (s_X8_readBenchLine (by omega) hR (by omega) h0) dX8_readLine_24 kX8_264 (by omega) (by decide) rfl (Nat.le_of_ble_eq_true rfl) (rcv_o (by first | assumption | exact hT.2.1) rfl) (fun x24 M24 h24 => ?_)
        have z24 := BOut.z h24
        refine x_if_eq (tgt := 45) dX8_readLine_27 (by decide) (fun h27 => ?_) (fun h27 => ?_)
        · try simp only [vP_0, vP_1, vP_n0, vP_n1, Classical.not_not] at h27
          refine x_iconst dX8_readLine_45 rfl ?_
          refine x_zreturn (by first | exact Or.inl rfl | exact Or.inr rfl | exact vB_r _ | exact vP_r _ | assumption | omega) rfl dX8_readLine_46 ?_
          first
          | exact hQ _ _ ⟨_, rfl, fun q => absurd q (by omega), fun _ => ⟨rfl, rfl⟩⟩
          | (have ex : x24 = 0 := by omega
             subst ex
             exact hQ _ _ ⟨_, rfl, fun _ => h24, fun q => absurd q (by omega)⟩)
          | (have ex : x24 = 1 := by omega
             subst ex
             exact hQ _ _ ⟨_, rfl, fun _ => h24, fun q => absurd q (by omega)⟩)
        · try simp only [vP_0, vP_1, vP_n0, vP_n1, Classical.not_not] at h27
          refine x_goto (tgt := 41) dX8_readLine_30 (by decide) ?_
          refine x_iconst dX8_readLine_41 rfl ?_
          refine x_goto (tgt := 46) dX8_readLine_42 (by decide) ?_
          refine x_zreturn (by first | exact Or.inl rfl | exact Or.inr rfl | exact vB_r _ | exact vP_r _ | assumption | omega) rfl dX8_readLine_46 ?_
          first
          | exact hQ _ _ ⟨_, rfl, fun q => absurd q (by omega), fun _ => ⟨rfl, rfl⟩⟩
          | (have ex : x24 = 0 := by omega
             subst ex
             exact hQ _ _ ⟨_, rfl, fun _ => h24, fun q => absurd q (by omega)⟩)
          | (have ex : x24 = 1 := by omega
             subst ex
             exact hQ _ _ ⟨_, rfl, fun _ => h24, fun q => absurd q (by omega)⟩)
theorem s_readLineL (hd : 48 ≤ d) (hR : RdH M m tp e) (hp : 0 ≤ p ∧ p ≤ e) (hc : 0 ≤ c ∧ c ≤ p) (hn : 0 ≤ n) : CS G d mX8_readLine [dR m, dI 0, dI n] (mQr M m p b dp c (drf v u)) (postI fun x M1 => (n < 12 → LOut M m 0 v (rLaw tp e n (skB tp e p) (wdB tp e (skB tp e p)) c u) x M1) ∧ (¬ n < 12 → x = 0 ∧ M1 = mQr M m (wdB tp e (skB tp e p)) (skB tp e p) dp c (drf v u))) := by
  obtain ⟨hT, he, htp, he2, hX⟩ := id hR
  have hs := skB_r (tp := tp) hp.2
  have hs2 := wdB_r (tp := tp) hs.2
  have hT_ := hT; obtain ⟨p0, p1, ⟨c1, c2, c3, c4, c5, c6, c7, c8, c9, c10, c11, c12, c13, c14, c15⟩, ⟨t1, t2, t3, t4, t5, t6, t7, t8, t9, t10, t11, t12, t13, t14, t15⟩⟩ := hT_
  refine CS.mkQ (by decide) (Nat.le_of_ble_eq_true rfl) fun Q hQ => ?_
  refine x_aload_n dX8_readLine_0 rfl rfl ?_
  refine g_callN (vs := [_]) (d' := d - 1) rfl (s_X8_letters (by omega) hR (by omega)) dX8_readLine_1 kX8_121 (by omega) (by decide) rfl (Nat.le_of_ble_eq_true rfl) (rcv_o (by first | assumption | exact hT.2.1) rfl) (fun M1 h1 => ?_)
  have f1 := h1.symm
  subst f1
  refine x_iload_n dX8_readLine_4 rfl rfl ?_
  refine x_iload_n dX8_readLine_5 rfl rfl ?_
  refine x_if_eq (tgt := 14) dX8_readLine_6 (by decide) (fun h6 => ?_) (fun h6 => ?_)
  · refine x_bipush dX8_readLine_14 rfl ?_
    refine x_icmp_ge (tgt := 45) dX8_readLine_16 (by decide) (fun h16 => ?_) (fun h16 => ?_)
    · refine x_iconst dX8_readLine_45 rfl ?_
      refine x_zreturn (by first | exact Or.inl rfl | exact Or.inr rfl | exact vB_r _ | exact vP_r _ | assumption | omega) rfl dX8_readLine_46 ?_
      first
      | exact hQ _ _ ⟨_, rfl, fun q => absurd q (by omega), fun _ => ⟨rfl, rfl⟩⟩
      | (have ex : x35 = 0 := by omega
         subst ex
         exact hQ _ _ ⟨_, rfl, fun _ => h35, fun q => absurd q (by omega)⟩)
      | (have ex : x35 = 1 := by omega
         subst ex
         exact hQ _ _ ⟨_, rfl, fun _ => h35, fun q => absurd q (by omega)⟩)
    · refine x_iload_n dX8_readLine_19 rfl rfl ?_
      refine x_if_eq (tgt := 33) dX8_readLine_20 (by decide) (fun h20 => ?_) (fun h20 => ?_)
      · refine x_aload_n dX8_readLine_33 rfl rfl ?_
        refine x_iload_n dX8_readLine_34 rfl rfl ?_
        refine g_callI (vs := [_, _]) (d' := d - 1) rfl (s_X8_readLawLine (by omega) hR (by omega) (by omega) (by omega)) dX8_readLine_35 kX8_267 (by omega) (by decide) rfl (Nat.le_of_ble_eq_true rfl) (rcv_o (by first | assumption | exact hT.2.1) rfl) (fun x35 M35 h35 => ?_)
        have z35 := LOut.z h35
        refine x_if_eq (tgt := 45) dX8_readLine_38 (by decide) (fun h38 => ?_) (fun h38 => ?_)
        · try simp only [vP_0, vP_1, vP_n0, vP_n1, Classical.not_not] at h38
          refine x_iconst dX8_readLine_45 rfl ?_
          refine x_zreturn (by first | exact Or.inl rfl | exact Or.inr rfl | exact vB_r _ | exact vP_r _ | assumption | omega) rfl dX8_readLine_46 ?_
          first
          | exact hQ _ _ ⟨_, rfl, fun q => absurd q (by omega), fun _ => ⟨rfl, rfl⟩⟩
          | (have ex : x35 = 0 := by omega
             subst ex
             exact hQ _ _ ⟨_, rfl, fun _ => h35, fun q => absurd q (by omega)⟩)
          | (have ex : x35 = 1 := by omega
             subst ex
             exact hQ _ _ ⟨_, rfl, fun _ => h35, fun q => absurd q (by omega)⟩)
        · try simp only [vP_0, vP_1, vP_n0, vP_n1, Classical.not_not] at h38
          refine x_iconst dX8_readLine_41 rfl ?_
          refine x_goto (tgt := 46) dX8_readLine_42 (by decide) ?_
          refine x_zreturn (by first | exact Or.inl rfl | exact Or.inr rfl | exact vB_r _ | exact vP_r _ | assumption | omega) rfl dX8_readLine_46 ?_
          first
          | exact hQ _ _ ⟨_, rfl, fun q => absurd q (by omega), fun _ => ⟨rfl, rfl⟩⟩
          | (have ex : x35 = 0 := by omega
             subst ex
             exact hQ _ _ ⟨_, rfl, fun _ => h35, fun q => absurd q (by omega)⟩)
          | (have ex : x35 = 1 := by omega
             subst ex
             exact hQ _ _ ⟨_, rfl, fun _ => h35, fun q => absurd q (by omega)⟩)
      · simp at h20
  · simp at h6
end X8

