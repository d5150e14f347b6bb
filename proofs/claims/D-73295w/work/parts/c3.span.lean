/-! GuestView: span -/
section X1
variable {G : GW} {d : Nat} {M M1 : Mem} {a b c e k n x y op w st hi sz fa N N0 i p o T s j : Int} {u v vi : Vw} {A : Int → Vw} {tp : Int → Int}
theorem CI.up (hC : CI M v n A hi vi tp sz fa N) (hN : N ≤ N0) : CI M v n A hi vi tp sz fa N0 := by
  obtain ⟨h1, h2, ⟨a1, a2, a3, a4⟩, ⟨b1, b3, b4, b7⟩⟩ := hC
  exact ⟨h1, h2.up hN, ⟨a1, a2, a3, fun j x y => (a4 j x y).up hN⟩, ⟨b1, fun q => (b3 q).up hN, b4, b7⟩⟩
theorem CO.up {c s : Nat} (h : CO M v n A hi vi tp sz fa N c s M1) (hN : N ≤ N0) : CO M v n A hi vi tp sz fa N0 c s M1 := ⟨h.1.up hN, h.2⟩
theorem s_X1_span (hd : 50 ≤ d) (hC0 : CI M v n A hi vi tp sz fa N) (hN : N ≤ 900000000) (hb01 : b = 0 ∨ b = 1) : CS G d mX1_span [dR 0, dI k, dI b] M (orT (postI fun y M1 => (0 ≤ k ∧ k ≤ 60) ∧ y = spanAns v k b ∧ CO M v n A hi vi tp sz fa (N + 120) 0 0 M1) (fun a E M1 => CO M v n A hi vi tp sz fa N 1 6 M1 ∧ ¬ (0 ≤ k ∧ k ≤ 60) ∧ E = "java/lang/IllegalArgumentException")) := by
  have hC := hC0
  have e11 : ((1 : Int) = 1) = True := by simp
  have hA0 : okA v := hC0.2.1.1
  have hL0 : lawOK v := hC0.2.1.2.1
  refine CS.mkQ (by decide) (Nat.le_of_ble_eq_true rfl) fun Q hQ => ?_
  have lp : ∀ (t : Nat) (s z : Int) (M' : Mem), (7 - s).toNat = t → (1 ≤ s ∧ s ≤ 7) → (0 ≤ k ∧ k ≤ 60) → (CO M v n A hi vi tp sz fa (N + 120) 0 0 M') → (StOk M' 54 v N) → (StOk M' 144 v N) → ((s = 1 ∧ z = (if b = 0 then 1000000 else 0)) ∨ (2 ≤ s ∧ z = spanR v k b (s - 1).toNat ∧ 0 ≤ z ∧ z ≤ 9999)) → WP G d mX1_span 30 [some (dR 0), some (dI k), some (dI b), some (dI z), some (dI s), none] [] (M') Q := by
    intro t
    induction t using Nat.strongRecOn with
    | _ t ih =>
      intro s z M' ht z0 hk hCO h54 h144 hz
      have hC := hCO.1
      obtain ⟨hC1, hC54, hCA, hCR⟩ := id hC; obtain ⟨hS, hTab, hTx, hLn, hSk, hnx⟩ := id hC1; obtain ⟨hA, hL, hR⟩ := id hC54; obtain ⟨⟨s0, s199, s200, s201, s202, s203⟩, ⟨c0, c1, c2, c3, c4, c5, c6, c7, c8, c9, c10, c11, c12⟩, c203, hSt, m189, m191, g193, g196, ⟨⟨r2, r3, r4, r5, r6, r7, r53⟩, ⟨w0, w1, w2, w3, w4, w5, w6⟩, wx1, wx2, wx3⟩⟩ := id hS; have hv := hA.1; have hv8 := hv.n8; have hv0 := hv.1.1; have hv3 := hv.2.2.2.1; have hs54 := hSt 54 (by unfold SB; omega); obtain ⟨p0, p1, ⟨d0, d1, d2, d3, d4, d5, d6, d7⟩, ⟨t1, t2, t3, t4, t5, t6⟩, p5, p6, p7⟩ := id hs54; have t7 : msh (M') (54 + 7) = some (4, 0) := p5.2.1; have t10 : msh (M') (54 + 10) = some (4, 0) := p6.2.1; obtain ⟨hB, hW, hLw⟩ := id hR.1; obtain ⟨b1, b2, b3, b4, b5, b6, b7, b8, b9, b10, b11, b12, b13, b14, b15⟩ := id hB; obtain ⟨hn, hn2, hat, hAc⟩ := id hCA; obtain ⟨⟨hki, hhi⟩, hIm, ⟨htp, hsz, hsz2⟩, hfa⟩ := id hCR
      have hs144 := (hSt 144 (by unfold SB; omega)).2.1
      by_cases hs7 : s ≤ 6
      · have hA1 : okA (us v 11 s) := hA.us (Or.inr (Or.inr rfl))
        have hL1 : lawOK (us v 11 s) := hL.lo (us_n (by omega)) (fun k a b => us_n (by omega))
        have hpr := purseS_r (n := k) (s := s) hA hL
        have es : spanR v k b (s + 1 - 1).toNat = (if spanR v k b (s - 1).toNat < 0 then purseS v k s else if b = 0 then (if spanR v k b (s - 1).toNat ≤ purseS v k s then spanR v k b (s - 1).toNat else purseS v k s) else (if spanR v k b (s - 1).toNat ≤ purseS v k s then purseS v k s else spanR v k b (s - 1).toNat)) := by
          rw [show (s + 1 - 1).toNat = (s - 1).toNat + 1 by omega]
          have : (((s - 1).toNat + 1 : Nat) : Int) = s := by omega
          rw [spanR_s, this]
        have n54 : StOk (wI M' (up (mci M') 54 18 s)) 54 (us v 11 s) N := ⟨hA1, hL1, h54.2.2.sc hA.1 (Or.inr (Or.inr ⟨rfl, rfl⟩)) (by omega)⟩
        have hc2 : CO M' (us v 11 s) n A hi vi tp sz fa (N + 120) 0 0 (wI M' (up (mci M') 54 18 s)) := hC.now (g := up (mci M') 54 18 s) (v' := us v 11 s) (N' := N + 120) (fun b k q1 q2 => rdU_n (by omega)) ⟨by rw [rdU_n (by omega)]; exact hSk.2.1, by rw [rdU_n (by omega)]; exact hSk.2.2.1, by rw [rdU_n (by omega)]; exact hSk.2.2.2.1, by rw [rdU_n (by omega)]; exact hSk.2.2.2.2⟩ (n54.up (by omega)) (Int.le_refl _) (fun k a b => us_n (by omega))
        have n144 : StOk (wI M' (up (mci M') 54 18 s)) 144 v N := h144.wr fun b k q => rdU_n (by omega)
        refine x_iload dX1_span_30 rfl ?_
        refine x_bipush dX1_span_32 rfl ?_
        refine x_icmp_gt (tgt := 101) dX1_span_34 (by decide) (fun h34 => ?_) (fun h34 => ?_)
        · omega
        · refine x_aload_n dX1_span_37 rfl rfl ?_
          refine g_getR (kI := 1) rfl dX1_span_38 fX1_22_1 (by first | assumption | first | assumption | (simp (disch := omega) only [shI, shR, shL, shC, shD, shW, sh_V, shN_e, shN_n, crI, crL, crC, crW, crV, crR_e, crR_n, crN_e, crN_n, ciR, ciL, ciD, ciN_e, ciN_n, rdI_e, rdI_n, rdC_i, rdC_o, rdW, rdU_e, rdU_n, rdLW, clI, clR, clC, clD, clW, clV, clN_e, clN_n, clL_e, clL_n]; done) | (simp (disch := omega) only [shI, shR, shL, shC, shD, shW, sh_V, shN_e, shN_n, crI, crL, crC, crW, crV, crR_e, crR_n, crN_e, crN_n, ciR, ciL, ciD, ciN_e, ciN_n, rdI_e, rdI_n, rdC_i, rdC_o, rdW, rdU_e, rdU_n, rdLW, clI, clR, clC, clD, clW, clV, clN_e, clN_n, clL_e, clL_n] <;> first | assumption | rfl | omega)) (by first | assumption | first | assumption | (simp (disch := omega) only [shI, shR, shL, shC, shD, shW, sh_V, shN_e, shN_n, crI, crL, crC, crW, crV, crR_e, crR_n, crN_e, crN_n, ciR, ciL, ciD, ciN_e, ciN_n, rdI_e, rdI_n, rdC_i, rdC_o, rdW, rdU_e, rdU_n, rdLW, clI, clR, clC, clD, clW, clV, clN_e, clN_n, clL_e, clL_n]; done) | (simp (disch := omega) only [shI, shR, shL, shC, shD, shW, sh_V, shN_e, shN_n, crI, crL, crC, crW, crV, crR_e, crR_n, crN_e, crN_n, ciR, ciL, ciD, ciN_e, ciN_n, rdI_e, rdI_n, rdC_i, rdC_o, rdW, rdU_e, rdU_n, rdLW, clI, clR, clC, clD, clW, clV, clN_e, clN_n, clL_e, clL_n] <;> first | assumption | rfl | omega)) ?_
          refine x_iload dX1_span_41 rfl ?_
          refine g_putI (kI := 18) rfl dX1_span_43 fX1_439_3 (by first | assumption | first | assumption | (simp (disch := omega) only [shI, shR, shL, shC, shD, shW, sh_V, shN_e, shN_n, crI, crL, crC, crW, crV, crR_e, crR_n, crN_e, crN_n, ciR, ciL, ciD, ciN_e, ciN_n, rdI_e, rdI_n, rdC_i, rdC_o, rdW, rdU_e, rdU_n, rdLW, clI, clR, clC, clD, clW, clV, clN_e, clN_n, clL_e, clL_n]; done) | (simp (disch := omega) only [shI, shR, shL, shC, shD, shW, sh_V, shN_e, shN_n, crI, crL, crC, crW, crV, crR_e, crR_n, crN_e, crN_n, ciR, ciL, ciD, ciN_e, ciN_n, rdI_e, rdI_n, rdC_i, rdC_o, rdW, rdU_e, rdU_n, rdLW, clI, clR, clC, clD, clW, clV, clN_e, clN_n, clL_e, clL_n] <;> first | assumption | rfl | omega)) ?_
          refine x_aload_n dX1_span_46 rfl rfl ?_
          refine x_iload_n dX1_span_47 rfl rfl ?_
          refine x_iconst dX1_span_48 rfl ?_
          refine g_callI (vs := [_, _, _]) (d' := d - 1) rfl (s_X1_goOn (M := wI M' (up (mci M') 54 18 s)) (v := us v 11 s) (N := N) (by omega) hc2.1.1.1 n54 hnx (Or.inr rfl) hk hN) dX1_span_49 kX1_326 (by omega) (by decide) rfl (Nat.le_of_ble_eq_true rfl) (rcv_o (by first | assumption | first | assumption | (simp (disch := omega) only [shI, shR, shL, shC, shD, shW, sh_V, shN_e, shN_n, crI, crL, crC, crW, crV, crR_e, crR_n, crN_e, crN_n, ciR, ciL, ciD, ciN_e, ciN_n, rdI_e, rdI_n, rdC_i, rdC_o, rdW, rdU_e, rdU_n, rdLW, clI, clR, clC, clD, clW, clV, clN_e, clN_n, clL_e, clL_n]; done) | (simp (disch := omega) only [shI, shR, shL, shC, shD, shW, sh_V, shN_e, shN_n, crI, crL, crC, crW, crV, crR_e, crR_n, crN_e, crN_n, ciR, ciL, ciD, ciN_e, ciN_n, rdI_e, rdI_n, rdC_i, rdC_o, rdW, rdU_e, rdU_n, rdLW, clI, clR, clC, clD, clW, clV, clN_e, clN_n, clL_e, clL_n] <;> first | assumption | rfl | omega)) rfl) (fun x49 M49 h49 => ?_)
          obtain ⟨e49, g49, hM49, a49, f49⟩ := h49
          subst hM49
          rw [e11] at a49
          have sk2 := hc2.1.1.2.2.2.2.1
          have r1 : g49 54 17 = purseS v k s := a49.2.2.1.1.2.2.2.2.2.2.2.2.1
          have hx := hc2.1.now (g := g49) (v' := goT (us v 11 s) True k.toNat) (N' := N + 120) (fun b k q1 q2 => f49 b k (by omega)) ⟨by rw [f49 _ _ (by omega)]; exact sk2.2.1, by rw [f49 _ _ (by omega)]; exact sk2.2.2.1, by rw [f49 _ _ (by omega)]; exact sk2.2.2.2.1, by rw [f49 _ _ (by omega)]; exact sk2.2.2.2.2⟩ (a49.up (by omega)) (Int.le_refl _) (fun k a b => goT_hi hA1 hL1 k a)
          have s144 : StOk (wI (wI M' (up (mci M') 54 18 s)) g49) 144 v N := n144.wr fun b k q => f49 b k (by omega)
          refine x_istore (L' := [some _, some _, some _, some _, some _, some _]) dX1_span_52 (by decide) rfl ?_
          refine x_iload_n dX1_span_54 rfl rfl ?_
          refine x_if_eq (tgt := 72) dX1_span_55 (by decide) (fun h55 => ?_) (fun h55 => ?_)
          · refine x_iload_n dX1_span_72 rfl rfl ?_
            refine x_aload_n dX1_span_73 rfl rfl ?_
            refine g_getR (kI := 1) rfl dX1_span_74 fX1_22_1 (by first | assumption | first | assumption | (simp (disch := omega) only [shI, shR, shL, shC, shD, shW, sh_V, shN_e, shN_n, crI, crL, crC, crW, crV, crR_e, crR_n, crN_e, crN_n, ciR, ciL, ciD, ciN_e, ciN_n, rdI_e, rdI_n, rdC_i, rdC_o, rdW, rdU_e, rdU_n, rdLW, clI, clR, clC, clD, clW, clV, clN_e, clN_n, clL_e, clL_n]; done) | (simp (disch := omega) only [shI, shR, shL, shC, shD, shW, sh_V, shN_e, shN_n, crI, crL, crC, crW, crV, crR_e, crR_n, crN_e, crN_n, ciR, ciL, ciD, ciN_e, ciN_n, rdI_e, rdI_n, rdC_i, rdC_o, rdW, rdU_e, rdU_n, rdLW, clI, clR, clC, clD, clW, clV, clN_e, clN_n, clL_e, clL_n] <;> first | assumption | rfl | omega)) (by first | assumption | first | assumption | (simp (disch := omega) only [shI, shR, shL, shC, shD, shW, sh_V, shN_e, shN_n, crI, crL, crC, crW, crV, crR_e, crR_n, crN_e, crN_n, ciR, ciL, ciD, ciN_e, ciN_n, rdI_e, rdI_n, rdC_i, rdC_o, rdW, rdU_e, rdU_n, rdLW, clI, clR, clC, clD, clW, clV, clN_e, clN_n, clL_e, clL_n]; done) | (simp (disch := omega) only [shI, shR, shL, shC, shD, shW, sh_V, shN_e, shN_n, crI, crL, crC, crW, crV, crR_e, crR_n, crN_e, crN_n, ciR, ciL, ciD, ciN_e, ciN_n, rdI_e, rdI_n, rdC_i, rdC_o, rdW, rdU_e, rdU_n, rdLW, clI, clR, clC, clD, clW, clV, clN_e, clN_n, clL_e, clL_n] <;> first | assumption | rfl | omega)) ?_
            refine g_getI (kI := 17) rfl dX1_span_77 fX1_436_3 (by first | assumption | first | assumption | (simp (disch := omega) only [shI, shR, shL, shC, shD, shW, sh_V, shN_e, shN_n, crI, crL, crC, crW, crV, crR_e, crR_n, crN_e, crN_n, ciR, ciL, ciD, ciN_e, ciN_n, rdI_e, rdI_n, rdC_i, rdC_o, rdW, rdU_e, rdU_n, rdLW, clI, clR, clC, clD, clW, clV, clN_e, clN_n, clL_e, clL_n]; done) | (simp (disch := omega) only [shI, shR, shL, shC, shD, shW, sh_V, shN_e, shN_n, crI, crL, crC, crW, crV, crR_e, crR_n, crN_e, crN_n, ciR, ciL, ciD, ciN_e, ciN_n, rdI_e, rdI_n, rdC_i, rdC_o, rdW, rdU_e, rdU_n, rdLW, clI, clR, clC, clD, clW, clV, clN_e, clN_n, clL_e, clL_n] <;> first | assumption | rfl | omega)) ?_
            try simp (disch := omega) only [rdI_e, rdI_n, rdC_i, rdC_o, rdW, rdR, rdU_e, rdU_n, rdLW, Int.add_zero, r1]
            refine g_callI (vs := [_, _]) (d' := d - 1) rfl (s_min (by omega)) dX1_span_80 kX1_313 (by omega) (by decide) rfl (Nat.le_of_ble_eq_true rfl) (rcv_n) (fun x80 M80 h80 => ?_)
            obtain ⟨e80, f80⟩ := h80
            have f80' := f80.symm
            subst f80'
            refine x_istore_n (L' := [some _, some _, some _, some _, some _, some _]) dX1_span_83 rfl (by decide) rfl ?_
            refine x_aload_n dX1_span_84 rfl rfl ?_
            refine g_getR (kI := 1) rfl dX1_span_85 fX1_22_1 (by first | assumption | first | assumption | (simp (disch := omega) only [shI, shR, shL, shC, shD, shW, sh_V, shN_e, shN_n, crI, crL, crC, crW, crV, crR_e, crR_n, crN_e, crN_n, ciR, ciL, ciD, ciN_e, ciN_n, rdI_e, rdI_n, rdC_i, rdC_o, rdW, rdU_e, rdU_n, rdLW, clI, clR, clC, clD, clW, clV, clN_e, clN_n, clL_e, clL_n]; done) | (simp (disch := omega) only [shI, shR, shL, shC, shD, shW, sh_V, shN_e, shN_n, crI, crL, crC, crW, crV, crR_e, crR_n, crN_e, crN_n, ciR, ciL, ciD, ciN_e, ciN_n, rdI_e, rdI_n, rdC_i, rdC_o, rdW, rdU_e, rdU_n, rdLW, clI, clR, clC, clD, clW, clV, clN_e, clN_n, clL_e, clL_n] <;> first | assumption | rfl | omega)) (by first | assumption | first | assumption | (simp (disch := omega) only [shI, shR, shL, shC, shD, shW, sh_V, shN_e, shN_n, crI, crL, crC, crW, crV, crR_e, crR_n, crN_e, crN_n, ciR, ciL, ciD, ciN_e, ciN_n, rdI_e, rdI_n, rdC_i, rdC_o, rdW, rdU_e, rdU_n, rdLW, clI, clR, clC, clD, clW, clV, clN_e, clN_n, clL_e, clL_n]; done) | (simp (disch := omega) only [shI, shR, shL, shC, shD, shW, sh_V, shN_e, shN_n, crI, crL, crC, crW, crV, crR_e, crR_n, crN_e, crN_n, ciR, ciL, ciD, ciN_e, ciN_n, rdI_e, rdI_n, rdC_i, rdC_o, rdW, rdU_e, rdU_n, rdLW, clI, clR, clC, clD, clW, clV, clN_e, clN_n, clL_e, clL_n] <;> first | assumption | rfl | omega)) ?_
            refine x_aload_n dX1_span_88 rfl rfl ?_
            refine g_getR (kI := 3) rfl dX1_span_89 fX1_29_1 (by first | assumption | first | assumption | (simp (disch := omega) only [shI, shR, shL, shC, shD, shW, sh_V, shN_e, shN_n, crI, crL, crC, crW, crV, crR_e, crR_n, crN_e, crN_n, ciR, ciL, ciD, ciN_e, ciN_n, rdI_e, rdI_n, rdC_i, rdC_o, rdW, rdU_e, rdU_n, rdLW, clI, clR, clC, clD, clW, clV, clN_e, clN_n, clL_e, clL_n]; done) | (simp (disch := omega) only [shI, shR, shL, shC, shD, shW, sh_V, shN_e, shN_n, crI, crL, crC, crW, crV, crR_e, crR_n, crN_e, crN_n, ciR, ciL, ciD, ciN_e, ciN_n, rdI_e, rdI_n, rdC_i, rdC_o, rdW, rdU_e, rdU_n, rdLW, clI, clR, clC, clD, clW, clV, clN_e, clN_n, clL_e, clL_n] <;> first | assumption | rfl | omega)) (by first | assumption | first | assumption | (simp (disch := omega) only [shI, shR, shL, shC, shD, shW, sh_V, shN_e, shN_n, crI, crL, crC, crW, crV, crR_e, crR_n, crN_e, crN_n, ciR, ciL, ciD, ciN_e, ciN_n, rdI_e, rdI_n, rdC_i, rdC_o, rdW, rdU_e, rdU_n, rdLW, clI, clR, clC, clD, clW, clV, clN_e, clN_n, clL_e, clL_n]; done) | (simp (disch := omega) only [shI, shR, shL, shC, shD, shW, sh_V, shN_e, shN_n, crI, crL, crC, crW, crV, crR_e, crR_n, crN_e, crN_n, ciR, ciL, ciD, ciN_e, ciN_n, rdI_e, rdI_n, rdC_i, rdC_o, rdW, rdU_e, rdU_n, rdLW, clI, clR, clC, clD, clW, clV, clN_e, clN_n, clL_e, clL_n] <;> first | assumption | rfl | omega)) ?_
            refine g_callN (vs := [_, _]) (d' := d - 1) rfl (be_ok (M := wI (wI M' (up (mci M') 54 18 s)) g49) (p := 54) (o := 144) (u := v) (N := N) (by omega) hx.1.1 (by unfold SB; omega) (by unfold SB; omega) (by omega) s144) dX1_span_92 kX1_153 (by omega) (by decide) rfl (Nat.le_of_ble_eq_true rfl) (rcv_o (by first | assumption | first | assumption | (simp (disch := omega) only [shI, shR, shL, shC, shD, shW, sh_V, shN_e, shN_n, crI, crL, crC, crW, crV, crR_e, crR_n, crN_e, crN_n, ciR, ciL, ciD, ciN_e, ciN_n, rdI_e, rdI_n, rdC_i, rdC_o, rdW, rdU_e, rdU_n, rdLW, clI, clR, clC, clD, clW, clV, clN_e, clN_n, clL_e, clL_n]; done) | (simp (disch := omega) only [shI, shR, shL, shC, shD, shW, sh_V, shN_e, shN_n, crI, crL, crC, crW, crV, crR_e, crR_n, crN_e, crN_n, ciR, ciL, ciD, ciN_e, ciN_n, rdI_e, rdI_n, rdC_i, rdC_o, rdW, rdU_e, rdU_n, rdLW, clI, clR, clC, clD, clW, clV, clN_e, clN_n, clL_e, clL_n] <;> first | assumption | rfl | omega)) rfl) (fun M92 h92 => ?_)
            obtain ⟨hM92, f92, q92, y92, z92⟩ := h92
            first | refine x_iincN (L' := [some _, some _, some _, some _, some _, some _]) dX1_span_95 rfl (by decide) (by unfold i32; omega) rfl ?_ | refine x_iinc (L' := [some _, some _, some _, some _, some _, some _]) dX1_span_95 rfl (by decide) rfl ?_
            refine x_goto (tgt := 30) dX1_span_98 (by decide) ?_
            have hb2 := CO.bex (N := N + 120) hx.1 (Or.inl rfl) (o := 144) hM92 f92 q92 (y92.up (by omega)) z92 (fun k q1 q2 => ((goT_hi hA1 hL1 k q1).trans (us_n (by omega))).symm)
            have nx : ∀ (z' : Int) (o1 : Option DV), z' = spanR v k b (s + 1 - 1).toNat → (0 ≤ z' ∧ z' ≤ 9999) → WP G d mX1_span 30 [some (dR 0), some (dI k), some (dI b), some (dI z'), some (dI (s + 1)), o1] [] M92 Q := fun z' o1 q1 q2 => x_fgt (L' := [some (dR 0), some (dI k), some (dI b), some (dI z'), some (dI (s + 1)), none]) (by repeat (first | exact trivial | refine ⟨rfl, ?_⟩)) (ih _ (by omega) (s + 1) z' M92 rfl (by omega) hk (CO.tr hCO.2 (CO.tr hc2.2 (CO.tr hx.2 hb2))) y92 (z92 144 v N (by unfold SB; omega) (by omega) s144) (Or.inr ⟨by omega, q1, q2⟩))
            rcases hz with ⟨y1, y2⟩ | ⟨y1, y2, y3⟩
            · have e0 : spanR v k b (s - 1).toNat = -1 := by rw [y1]; rfl
              rw [e0, if_pos (by omega)] at es
              first
              | (rw [if_pos h55] at y2
                 exact nx _ _ (by rw [es]; omega) (by omega))
              | (rw [if_neg h55] at y2
                 exact nx _ _ (by rw [es]; omega) (by omega))
            · rw [← y2, if_neg (by omega)] at es
              first
              | (rw [if_pos h55] at es
                 refine nx _ _ ?_ (by omega)
                 rw [es]
                 split <;> omega)
              | (rw [if_neg h55] at es
                 refine nx _ _ ?_ (by omega)
                 rw [es]
                 split <;> omega)
          · refine x_iload_n dX1_span_58 rfl rfl ?_
            refine x_aload_n dX1_span_59 rfl rfl ?_
            refine g_getR (kI := 1) rfl dX1_span_60 fX1_22_1 (by first | assumption | first | assumption | (simp (disch := omega) only [shI, shR, shL, shC, shD, shW, sh_V, shN_e, shN_n, crI, crL, crC, crW, crV, crR_e, crR_n, crN_e, crN_n, ciR, ciL, ciD, ciN_e, ciN_n, rdI_e, rdI_n, rdC_i, rdC_o, rdW, rdU_e, rdU_n, rdLW, clI, clR, clC, clD, clW, clV, clN_e, clN_n, clL_e, clL_n]; done) | (simp (disch := omega) only [shI, shR, shL, shC, shD, shW, sh_V, shN_e, shN_n, crI, crL, crC, crW, crV, crR_e, crR_n, crN_e, crN_n, ciR, ciL, ciD, ciN_e, ciN_n, rdI_e, rdI_n, rdC_i, rdC_o, rdW, rdU_e, rdU_n, rdLW, clI, clR, clC, clD, clW, clV, clN_e, clN_n, clL_e, clL_n] <;> first | assumption | rfl | omega)) (by first | assumption | first | assumption | (simp (disch := omega) only [shI, shR, shL, shC, shD, shW, sh_V, shN_e, shN_n, crI, crL, crC, crW, crV, crR_e, crR_n, crN_e, crN_n, ciR, ciL, ciD, ciN_e, ciN_n, rdI_e, rdI_n, rdC_i, rdC_o, rdW, rdU_e, rdU_n, rdLW, clI, clR, clC, clD, clW, clV, clN_e, clN_n, clL_e, clL_n]; done) | (simp (disch := omega) only [shI, shR, shL, shC, shD, shW, sh_V, shN_e, shN_n, crI, crL, crC, crW, crV, crR_e, crR_n, crN_e, crN_n, ciR, ciL, ciD, ciN_e, ciN_n, rdI_e, rdI_n, rdC_i, rdC_o, rdW, rdU_e, rdU_n, rdLW, clI, clR, clC, clD, clW, clV, clN_e, clN_n, clL_e, clL_n] <;> first | assumption | rfl | omega)) ?_
            refine g_getI (kI := 17) rfl dX1_span_63 fX1_436_3 (by first | assumption | first | assumption | (simp (disch := omega) only [shI, shR, shL, shC, shD, shW, sh_V, shN_e, shN_n, crI, crL, crC, crW, crV, crR_e, crR_n, crN_e, crN_n, ciR, ciL, ciD, ciN_e, ciN_n, rdI_e, rdI_n, rdC_i, rdC_o, rdW, rdU_e, rdU_n, rdLW, clI, clR, clC, clD, clW, clV, clN_e, clN_n, clL_e, clL_n]; done) | (simp (disch := omega) only [shI, shR, shL, shC, shD, shW, sh_V, shN_e, shN_n, crI, crL, crC, crW, crV, crR_e, crR_n, crN_e, crN_n, ciR, ciL, ciD, ciN_e, ciN_n, rdI_e, rdI_n, rdC_i, rdC_o, rdW, rdU_e, rdU_n, rdLW, clI, clR, clC, clD, clW, clV, clN_e, clN_n, clL_e, clL_n] <;> first | assumption | rfl | omega)) ?_
            try simp (disch := omega) only [rdI_e, rdI_n, rdC_i, rdC_o, rdW, rdR, rdU_e, rdU_n, rdLW, Int.add_zero, r1]
            refine g_callI (vs := [_, _]) (d' := d - 1) rfl (s_max (by omega)) dX1_span_66 kX1_335 (by omega) (by decide) rfl (Nat.le_of_ble_eq_true rfl) (rcv_n) (fun x66 M66 h66 => ?_)
            obtain ⟨e66, f66⟩ := h66
            have f66' := f66.symm
            subst f66'
            refine x_goto (tgt := 83) dX1_span_69 (by decide) ?_
            refine x_istore_n (L' := [some _, some _, some _, some _, some _, some _]) dX1_span_83 rfl (by decide) rfl ?_
            refine x_aload_n dX1_span_84 rfl rfl ?_
            refine g_getR (kI := 1) rfl dX1_span_85 fX1_22_1 (by first | assumption | first | assumption | (simp (disch := omega) only [shI, shR, shL, shC, shD, shW, sh_V, shN_e, shN_n, crI, crL, crC, crW, crV, crR_e, crR_n, crN_e, crN_n, ciR, ciL, ciD, ciN_e, ciN_n, rdI_e, rdI_n, rdC_i, rdC_o, rdW, rdU_e, rdU_n, rdLW, clI, clR, clC, clD, clW, clV, clN_e, clN_n, clL_e, clL_n]; done) | (simp (disch := omega) only [shI, shR, shL, shC, shD, shW, sh_V, shN_e, shN_n, crI, crL, crC, crW, crV, crR_e, crR_n, crN_e, crN_n, ciR, ciL, ciD, ciN_e, ciN_n, rdI_e, rdI_n, rdC_i, rdC_o, rdW, rdU_e, rdU_n, rdLW, clI, clR, clC, clD, clW, clV, clN_e, clN_n, clL_e, clL_n] <;> first | assumption | rfl | omega)) (by first | assumption | first | assumption | (simp (disch := omega) only [shI, shR, shL, shC, shD, shW, sh_V, shN_e, shN_n, crI, crL, crC, crW, crV, crR_e, crR_n, crN_e, crN_n, ciR, ciL, ciD, ciN_e, ciN_n, rdI_e, rdI_n, rdC_i, rdC_o, rdW, rdU_e, rdU_n, rdLW, clI, clR, clC, clD, clW, clV, clN_e, clN_n, clL_e, clL_n]; done) | (simp (disch := omega) only [shI, shR, shL, shC, shD, shW, sh_V, shN_e, shN_n, crI, crL, crC, crW, crV, crR_e, crR_n, crN_e, crN_n, ciR, ciL, ciD, ciN_e, ciN_n, rdI_e, rdI_n, rdC_i, rdC_o, rdW, rdU_e, rdU_n, rdLW, clI, clR, clC, clD, clW, clV, clN_e, clN_n, clL_e, clL_n] <;> first | assumption | rfl | omega)) ?_
            refine x_aload_n dX1_span_88 rfl rfl ?_
            refine g_getR (kI := 3) rfl dX1_span_89 fX1_29_1 (by first | assumption | first | assumption | (simp (disch := omega) only [shI, shR, shL, shC, shD, shW, sh_V, shN_e, shN_n, crI, crL, crC, crW, crV, crR_e, crR_n, crN_e, crN_n, ciR, ciL, ciD, ciN_e, ciN_n, rdI_e, rdI_n, rdC_i, rdC_o, rdW, rdU_e, rdU_n, rdLW, clI, clR, clC, clD, clW, clV, clN_e, clN_n, clL_e, clL_n]; done) | (simp (disch := omega) only [shI, shR, shL, shC, shD, shW, sh_V, shN_e, shN_n, crI, crL, crC, crW, crV, crR_e, crR_n, crN_e, crN_n, ciR, ciL, ciD, ciN_e, ciN_n, rdI_e, rdI_n, rdC_i, rdC_o, rdW, rdU_e, rdU_n, rdLW, clI, clR, clC, clD, clW, clV, clN_e, clN_n, clL_e, clL_n] <;> first | assumption | rfl | omega)) (by first | assumption | first | assumption | (simp (disch := omega) only [shI, shR, shL, shC, shD, shW, sh_V, shN_e, shN_n, crI, crL, crC, crW, crV, crR_e, crR_n, crN_e, crN_n, ciR, ciL, ciD, ciN_e, ciN_n, rdI_e, rdI_n, rdC_i, rdC_o, rdW, rdU_e, rdU_n, rdLW, clI, clR, clC, clD, clW, clV, clN_e, clN_n, clL_e, clL_n]; done) | (simp (disch := omega) only [shI, shR, shL, shC, shD, shW, sh_V, shN_e, shN_n, crI, crL, crC, crW, crV, crR_e, crR_n, crN_e, crN_n, ciR, ciL, ciD, ciN_e, ciN_n, rdI_e, rdI_n, rdC_i, rdC_o, rdW, rdU_e, rdU_n, rdLW, clI, clR, clC, clD, clW, clV, clN_e, clN_n, clL_e, clL_n] <;> first | assumption | rfl | omega)) ?_
            refine g_callN (vs := [_, _]) (d' := d - 1) rfl (be_ok (M := wI (wI M' (up (mci M') 54 18 s)) g49) (p := 54) (o := 144) (u := v) (N := N) (by omega) hx.1.1 (by unfold SB; omega) (by unfold SB; omega) (by omega) s144) dX1_span_92 kX1_153 (by omega) (by decide) rfl (Nat.le_of_ble_eq_true rfl) (rcv_o (by first | assumption | first | assumption | (simp (disch := omega) only [shI, shR, shL, shC, shD, shW, sh_V, shN_e, shN_n, crI, crL, crC, crW, crV, crR_e, crR_n, crN_e, crN_n, ciR, ciL, ciD, ciN_e, ciN_n, rdI_e, rdI_n, rdC_i, rdC_o, rdW, rdU_e, rdU_n, rdLW, clI, clR, clC, clD, clW, clV, clN_e, clN_n, clL_e, clL_n]; done) | (simp (disch := omega) only [shI, shR, shL, shC, shD, shW, sh_V, shN_e, shN_n, crI, crL, crC, crW, crV, crR_e, crR_n, crN_e, crN_n, ciR, ciL, ciD, ciN_e, ciN_n, rdI_e, rdI_n, rdC_i, rdC_o, rdW, rdU_e, rdU_n, rdLW, clI, clR, clC, clD, clW, clV, clN_e, clN_n, clL_e, clL_n] <;> first | assumption | rfl | omega)) rfl) (fun M92 h92 => ?_)
            obtain ⟨hM92, f92, q92, y92, z92⟩ := h92
            first | refine x_iincN (L' := [some _, some _, some _, some _, some _, some _]) dX1_span_95 rfl (by decide) (by unfold i32; omega) rfl ?_ | refine x_iinc (L' := [some _, some _, some _, some _, some _, some _]) dX1_span_95 rfl (by decide) rfl ?_
            refine x_goto (tgt := 30) dX1_span_98 (by decide) ?_
            have hb2 := CO.bex (N := N + 120) hx.1 (Or.inl rfl) (o := 144) hM92 f92 q92 (y92.up (by omega)) z92 (fun k q1 q2 => ((goT_hi hA1 hL1 k q1).trans (us_n (by omega))).symm)
            have nx : ∀ (z' : Int) (o1 : Option DV), z' = spanR v k b (s + 1 - 1).toNat → (0 ≤ z' ∧ z' ≤ 9999) → WP G d mX1_span 30 [some (dR 0), some (dI k), some (dI b), some (dI z'), some (dI (s + 1)), o1] [] M92 Q := fun z' o1 q1 q2 => x_fgt (L' := [some (dR 0), some (dI k), some (dI b), some (dI z'), some (dI (s + 1)), none]) (by repeat (first | exact trivial | refine ⟨rfl, ?_⟩)) (ih _ (by omega) (s + 1) z' M92 rfl (by omega) hk (CO.tr hCO.2 (CO.tr hc2.2 (CO.tr hx.2 hb2))) y92 (z92 144 v N (by unfold SB; omega) (by omega) s144) (Or.inr ⟨by omega, q1, q2⟩))
            rcases hz with ⟨y1, y2⟩ | ⟨y1, y2, y3⟩
            · have e0 : spanR v k b (s - 1).toNat = -1 := by rw [y1]; rfl
              rw [e0, if_pos (by omega)] at es
              first
              | (rw [if_pos h55] at y2
                 exact nx _ _ (by rw [es]; omega) (by omega))
              | (rw [if_neg h55] at y2
                 exact nx _ _ (by rw [es]; omega) (by omega))
            · rw [← y2, if_neg (by omega)] at es
              first
              | (rw [if_pos h55] at es
                 refine nx _ _ ?_ (by omega)
                 rw [es]
                 split <;> omega)
              | (rw [if_neg h55] at es
                 refine nx _ _ ?_ (by omega)
                 rw [es]
                 split <;> omega)
      · refine x_iload dX1_span_30 rfl ?_
        refine x_bipush dX1_span_32 rfl ?_
        refine x_icmp_gt (tgt := 101) dX1_span_34 (by decide) (fun h34 => ?_) (fun h34 => ?_)
        · refine x_iload_n dX1_span_101 rfl rfl ?_
          refine x_ireturn rfl dX1_span_102 ?_
          refine hQ _ _ (Or.inl ⟨_, rfl, hk, ?_, hCO⟩)
          unfold spanAns
          rcases hz with q | q
          · omega
          · rw [q.2.1, show (s - 1).toNat = 6 by omega]
        · omega
  obtain ⟨hC1, hC54, hCA, hCR⟩ := id hC; obtain ⟨hS, hTab, hTx, hLn, hSk, hnx⟩ := id hC1; obtain ⟨hA, hL, hR⟩ := id hC54; obtain ⟨⟨s0, s199, s200, s201, s202, s203⟩, ⟨c0, c1, c2, c3, c4, c5, c6, c7, c8, c9, c10, c11, c12⟩, c203, hSt, m189, m191, g193, g196, ⟨⟨r2, r3, r4, r5, r6, r7, r53⟩, ⟨w0, w1, w2, w3, w4, w5, w6⟩, wx1, wx2, wx3⟩⟩ := id hS; have hv := hA.1; have hv8 := hv.n8; have hv0 := hv.1.1; have hv3 := hv.2.2.2.1; have hs54 := hSt 54 (by unfold SB; omega); obtain ⟨p0, p1, ⟨d0, d1, d2, d3, d4, d5, d6, d7⟩, ⟨t1, t2, t3, t4, t5, t6⟩, p5, p6, p7⟩ := id hs54; have t7 : msh M (54 + 7) = some (4, 0) := p5.2.1; have t10 : msh M (54 + 10) = some (4, 0) := p6.2.1; obtain ⟨hB, hW, hLw⟩ := id hR.1; obtain ⟨b1, b2, b3, b4, b5, b6, b7, b8, b9, b10, b11, b12, b13, b14, b15⟩ := id hB; obtain ⟨hn, hn2, hat, hAc⟩ := id hCA; obtain ⟨⟨hki, hhi⟩, hIm, ⟨htp, hsz, hsz2⟩, hfa⟩ := id hCR
  have h144 := (hSt 144 (by unfold SB; omega)).2.1
  refine x_iload_n dX1_span_0 rfl rfl ?_
  refine g_callNX (vs := [_]) (d' := d - 1) rfl (s_X1_areSteps (by omega)) dX1_span_1 kX1_371 (by omega) (by decide) rfl (Nat.le_of_ble_eq_true rfl) (rcv_n) (fun M1 h1 => ?_) (fun a1 E1 M1 h1 => ?_)
  · obtain ⟨q1, e1⟩ := h1
    subst e1
    refine x_aload_n dX1_span_4 rfl rfl ?_
    refine g_getR (kI := 3) rfl dX1_span_5 fX1_29_1 (by first | assumption | first | assumption | (simp (disch := omega) only [shI, shR, shL, shC, shD, shW, sh_V, shN_e, shN_n, crI, crL, crC, crW, crV, crR_e, crR_n, crN_e, crN_n, ciR, ciL, ciD, ciN_e, ciN_n, rdI_e, rdI_n, rdC_i, rdC_o, rdW, rdU_e, rdU_n, rdLW, clI, clR, clC, clD, clW, clV, clN_e, clN_n, clL_e, clL_n]; done) | (simp (disch := omega) only [shI, shR, shL, shC, shD, shW, sh_V, shN_e, shN_n, crI, crL, crC, crW, crV, crR_e, crR_n, crN_e, crN_n, ciR, ciL, ciD, ciN_e, ciN_n, rdI_e, rdI_n, rdC_i, rdC_o, rdW, rdU_e, rdU_n, rdLW, clI, clR, clC, clD, clW, clV, clN_e, clN_n, clL_e, clL_n] <;> first | assumption | rfl | omega)) (by first | assumption | first | assumption | (simp (disch := omega) only [shI, shR, shL, shC, shD, shW, sh_V, shN_e, shN_n, crI, crL, crC, crW, crV, crR_e, crR_n, crN_e, crN_n, ciR, ciL, ciD, ciN_e, ciN_n, rdI_e, rdI_n, rdC_i, rdC_o, rdW, rdU_e, rdU_n, rdLW, clI, clR, clC, clD, clW, clV, clN_e, clN_n, clL_e, clL_n]; done) | (simp (disch := omega) only [shI, shR, shL, shC, shD, shW, sh_V, shN_e, shN_n, crI, crL, crC, crW, crV, crR_e, crR_n, crN_e, crN_n, ciR, ciL, ciD, ciN_e, ciN_n, rdI_e, rdI_n, rdC_i, rdC_o, rdW, rdU_e, rdU_n, rdLW, clI, clR, clC, clD, clW, clV, clN_e, clN_n, clL_e, clL_n] <;> first | assumption | rfl | omega)) ?_
    refine x_aload_n dX1_span_8 rfl rfl ?_
    refine g_getR (kI := 1) rfl dX1_span_9 fX1_22_1 (by first | assumption | first | assumption | (simp (disch := omega) only [shI, shR, shL, shC, shD, shW, sh_V, shN_e, shN_n, crI, crL, crC, crW, crV, crR_e, crR_n, crN_e, crN_n, ciR, ciL, ciD, ciN_e, ciN_n, rdI_e, rdI_n, rdC_i, rdC_o, rdW, rdU_e, rdU_n, rdLW, clI, clR, clC, clD, clW, clV, clN_e, clN_n, clL_e, clL_n]; done) | (simp (disch := omega) only [shI, shR, shL, shC, shD, shW, sh_V, shN_e, shN_n, crI, crL, crC, crW, crV, crR_e, crR_n, crN_e, crN_n, ciR, ciL, ciD, ciN_e, ciN_n, rdI_e, rdI_n, rdC_i, rdC_o, rdW, rdU_e, rdU_n, rdLW, clI, clR, clC, clD, clW, clV, clN_e, clN_n, clL_e, clL_n] <;> first | assumption | rfl | omega)) (by first | assumption | first | assumption | (simp (disch := omega) only [shI, shR, shL, shC, shD, shW, sh_V, shN_e, shN_n, crI, crL, crC, crW, crV, crR_e, crR_n, crN_e, crN_n, ciR, ciL, ciD, ciN_e, ciN_n, rdI_e, rdI_n, rdC_i, rdC_o, rdW, rdU_e, rdU_n, rdLW, clI, clR, clC, clD, clW, clV, clN_e, clN_n, clL_e, clL_n]; done) | (simp (disch := omega) only [shI, shR, shL, shC, shD, shW, sh_V, shN_e, shN_n, crI, crL, crC, crW, crV, crR_e, crR_n, crN_e, crN_n, ciR, ciL, ciD, ciN_e, ciN_n, rdI_e, rdI_n, rdC_i, rdC_o, rdW, rdU_e, rdU_n, rdLW, clI, clR, clC, clD, clW, clV, clN_e, clN_n, clL_e, clL_n] <;> first | assumption | rfl | omega)) ?_
    refine g_callN (vs := [_, _]) (d' := d - 1) rfl (be_ok (p := 144) (o := 54) (by omega) hC1 (by unfold SB; omega) (by unfold SB; omega) (by omega) hC54) dX1_span_12 kX1_153 (by omega) (by decide) rfl (Nat.le_of_ble_eq_true rfl) (rcv_o (by first | assumption | first | assumption | (simp (disch := omega) only [shI, shR, shL, shC, shD, shW, sh_V, shN_e, shN_n, crI, crL, crC, crW, crV, crR_e, crR_n, crN_e, crN_n, ciR, ciL, ciD, ciN_e, ciN_n, rdI_e, rdI_n, rdC_i, rdC_o, rdW, rdU_e, rdU_n, rdLW, clI, clR, clC, clD, clW, clV, clN_e, clN_n, clL_e, clL_n]; done) | (simp (disch := omega) only [shI, shR, shL, shC, shD, shW, sh_V, shN_e, shN_n, crI, crL, crC, crW, crV, crR_e, crR_n, crN_e, crN_n, ciR, ciL, ciD, ciN_e, ciN_n, rdI_e, rdI_n, rdC_i, rdC_o, rdW, rdU_e, rdU_n, rdLW, clI, clR, clC, clD, clW, clV, clN_e, clN_n, clL_e, clL_n] <;> first | assumption | rfl | omega)) rfl) (fun M12 h12 => ?_)
    obtain ⟨hM12, f12, q12, y12, z12⟩ := h12
    have s54 := z12 54 v N (by unfold SB; omega) (by omega) hC54
    have hb1 := CO.bex hC (Or.inr rfl) (o := 54) hM12 f12 q12 s54 z12 (fun _ _ _ => rfl)
    have hb3 : CO M v n A hi vi tp sz fa (N + 120) 0 0 M12 := CO.up hb1 (by omega)
    refine x_iload_n dX1_span_15 rfl rfl ?_
    refine x_if_eq (tgt := 23) dX1_span_16 (by decide) (fun h16 => ?_) (fun h16 => ?_)
    · refine x_ldcw (z := 1000000) dX1_span_23 q1548 (by decide) ?_
      refine x_istore_n (L' := [some _, some _, some _, some _, none, none]) dX1_span_26 rfl (by decide) rfl ?_
      refine x_iconst dX1_span_27 rfl ?_
      refine x_istore (L' := [some _, some _, some _, some _, some _, none]) dX1_span_28 (by decide) rfl ?_
      first
      | exact x_fgt (by repeat (first | exact trivial | refine ⟨rfl, ?_⟩)) (lp _ 1 1000000 _ rfl (by omega) (by omega) hb3 s54 y12 (Or.inl (And.intro rfl (if_pos h16).symm)))
      | exact x_fgt (by repeat (first | exact trivial | refine ⟨rfl, ?_⟩)) (lp _ 1 0 _ rfl (by omega) (by omega) hb3 s54 y12 (Or.inl (And.intro rfl (if_neg h16).symm)))
    · refine x_iconst dX1_span_19 rfl ?_
      refine x_goto (tgt := 26) dX1_span_20 (by decide) ?_
      refine x_istore_n (L' := [some _, some _, some _, some _, none, none]) dX1_span_26 rfl (by decide) rfl ?_
      refine x_iconst dX1_span_27 rfl ?_
      refine x_istore (L' := [some _, some _, some _, some _, some _, none]) dX1_span_28 (by decide) rfl ?_
      first
      | exact x_fgt (by repeat (first | exact trivial | refine ⟨rfl, ?_⟩)) (lp _ 1 1000000 _ rfl (by omega) (by omega) hb3 s54 y12 (Or.inl (And.intro rfl (if_pos h16).symm)))
      | exact x_fgt (by repeat (first | exact trivial | refine ⟨rfl, ?_⟩)) (lp _ 1 0 _ rfl (by omega) (by omega) hb3 s54 y12 (Or.inl (And.intro rfl (if_neg h16).symm)))
  · obtain ⟨q1, eE1, eM1⟩ := h1
    subst eE1
    subst eM1
    exact th_nil rfl (hQ _ _ (Or.inr ⟨_, _, rfl, CO.xx hC0, q1, rfl⟩))
end X1

