/-! Reader of laws: rows of conditions -/
theorem rRow_s {tp : Int → Int} {e : Int} {f : LgS → LgR} {w : Nat} {c : Int} {t : Nat} {s : LgS} : rRow tp e f w c (t + 1) s = (if isW tp (skB tp e s.1) (wdB tp e (skB tp e s.1)) (txB w) then
      match f (wdB tp e (skB tp e s.1), s.2) with
      | .inl x => .inl x
      | .inr y => rRow tp e f w c t (em y c 0)
    else .inr (skB tp e s.1, s.2)) := rfl
def rLst (tp : Int → Int) (e : Int) (f : LgS → LgR) (w : Nat) (c : Int) (s : LgS) : LgR := match f s with
  | .inl x => .inl x
  | .inr y => rRow tp e f w c (e.toNat + 1) y
theorem rLst_l {tp : Int → Int} {e : Int} {f : LgS → LgR} {w : Nat} {c x : Int} {s : LgS} (h : f s = .inl x) : rLst tp e f w c s = .inl x := by
  unfold rLst
  rw [h]
theorem rLst_r {tp : Int → Int} {e : Int} {f : LgS → LgR} {w : Nat} {c : Int} {s y : LgS} (h : f s = .inr y) : rLst tp e f w c s = rRow tp e f w c (e.toNat + 1) y := by
  unfold rLst
  rw [h]
theorem rLst_a {tp : Int → Int} {e : Int} {f : LgS → LgR} {s : LgS} : rLst tp e f 32 15 s = rAll tp e f s := rfl
theorem rLst_c {tp : Int → Int} {e : Int} {f : LgS → LgR} {s : LgS} : rLst tp e (rAll tp e f) 33 16 s = rCnd tp e f s := rfl
section X2
variable {G : GW} {d : Nat} {M : Mem} {p e lo hi k n x a b c : Int} {tp : Int → Int} {u : Vw}
theorem row1_ok {f : LgS → LgR} {lv : Nat} {kx ky fx fy dp : Int} (hd : 30 ≤ d) (hf0 : 0 ≤ fx ∧ 0 ≤ fy ∧ 0 ≤ kx ∧ 0 ≤ ky) (hU : Un e f) (hin : ∀ (M : Mem) (p c : Int) (u : Vw), RdX M tp e → 761 ≤ mnx M → 0 ≤ p ∧ p ≤ e → mci M 2 10 = dp → CS G (d - 1) mX2_atom [dR 2] (mP M p) (CX M tp e lv (kx + 1) (ky + 3) fx fy (f (p, c, u)) (p, c, u)))
    (hR : RdX M tp e) (hM : 761 ≤ mnx M) (hp : 0 ≤ p ∧ p ≤ e) (hdp : mci M 2 10 = dp) : CS G d mX2_row [dR 2, dI 1] (mP M p) (CX M tp e (lv + 1) kx ky (fx + 1) (fy + 3) (rLst tp e f 32 15 (p, c, u)) (p, c, u)) := by
  generalize hXX : ((mnx M : Nat) : Int) = X
  have hX7 : 761 ≤ X := by omega
  refine CS.mkQ (by decide) (Nat.le_of_ble_eq_true rfl) fun Q hQ => ?_
  have fin : ∀ (s : LgS) (q l : Int) (m : Nat) (P : Pf) (M1 : Mem), (rLst tp e f 32 15 (p, c, u)) = .inr s → Ev (p, c, u) s (fun fc => vP (P fc)) → 0 ≤ q ∧ q ≤ e → skB tp e q = skB tp e s.1 → Dz M M1 (3 * (s.1 - p) - kx) (12 * (s.1 - p) - ky) → mci M1 2 10 = dp → ChL (msh M1) (mci M1) (mcr M1) (mnx M1) 1 lv m X l P → Q (rV (dR X)) (mP M1 q) := fun s q l m P M1 h1 h2 h3 h4 h5 h6 h7 =>
    hQ _ _ (CX.s h1 h2 h3 h4 h5 (h6.trans hdp.symm) (Or.inr (Or.inr ⟨1, m, by omega, by rw [hXX]; exact h7.cd (Int.le_refl X)⟩)))
  have lp : ∀ (t : Nat) (q l : Int) (m : Nat) (s : LgS) (P : Pf) (M1 : Mem) (fu : Nat), ((fu : Int)).toNat = t → (0 ≤ q ∧ q ≤ e) → (skB tp e q = skB tp e s.1) → ((rLst tp e f 32 15 (p, c, u)) = rRow tp e f 32 15 fu s) → (Ev (p, c, u) s (fun fc => vP (P fc))) → (Gp e 0 0 1 (p, c, u) s) → (e - s.1 < fu) → (Dz M M1 (3 * (s.1 - p) - kx) (12 * (s.1 - p) - ky)) → (mci M1 2 10 = dp) → (ChL (msh M1) (mci M1) (mcr M1) (mnx M1) 1 lv m X l P) → WP G d mX2_row 27 [some (dR 2), some (dI 1), some (dR X), some (dR l)] [] (mP M1 q) Q := by
    intro t
    induction t using Nat.strongRecOn with
    | _ t ih =>
      intro q l m s P M1 fu ht h0 hq hr hE hG hfu hD h10 hL
      have hse : s.1 ≤ e := hG.1.2
      have hs1 : p ≤ s.1 := hG.1.1
      have hnM := hD.nx
      obtain ⟨fu, rfl⟩ : ∃ f2, fu = f2 + 1 := ⟨fu - 1, by omega⟩
      have hR1 : RdX M1 tp e := hR.dz hD (by omega)
      have r2' : msh M1 2 = some (2, 0) := hR1.1.1.1
      have hs := skB_r (tp := tp) hse
      have hw := wdB_r (tp := tp) hs.2
      have hLe := hL.le
      rw [rRow_s] at hr
      by_cases hI : isW tp (skB tp e s.1) (wdB tp e (skB tp e s.1)) (txB 32)
      · rw [if_pos hI] at hr
        have hlen : skB tp e s.1 + 3 = wdB tp e (skB tp e s.1) := by
          have h1 := hI.1
          have h2 : ((txB 32).length : Int) = 3 := rfl
          omega
        generalize hXY : ((mnx M1 : Nat) : Int) = Y
        have hY7 : X ≤ Y := by omega
        have hnxP : ((mnx (mP M1 (wdB tp e (skB tp e s.1))) : Nat) : Int) = Y := hXY
        have hDa : Dr M1 (mNx M1 Y 9 0 3) 1 3 := Dr.rfl.nx hXY
        have hRa : RdX (mNx M1 Y 9 0 3) tp e := hR1.dr hDa (by omega)
        have r2a : msh (mNx M1 Y 9 0 3) 2 = some (2, 0) := hRa.1.1.1
        have ea : mci (mNx M1 Y 9 0 3) 2 10 = dp := (ciN_n (by omega)).trans h10
        have eTa : ((mnx (mNx M1 Y 9 0 3) : Nat) : Int) = Y + 1 := by
          show ((mnx M1 + 1 : Nat) : Int) = Y + 1
          omega
        have hca := hin (mNx M1 Y 9 0 3) (wdB tp e (skB tp e s.1)) s.2.1 s.2.2 hRa (by show 761 ≤ mnx M1 + 1; omega) (by omega) ea
        rcases hf : f (wdB tp e (skB tp e s.1), s.2) with f1 | z
        · rw [hf] at hr
          dsimp only at hr
          refine x_aload_n dX2_row_27 rfl rfl ?_
          refine x_iload_n dX2_row_28 rfl rfl ?_
          refine x_if_eq (tgt := 37) dX2_row_29 (by decide) (fun h29 => ?_) (fun h29 => ?_)
          · simp at h29
          · refine x_ldcs dX2_row_32 (List.mem_of_getElem? (i := 32) rfl) ?_
            refine x_goto (tgt := 39) dX2_row_34 (by decide) ?_
            refine g_callI (vs := [_, _]) (d' := d - 1) rfl (s_X2_takes (i := 32) (by omega) hR1 h0 (by omega) rfl) dX2_row_39 kX2_109 (by omega) (by decide) rfl (Nat.le_of_ble_eq_true rfl) (rcv_o (by first | assumption | first | assumption | (simp (disch := omega) only [shI, shR, shL, shC, shD, shW, sh_V, shN_e, shN_n, crI, crL, crC, crW, crV, crR_e, crR_n, crN_e, crN_n, ciR, ciL, ciD, ciN_e, ciN_n, rdI_e, rdI_n, rdC_i, rdC_o, rdW, rdU_e, rdU_n, rdLW, clI, clR, clC, clD, clW, clV, clN_e, clN_n, clL_e, clL_n]; done) | (simp (disch := omega) only [shI, shR, shL, shC, shD, shW, sh_V, shN_e, shN_n, crI, crL, crC, crW, crV, crR_e, crR_n, crN_e, crN_n, ciR, ciL, ciD, ciN_e, ciN_n, rdI_e, rdI_n, rdC_i, rdC_o, rdW, rdU_e, rdU_n, rdLW, clI, clR, clC, clD, clW, clV, clN_e, clN_n, clL_e, clL_n] <;> first | assumption | rfl | omega)) rfl) (fun x39 M39 h39 => ?_)
            obtain ⟨e39, f39⟩ := h39
            rw [hq, if_pos hI] at f39
            rw [hq, vP_t hI] at e39
            subst e39
            have f39' := f39.symm
            subst f39'
            refine x_if_eq (tgt := 81) dX2_row_42 (by decide) (fun h42 => ?_) (fun h42 => ?_)
            · try simp only [vP_0, vP_1, vP_n0, vP_n1, Classical.not_not] at h42
              simp at h42
            · try simp only [vP_0, vP_1, vP_n0, vP_n1, Classical.not_not] at h42
              refine x_aload_n dX2_row_45 rfl rfl ?_
              refine x_newX (x := Y) (by first | (simp only [nxI, nxR, nxL, nxC, nxD, nxW, nxV, nxN]; done) | (simp only [nxI, nxR, nxL, nxC, nxD, nxW, nxV, nxN]; omega) | omega) (t := 9) rfl q1148 q1149 q170 dX2_row_46 ?_
              refine WP.mem (mP_n (by omega)) ?_
              refine x_dup dX2_row_49 rfl ?_
              refine x_iload_n dX2_row_50 rfl rfl ?_
              refine x_if_eq (tgt := 61) dX2_row_51 (by decide) (fun h51 => ?_) (fun h51 => ?_)
              · simp at h51
              · refine x_aload_n dX2_row_54 rfl rfl ?_
                refine g_callRX (vs := [_]) (d' := d - 1) rfl (hca) dX2_row_55 kX2_237 (by omega) (by decide) rfl (Nat.le_of_ble_eq_true rfl) (rcv_o (by first | assumption | first | assumption | (simp (disch := omega) only [shI, shR, shL, shC, shD, shW, sh_V, shN_e, shN_n, crI, crL, crC, crW, crV, crR_e, crR_n, crN_e, crN_n, ciR, ciL, ciD, ciN_e, ciN_n, rdI_e, rdI_n, rdC_i, rdC_o, rdW, rdU_e, rdU_n, rdLW, clI, clR, clC, clD, clW, clV, clN_e, clN_n, clL_e, clL_n]; done) | (simp (disch := omega) only [shI, shR, shL, shC, shD, shW, sh_V, shN_e, shN_n, crI, crL, crC, crW, crV, crR_e, crR_n, crN_e, crN_n, ciR, ciL, ciD, ciN_e, ciN_n, rdI_e, rdI_n, rdC_i, rdC_o, rdW, rdU_e, rdU_n, rdLW, clI, clR, clC, clD, clW, clV, clN_e, clN_n, clL_e, clL_n] <;> first | assumption | rfl | omega)) rfl) (fun x55 M55 h55 => ?_) (fun a55 E55 M55 h55 => ?_)
                · obtain ⟨y, R, M', q2, a2, hy, -⟩ := h55
                  rw [show ((wdB tp e (skB tp e s.1), s.2.1, s.2.2) : LgS) = (wdB tp e (skB tp e s.1), s.2) from rfl, hf] at hy
                  cases hy
                  skip
                · obtain ⟨f', hf', hx⟩ := h55
                  rw [show ((wdB tp e (skB tp e s.1), s.2.1, s.2.2) : LgS) = (wdB tp e (skB tp e s.1), s.2) from rfl, hf] at hf'
                  cases hf'
                  exact th_nil rfl (hQ _ _ (CX.f hr (hx.d (hD.trans (hDa.z (Int.le_refl _) (Int.le_refl _))) (by show 3 * (s.1 - p) - kx + ((1 : Nat) : Int) + (3 * (e - wdB tp e (skB tp e s.1)) + fx) ≤ 3 * (e - p) + (fx + 1); omega) (by show 12 * (s.1 - p) - ky + ((3 : Nat) : Int) + (12 * (e - wdB tp e (skB tp e s.1)) + fy) ≤ 12 * (e - p) + (fy + 3); omega) rfl)))
        · rw [hf] at hr
          dsimp only at hr
          have g1 : Gp e 1 1 1 s (wdB tp e (skB tp e s.1), s.2) := Gp.adv (by omega) (by omega) (by omega)
          have g2 := hU _ _ (by show wdB tp e (skB tp e s.1) ≤ e; omega) hf 1
          have g3 : Gp e (-1) (1 + 1) 1 z (em z 15 0) := Gp.emi g2.1.2 (by omega) (fun q => by omega) (Or.inr (Or.inr ⟨by omega, by omega, by omega, by omega⟩))
          have g4 : Gp e 0 0 1 (p, c, u) (em z 15 0) := (((hG.trans g1).trans g2).trans g3).less (by omega)
          have hz1 : wdB tp e (skB tp e s.1) ≤ z.1 := g2.1.1
          have hz2 : z.1 ≤ e := g2.1.2
          have step : ∀ (R : Pf) (M2 : Mem) (q2 a2 : Int), Ev (wdB tp e (skB tp e s.1), s.2.1, s.2.2) z (fun fc => vP (R fc)) → Dz (mNx M1 Y 9 0 3) M2 (3 * (z.1 - wdB tp e (skB tp e s.1)) - (kx + 1)) (12 * (z.1 - wdB tp e (skB tp e s.1)) - (ky + 3)) → mci M2 2 10 = dp → CD (msh M2) (mci M2) (mcr M2) (mnx (mNx M1 Y 9 0 3)) (mnx M2) lv a2 R →
              msh M2 Y = some (9, 0) ∧ (msh (mI (mR M2 Y 0 (some a2)) Y 1 1) l = some (9, 0)) ∧ ∃ P' : Pf, Ev (p, c, u) (em z 15 0) (fun fc => vP (P' fc)) ∧ Dz M (mR (mI (mR M2 Y 0 (some a2)) Y 1 1) l 2 (some Y)) (3 * (z.1 - p) - kx) (12 * (z.1 - p) - ky) ∧ mci (mR (mI (mR M2 Y 0 (some a2)) Y 1 1) l 2 (some Y)) 2 10 = dp ∧ ChL (msh (mR (mI (mR M2 Y 0 (some a2)) Y 1 1) l 2 (some Y))) (mci (mR (mI (mR M2 Y 0 (some a2)) Y 1 1) l 2 (some Y))) (mcr (mR (mI (mR M2 Y 0 (some a2)) Y 1 1) l 2 (some Y))) (mnx (mR (mI (mR M2 Y 0 (some a2)) Y 1 1) l 2 (some Y))) 1 lv (m + 1) X Y P' := by
            intro R M2 q2 a2 hER hD2 h102 hCR
            have sa := hD2.same (B := 54) (T := Y + 1) (Int.le_refl _) (by omega)
            have hYn : ((mnx M2 : Nat) : Int) ≥ Y + 1 := by have := hD2.nx; omega
            have sY : msh M2 Y = some (9, 0) := (sa Y (by omega) (by omega)).1.trans (if_pos rfl)
            have cY : mcr M2 Y 2 = none := ((sa Y (by omega) (by omega)).2.2 2).trans (if_pos rfl)
            have s1 : ∀ a, X ≤ a → a < mnx M1 → msh (mR (mI (mR M2 Y 0 (some a2)) Y 1 1) l 2 (some Y)) a = msh M1 a ∧ (∀ k, mci (mR (mI (mR M2 Y 0 (some a2)) Y 1 1) l 2 (some Y)) a k = mci M1 a k) ∧ ∀ k, ¬ (a = l ∧ k = 2) → mcr (mR (mI (mR M2 Y 0 (some a2)) Y 1 1) l 2 (some Y)) a k = mcr M1 a k := fun a a0 a1 =>
              ⟨(sa a (by omega) (by omega)).1.trans (if_neg (by omega)), fun k => (rdI_n (by omega)).trans (((sa a (by omega) (by omega)).2.1 k).trans (if_neg (by omega))), fun k hk => (crR_n hk).trans ((crR_n (by omega)).trans (((sa a (by omega) (by omega)).2.2 k).trans (if_neg (by omega))))⟩
            have sR : Same (Y + 1) (mnx M2) (msh M2) (mci M2) (mcr M2) (msh (mR (mI (mR M2 Y 0 (some a2)) Y 1 1) l 2 (some Y))) (mci (mR (mI (mR M2 Y 0 (some a2)) Y 1 1) l 2 (some Y))) (mcr (mR (mI (mR M2 Y 0 (some a2)) Y 1 1) l 2 (some Y))) := fun a a0 a1 => ⟨rfl, fun k => rdI_n (by omega), fun k => (crR_n (by omega)).trans (crR_n (by omega))⟩
            rw [eTa] at hCR
            have hN : ChN (msh (mR (mI (mR M2 Y 0 (some a2)) Y 1 1) l 2 (some Y))) (mci (mR (mI (mR M2 Y 0 (some a2)) Y 1 1) l 2 (some Y))) (mcr (mR (mI (mR M2 Y 0 (some a2)) Y 1 1) l 2 (some Y))) Y (mnx M2) 1 Y a2 := ⟨⟨Int.le_refl _, by omega⟩, sY, rdI_e ⟨rfl, rfl⟩, (crR_n (by omega)).trans (crR_e ⟨rfl, rfl⟩)⟩
            obtain ⟨P', hP1, hP2⟩ := ChL.snoc (R := R) (by omega) (by omega) hN ((crR_n (by omega)).trans ((crR_n (by omega)).trans cY)) (hCR.wid sR (Int.le_refl _) (Int.le_refl _)) (crR_e ⟨rfl, rfl⟩) (by omega) hL s1
            refine ⟨sY, ((sa l (by omega) (by omega)).1.trans (if_neg (by omega))).trans hLe.2.2, P', (Ev.bin hE hER hG g2 (by omega) (by omega)).cg fun fc _ => ?_, ?_, (rdI_n (by omega)).trans h102, hP1⟩
            · show op2 15 (vP (P fc)) (vP (R fc)) = vP (P' fc)
              rw [op2_and]
              refine vP_c ?_
              rw [hP2 fc]
              unfold comb
              rw [if_pos rfl]
            · obtain ⟨c1, s1', d1, d2, d3⟩ := (hD.trans (hDa.z (Int.le_refl _) (Int.le_refl _))).trans hD2
              refine ⟨c1, s1', ?_, by omega, by omega⟩
              exact ((d1.mR2 (by omega)).I2 (by omega)).mR2 (by omega)
          refine x_aload_n dX2_row_27 rfl rfl ?_
          refine x_iload_n dX2_row_28 rfl rfl ?_
          refine x_if_eq (tgt := 37) dX2_row_29 (by decide) (fun h29 => ?_) (fun h29 => ?_)
          · simp at h29
          · refine x_ldcs dX2_row_32 (List.mem_of_getElem? (i := 32) rfl) ?_
            refine x_goto (tgt := 39) dX2_row_34 (by decide) ?_
            refine g_callI (vs := [_, _]) (d' := d - 1) rfl (s_X2_takes (i := 32) (by omega) hR1 h0 (by omega) rfl) dX2_row_39 kX2_109 (by omega) (by decide) rfl (Nat.le_of_ble_eq_true rfl) (rcv_o (by first | assumption | first | assumption | (simp (disch := omega) only [shI, shR, shL, shC, shD, shW, sh_V, shN_e, shN_n, crI, crL, crC, crW, crV, crR_e, crR_n, crN_e, crN_n, ciR, ciL, ciD, ciN_e, ciN_n, rdI_e, rdI_n, rdC_i, rdC_o, rdW, rdU_e, rdU_n, rdLW, clI, clR, clC, clD, clW, clV, clN_e, clN_n, clL_e, clL_n]; done) | (simp (disch := omega) only [shI, shR, shL, shC, shD, shW, sh_V, shN_e, shN_n, crI, crL, crC, crW, crV, crR_e, crR_n, crN_e, crN_n, ciR, ciL, ciD, ciN_e, ciN_n, rdI_e, rdI_n, rdC_i, rdC_o, rdW, rdU_e, rdU_n, rdLW, clI, clR, clC, clD, clW, clV, clN_e, clN_n, clL_e, clL_n] <;> first | assumption | rfl | omega)) rfl) (fun x39 M39 h39 => ?_)
            obtain ⟨e39, f39⟩ := h39
            rw [hq, if_pos hI] at f39
            rw [hq, vP_t hI] at e39
            subst e39
            have f39' := f39.symm
            subst f39'
            refine x_if_eq (tgt := 81) dX2_row_42 (by decide) (fun h42 => ?_) (fun h42 => ?_)
            · try simp only [vP_0, vP_1, vP_n0, vP_n1, Classical.not_not] at h42
              simp at h42
            · try simp only [vP_0, vP_1, vP_n0, vP_n1, Classical.not_not] at h42
              refine x_aload_n dX2_row_45 rfl rfl ?_
              refine x_newX (x := Y) (by first | (simp only [nxI, nxR, nxL, nxC, nxD, nxW, nxV, nxN]; done) | (simp only [nxI, nxR, nxL, nxC, nxD, nxW, nxV, nxN]; omega) | omega) (t := 9) rfl q1148 q1149 q170 dX2_row_46 ?_
              refine WP.mem (mP_n (by omega)) ?_
              refine x_dup dX2_row_49 rfl ?_
              refine x_iload_n dX2_row_50 rfl rfl ?_
              refine x_if_eq (tgt := 61) dX2_row_51 (by decide) (fun h51 => ?_) (fun h51 => ?_)
              · simp at h51
              · refine x_aload_n dX2_row_54 rfl rfl ?_
                refine g_callRX (vs := [_]) (d' := d - 1) rfl (hca) dX2_row_55 kX2_237 (by omega) (by decide) rfl (Nat.le_of_ble_eq_true rfl) (rcv_o (by first | assumption | first | assumption | (simp (disch := omega) only [shI, shR, shL, shC, shD, shW, sh_V, shN_e, shN_n, crI, crL, crC, crW, crV, crR_e, crR_n, crN_e, crN_n, ciR, ciL, ciD, ciN_e, ciN_n, rdI_e, rdI_n, rdC_i, rdC_o, rdW, rdU_e, rdU_n, rdLW, clI, clR, clC, clD, clW, clV, clN_e, clN_n, clL_e, clL_n]; done) | (simp (disch := omega) only [shI, shR, shL, shC, shD, shW, sh_V, shN_e, shN_n, crI, crL, crC, crW, crV, crR_e, crR_n, crN_e, crN_n, ciR, ciL, ciD, ciN_e, ciN_n, rdI_e, rdI_n, rdC_i, rdC_o, rdW, rdU_e, rdU_n, rdLW, clI, clR, clC, clD, clW, clV, clN_e, clN_n, clL_e, clL_n] <;> first | assumption | rfl | omega)) rfl) (fun x55 M55 h55 => ?_) (fun a55 E55 M55 h55 => ?_)
                · obtain ⟨y, R, M2, q2, a2, hy, hER, ho, hMM, hq2, hqs2, hD2, h102, hCR⟩ := h55
                  rw [show ((wdB tp e (skB tp e s.1), s.2.1, s.2.2) : LgS) = (wdB tp e (skB tp e s.1), s.2) from rfl, hf] at hy
                  cases hy
                  cases ho
                  subst hMM
                  obtain ⟨t1, t2, P', t3, t4, t5, t6⟩ := step R M2 q2 a2 hER hD2 (h102.trans ea) hCR
                  refine x_goto (tgt := 66) dX2_row_58 (by decide) ?_
                  refine x_iload_n dX2_row_66 rfl rfl ?_
                  refine g_callN (vs := [_, _, _]) (d' := d - 1) rfl (s_X9_init (by omega) (by omega) t1 (by omega)) dX2_row_67 kX2_241 (by omega) (by decide) rfl (Nat.le_of_ble_eq_true rfl) (rcv_o (by first | assumption | first | assumption | (simp (disch := omega) only [shI, shR, shL, shC, shD, shW, sh_V, shN_e, shN_n, crI, crL, crC, crW, crV, crR_e, crR_n, crN_e, crN_n, ciR, ciL, ciD, ciN_e, ciN_n, rdI_e, rdI_n, rdC_i, rdC_o, rdW, rdU_e, rdU_n, rdLW, clI, clR, clC, clD, clW, clV, clN_e, clN_n, clL_e, clL_n]; done) | (simp (disch := omega) only [shI, shR, shL, shC, shD, shW, sh_V, shN_e, shN_n, crI, crL, crC, crW, crV, crR_e, crR_n, crN_e, crN_n, ciR, ciL, ciD, ciN_e, ciN_n, rdI_e, rdI_n, rdC_i, rdC_o, rdW, rdU_e, rdU_n, rdLW, clI, clR, clC, clD, clW, clV, clN_e, clN_n, clL_e, clL_n] <;> first | assumption | rfl | omega)) rfl) (fun M67 h67 => ?_)
                  subst h67
                  refine WP.mem ((congrArg (fun z => mI z Y 1 1) mP_r).trans (mP_c (by omega))) ?_
                  refine g_putR (kI := 2) rfl dX2_row_70 fX2_248_9 (by exact t2) ?_
                  try simp only [mP_w]
                  refine WP.mem mP_r ?_
                  refine x_aload_n dX2_row_73 rfl rfl ?_
                  refine g_getR (kI := 2) rfl dX2_row_74 fX2_248_9 (by exact t2) (by exact crR_e ⟨rfl, rfl⟩) ?_
                  refine x_astore_n (L' := [some _, some _, some _, some _]) dX2_row_77 rfl (by decide) rfl ?_
                  refine x_goto (tgt := 27) dX2_row_78 (by decide) ?_
                  exact ih _ (by omega) q2 Y (m + 1) (em z 15 0) P' _ fu rfl hq2 hqs2 hr t3 g4 (by show e - z.1 < fu; omega) t4 t5 t6
                · obtain ⟨f', hf', -⟩ := h55
                  rw [show ((wdB tp e (skB tp e s.1), s.2.1, s.2.2) : LgS) = (wdB tp e (skB tp e s.1), s.2) from rfl, hf] at hf'
                  cases hf'
      · rw [if_neg hI] at hr
        refine x_aload_n dX2_row_27 rfl rfl ?_
        refine x_iload_n dX2_row_28 rfl rfl ?_
        refine x_if_eq (tgt := 37) dX2_row_29 (by decide) (fun h29 => ?_) (fun h29 => ?_)
        · simp at h29
        · refine x_ldcs dX2_row_32 (List.mem_of_getElem? (i := 32) rfl) ?_
          refine x_goto (tgt := 39) dX2_row_34 (by decide) ?_
          refine g_callI (vs := [_, _]) (d' := d - 1) rfl (s_X2_takes (i := 32) (by omega) hR1 h0 (by omega) rfl) dX2_row_39 kX2_109 (by omega) (by decide) rfl (Nat.le_of_ble_eq_true rfl) (rcv_o (by first | assumption | first | assumption | (simp (disch := omega) only [shI, shR, shL, shC, shD, shW, sh_V, shN_e, shN_n, crI, crL, crC, crW, crV, crR_e, crR_n, crN_e, crN_n, ciR, ciL, ciD, ciN_e, ciN_n, rdI_e, rdI_n, rdC_i, rdC_o, rdW, rdU_e, rdU_n, rdLW, clI, clR, clC, clD, clW, clV, clN_e, clN_n, clL_e, clL_n]; done) | (simp (disch := omega) only [shI, shR, shL, shC, shD, shW, sh_V, shN_e, shN_n, crI, crL, crC, crW, crV, crR_e, crR_n, crN_e, crN_n, ciR, ciL, ciD, ciN_e, ciN_n, rdI_e, rdI_n, rdC_i, rdC_o, rdW, rdU_e, rdU_n, rdLW, clI, clR, clC, clD, clW, clV, clN_e, clN_n, clL_e, clL_n] <;> first | assumption | rfl | omega)) rfl) (fun x39 M39 h39 => ?_)
          obtain ⟨e39, f39⟩ := h39
          rw [hq, if_neg hI] at f39
          rw [hq, vP_f hI] at e39
          subst e39
          have f39' := f39.symm
          subst f39'
          refine x_if_eq (tgt := 81) dX2_row_42 (by decide) (fun h42 => ?_) (fun h42 => ?_)
          · try simp only [vP_0, vP_1, vP_n0, vP_n1, Classical.not_not] at h42
            refine x_aload_n dX2_row_81 rfl rfl ?_
            refine x_areturn rfl (by first | exact Or.inl ⟨_, rfl⟩ | exact Or.inr ⟨_, rfl⟩) dX2_row_82 ?_
            exact fin (skB tp e s.1, s.2) _ l m P M1 hr hE (by omega) rfl (hD.le (by show 3 * (s.1 - p) - kx ≤ 3 * (skB tp e s.1 - p) - kx; omega) (by show 12 * (s.1 - p) - ky ≤ 12 * (skB tp e s.1 - p) - ky; omega)) h10 hL
          · try simp only [vP_0, vP_1, vP_n0, vP_n1, Classical.not_not] at h42
            simp at h42
  have hnxP : ((mnx (mP M p) : Nat) : Int) = X := hXX
  have hDa : Dr M (mNx M X 9 0 3) 1 3 := Dr.rfl.nx hXX
  have hRa : RdX (mNx M X 9 0 3) tp e := hR.dr hDa (by omega)
  have r2a : msh (mNx M X 9 0 3) 2 = some (2, 0) := hRa.1.1.1
  have ea : mci (mNx M X 9 0 3) 2 10 = dp := (ciN_n (by omega)).trans hdp
  have eTa : ((mnx (mNx M X 9 0 3) : Nat) : Int) = X + 1 := by
    show ((mnx M + 1 : Nat) : Int) = X + 1
    omega
  have r2' : msh M 2 = some (2, 0) := hR.1.1.1
  have hca := hin (mNx M X 9 0 3) p c u hRa (by show 761 ≤ mnx M + 1; omega) hp ea
  rcases hf : f (p, c, u) with f1 | z
  · refine x_newX (x := X) (by first | (simp only [nxI, nxR, nxL, nxC, nxD, nxW, nxV, nxN]; done) | (simp only [nxI, nxR, nxL, nxC, nxD, nxW, nxV, nxN]; omega) | omega) (t := 9) rfl q1148 q1149 q170 dX2_row_0 ?_
    refine WP.mem (mP_n (by omega)) ?_
    refine x_dup dX2_row_3 rfl ?_
    refine x_iload_n dX2_row_4 rfl rfl ?_
    refine x_if_eq (tgt := 15) dX2_row_5 (by decide) (fun h5 => ?_) (fun h5 => ?_)
    · simp at h5
    · refine x_aload_n dX2_row_8 rfl rfl ?_
      refine g_callRX (vs := [_]) (d' := d - 1) rfl (hca) dX2_row_9 kX2_237 (by omega) (by decide) rfl (Nat.le_of_ble_eq_true rfl) (rcv_o (by first | assumption | first | assumption | (simp (disch := omega) only [shI, shR, shL, shC, shD, shW, sh_V, shN_e, shN_n, crI, crL, crC, crW, crV, crR_e, crR_n, crN_e, crN_n, ciR, ciL, ciD, ciN_e, ciN_n, rdI_e, rdI_n, rdC_i, rdC_o, rdW, rdU_e, rdU_n, rdLW, clI, clR, clC, clD, clW, clV, clN_e, clN_n, clL_e, clL_n]; done) | (simp (disch := omega) only [shI, shR, shL, shC, shD, shW, sh_V, shN_e, shN_n, crI, crL, crC, crW, crV, crR_e, crR_n, crN_e, crN_n, ciR, ciL, ciD, ciN_e, ciN_n, rdI_e, rdI_n, rdC_i, rdC_o, rdW, rdU_e, rdU_n, rdLW, clI, clR, clC, clD, clW, clV, clN_e, clN_n, clL_e, clL_n] <;> first | assumption | rfl | omega)) rfl) (fun x9 M9 h9 => ?_) (fun a9 E9 M9 h9 => ?_)
      · obtain ⟨y, R, M', q2, a2, hy, -⟩ := h9
        rw [hf] at hy
        cases hy
        skip
      · obtain ⟨f', hf', hx⟩ := h9
        rw [hf] at hf'
        cases hf'
        exact th_nil rfl (hQ _ _ (CX.f (rLst_l hf) (hx.d (hDa.z (Int.le_refl _) (Int.le_refl _)) (by show ((1 : Nat) : Int) + (3 * (e - p) + fx) ≤ 3 * (e - p) + (fx + 1); omega) (by show ((3 : Nat) : Int) + (12 * (e - p) + fy) ≤ 12 * (e - p) + (fy + 3); omega) rfl)))
  · have g2 := hU _ _ (by show p ≤ e; omega) hf 0
    have hz1 : p ≤ z.1 := g2.1.1
    have hz2 : z.1 ≤ e := g2.1.2
    have step : ∀ (R : Pf) (M2 : Mem) (a2 : Int), Dz (mNx M X 9 0 3) M2 (3 * (z.1 - p) - (kx + 1)) (12 * (z.1 - p) - (ky + 3)) → mci M2 2 10 = dp → CD (msh M2) (mci M2) (mcr M2) (mnx (mNx M X 9 0 3)) (mnx M2) lv a2 R →
        msh M2 X = some (9, 0) ∧ Dz M (mI (mR M2 X 0 (some a2)) X 1 1) (3 * (z.1 - p) - kx) (12 * (z.1 - p) - ky) ∧ mci (mI (mR M2 X 0 (some a2)) X 1 1) 2 10 = dp ∧ ChL (msh (mI (mR M2 X 0 (some a2)) X 1 1)) (mci (mI (mR M2 X 0 (some a2)) X 1 1)) (mcr (mI (mR M2 X 0 (some a2)) X 1 1)) (mnx (mI (mR M2 X 0 (some a2)) X 1 1)) 1 lv 0 X X R := by
      intro R M2 a2 hD2 h102 hCR
      have sa := hD2.same (B := 54) (T := X + 1) (Int.le_refl _) (by omega)
      have hYn : ((mnx M2 : Nat) : Int) ≥ X + 1 := by have := hD2.nx; omega
      have sY : msh M2 X = some (9, 0) := (sa X (by omega) (by omega)).1.trans (if_pos rfl)
      have cY : mcr M2 X 2 = none := ((sa X (by omega) (by omega)).2.2 2).trans (if_pos rfl)
      rw [eTa] at hCR
      refine ⟨sY, ?_, (rdI_n (by omega)).trans h102, rfl, a2, ⟨⟨Int.le_refl _, by show X < ((mnx M2 : Nat) : Int); omega⟩, sY, rdI_e ⟨rfl, rfl⟩, crR_e ⟨rfl, rfl⟩⟩, (crR_n (by omega)).trans cY, hCR.wid (fun a a0 a1 => ⟨rfl, fun k => rdI_n (by omega), fun k => crR_n (by omega)⟩) (Int.le_refl _) (Int.le_refl _)⟩
      obtain ⟨c1, s1', d1, d2, d3⟩ := (hDa.z (Int.le_refl _) (Int.le_refl _)).trans hD2
      refine ⟨c1, s1', ?_, by omega, by omega⟩
      exact (d1.mR2 (by omega)).I2 (by omega)
    refine x_newX (x := X) (by first | (simp only [nxI, nxR, nxL, nxC, nxD, nxW, nxV, nxN]; done) | (simp only [nxI, nxR, nxL, nxC, nxD, nxW, nxV, nxN]; omega) | omega) (t := 9) rfl q1148 q1149 q170 dX2_row_0 ?_
    refine WP.mem (mP_n (by omega)) ?_
    refine x_dup dX2_row_3 rfl ?_
    refine x_iload_n dX2_row_4 rfl rfl ?_
    refine x_if_eq (tgt := 15) dX2_row_5 (by decide) (fun h5 => ?_) (fun h5 => ?_)
    · simp at h5
    · refine x_aload_n dX2_row_8 rfl rfl ?_
      refine g_callRX (vs := [_]) (d' := d - 1) rfl (hca) dX2_row_9 kX2_237 (by omega) (by decide) rfl (Nat.le_of_ble_eq_true rfl) (rcv_o (by first | assumption | first | assumption | (simp (disch := omega) only [shI, shR, shL, shC, shD, shW, sh_V, shN_e, shN_n, crI, crL, crC, crW, crV, crR_e, crR_n, crN_e, crN_n, ciR, ciL, ciD, ciN_e, ciN_n, rdI_e, rdI_n, rdC_i, rdC_o, rdW, rdU_e, rdU_n, rdLW, clI, clR, clC, clD, clW, clV, clN_e, clN_n, clL_e, clL_n]; done) | (simp (disch := omega) only [shI, shR, shL, shC, shD, shW, sh_V, shN_e, shN_n, crI, crL, crC, crW, crV, crR_e, crR_n, crN_e, crN_n, ciR, ciL, ciD, ciN_e, ciN_n, rdI_e, rdI_n, rdC_i, rdC_o, rdW, rdU_e, rdU_n, rdLW, clI, clR, clC, clD, clW, clV, clN_e, clN_n, clL_e, clL_n] <;> first | assumption | rfl | omega)) rfl) (fun x9 M9 h9 => ?_) (fun a9 E9 M9 h9 => ?_)
      · obtain ⟨y, R, M2, q2, a2, hy, hER, ho, hMM, hq2, hqs2, hD2, h102, hCR⟩ := h9
        rw [hf] at hy
        cases hy
        cases ho
        subst hMM
        obtain ⟨t1, t4, t5, t6⟩ := step R M2 a2 hD2 (h102.trans ea) hCR
        refine x_goto (tgt := 20) dX2_row_12 (by decide) ?_
        refine x_iload_n dX2_row_20 rfl rfl ?_
        refine g_callN (vs := [_, _, _]) (d' := d - 1) rfl (s_X9_init (by omega) (by omega) t1 (by omega)) dX2_row_21 kX2_241 (by omega) (by decide) rfl (Nat.le_of_ble_eq_true rfl) (rcv_o (by first | assumption | first | assumption | (simp (disch := omega) only [shI, shR, shL, shC, shD, shW, sh_V, shN_e, shN_n, crI, crL, crC, crW, crV, crR_e, crR_n, crN_e, crN_n, ciR, ciL, ciD, ciN_e, ciN_n, rdI_e, rdI_n, rdC_i, rdC_o, rdW, rdU_e, rdU_n, rdLW, clI, clR, clC, clD, clW, clV, clN_e, clN_n, clL_e, clL_n]; done) | (simp (disch := omega) only [shI, shR, shL, shC, shD, shW, sh_V, shN_e, shN_n, crI, crL, crC, crW, crV, crR_e, crR_n, crN_e, crN_n, ciR, ciL, ciD, ciN_e, ciN_n, rdI_e, rdI_n, rdC_i, rdC_o, rdW, rdU_e, rdU_n, rdLW, clI, clR, clC, clD, clW, clV, clN_e, clN_n, clL_e, clL_n] <;> first | assumption | rfl | omega)) rfl) (fun M21 h21 => ?_)
        subst h21
        refine WP.mem ((congrArg (fun z => mI z X 1 1) mP_r).trans (mP_c (by omega))) ?_
        refine x_astore_n (L' := [some _, some _, some _, none]) dX2_row_24 rfl (by decide) rfl ?_
        refine x_aload_n dX2_row_25 rfl rfl ?_
        refine x_astore_n (L' := [some _, some _, some _, some _]) dX2_row_26 rfl (by decide) rfl ?_
        exact lp _ q2 X 0 z R _ (e.toNat + 1) rfl hq2 hqs2 (rLst_r hf) hER g2 (by omega) t4 t5 t6
      · obtain ⟨f', hf', -⟩ := h9
        rw [hf] at hf'
        cases hf'
theorem row0_ok {f : LgS → LgR} {lv : Nat} {kx ky fx fy dp : Int} (hd : 30 ≤ d) (hf0 : 0 ≤ fx ∧ 0 ≤ fy ∧ 0 ≤ kx ∧ 0 ≤ ky) (hU : Un e f) (hin : ∀ (M : Mem) (p c : Int) (u : Vw), RdX M tp e → 761 ≤ mnx M → 0 ≤ p ∧ p ≤ e → mci M 2 10 = dp → CS G (d - 1) mX2_row [dR 2, dI 1] (mP M p) (CX M tp e lv (kx + 1) (ky + 3) fx fy (f (p, c, u)) (p, c, u)))
    (hR : RdX M tp e) (hM : 761 ≤ mnx M) (hp : 0 ≤ p ∧ p ≤ e) (hdp : mci M 2 10 = dp) : CS G d mX2_row [dR 2, dI 0] (mP M p) (CX M tp e (lv + 1) kx ky (fx + 1) (fy + 3) (rLst tp e f 33 16 (p, c, u)) (p, c, u)) := by
  generalize hXX : ((mnx M : Nat) : Int) = X
  have hX7 : 761 ≤ X := by omega
  refine CS.mkQ (by decide) (Nat.le_of_ble_eq_true rfl) fun Q hQ => ?_
  have fin : ∀ (s : LgS) (q l : Int) (m : Nat) (P : Pf) (M1 : Mem), (rLst tp e f 33 16 (p, c, u)) = .inr s → Ev (p, c, u) s (fun fc => vP (P fc)) → 0 ≤ q ∧ q ≤ e → skB tp e q = skB tp e s.1 → Dz M M1 (3 * (s.1 - p) - kx) (12 * (s.1 - p) - ky) → mci M1 2 10 = dp → ChL (msh M1) (mci M1) (mcr M1) (mnx M1) 0 lv m X l P → Q (rV (dR X)) (mP M1 q) := fun s q l m P M1 h1 h2 h3 h4 h5 h6 h7 =>
    hQ _ _ (CX.s h1 h2 h3 h4 h5 (h6.trans hdp.symm) (Or.inr (Or.inr ⟨0, m, by omega, by rw [hXX]; exact h7.cd (Int.le_refl X)⟩)))
  have lp : ∀ (t : Nat) (q l : Int) (m : Nat) (s : LgS) (P : Pf) (M1 : Mem) (fu : Nat), ((fu : Int)).toNat = t → (0 ≤ q ∧ q ≤ e) → (skB tp e q = skB tp e s.1) → ((rLst tp e f 33 16 (p, c, u)) = rRow tp e f 33 16 fu s) → (Ev (p, c, u) s (fun fc => vP (P fc))) → (Gp e 0 0 1 (p, c, u) s) → (e - s.1 < fu) → (Dz M M1 (3 * (s.1 - p) - kx) (12 * (s.1 - p) - ky)) → (mci M1 2 10 = dp) → (ChL (msh M1) (mci M1) (mcr M1) (mnx M1) 0 lv m X l P) → WP G d mX2_row 27 [some (dR 2), some (dI 0), some (dR X), some (dR l)] [] (mP M1 q) Q := by
    intro t
    induction t using Nat.strongRecOn with
    | _ t ih =>
      intro q l m s P M1 fu ht h0 hq hr hE hG hfu hD h10 hL
      have hse : s.1 ≤ e := hG.1.2
      have hs1 : p ≤ s.1 := hG.1.1
      have hnM := hD.nx
      obtain ⟨fu, rfl⟩ : ∃ f2, fu = f2 + 1 := ⟨fu - 1, by omega⟩
      have hR1 : RdX M1 tp e := hR.dz hD (by omega)
      have r2' : msh M1 2 = some (2, 0) := hR1.1.1.1
      have hs := skB_r (tp := tp) hse
      have hw := wdB_r (tp := tp) hs.2
      have hLe := hL.le
      rw [rRow_s] at hr
      by_cases hI : isW tp (skB tp e s.1) (wdB tp e (skB tp e s.1)) (txB 33)
      · rw [if_pos hI] at hr
        have hlen : skB tp e s.1 + 2 = wdB tp e (skB tp e s.1) := by
          have h1 := hI.1
          have h2 : ((txB 33).length : Int) = 2 := rfl
          omega
        generalize hXY : ((mnx M1 : Nat) : Int) = Y
        have hY7 : X ≤ Y := by omega
        have hnxP : ((mnx (mP M1 (wdB tp e (skB tp e s.1))) : Nat) : Int) = Y := hXY
        have hDa : Dr M1 (mNx M1 Y 9 0 3) 1 3 := Dr.rfl.nx hXY
        have hRa : RdX (mNx M1 Y 9 0 3) tp e := hR1.dr hDa (by omega)
        have r2a : msh (mNx M1 Y 9 0 3) 2 = some (2, 0) := hRa.1.1.1
        have ea : mci (mNx M1 Y 9 0 3) 2 10 = dp := (ciN_n (by omega)).trans h10
        have eTa : ((mnx (mNx M1 Y 9 0 3) : Nat) : Int) = Y + 1 := by
          show ((mnx M1 + 1 : Nat) : Int) = Y + 1
          omega
        have hca := hin (mNx M1 Y 9 0 3) (wdB tp e (skB tp e s.1)) s.2.1 s.2.2 hRa (by show 761 ≤ mnx M1 + 1; omega) (by omega) ea
        rcases hf : f (wdB tp e (skB tp e s.1), s.2) with f1 | z
        · rw [hf] at hr
          dsimp only at hr
          refine x_aload_n dX2_row_27 rfl rfl ?_
          refine x_iload_n dX2_row_28 rfl rfl ?_
          refine x_if_eq (tgt := 37) dX2_row_29 (by decide) (fun h29 => ?_) (fun h29 => ?_)
          · refine x_ldcs dX2_row_37 (List.mem_of_getElem? (i := 33) rfl) ?_
            refine g_callI (vs := [_, _]) (d' := d - 1) rfl (s_X2_takes (i := 33) (by omega) hR1 h0 (by omega) rfl) dX2_row_39 kX2_109 (by omega) (by decide) rfl (Nat.le_of_ble_eq_true rfl) (rcv_o (by first | assumption | first | assumption | (simp (disch := omega) only [shI, shR, shL, shC, shD, shW, sh_V, shN_e, shN_n, crI, crL, crC, crW, crV, crR_e, crR_n, crN_e, crN_n, ciR, ciL, ciD, ciN_e, ciN_n, rdI_e, rdI_n, rdC_i, rdC_o, rdW, rdU_e, rdU_n, rdLW, clI, clR, clC, clD, clW, clV, clN_e, clN_n, clL_e, clL_n]; done) | (simp (disch := omega) only [shI, shR, shL, shC, shD, shW, sh_V, shN_e, shN_n, crI, crL, crC, crW, crV, crR_e, crR_n, crN_e, crN_n, ciR, ciL, ciD, ciN_e, ciN_n, rdI_e, rdI_n, rdC_i, rdC_o, rdW, rdU_e, rdU_n, rdLW, clI, clR, clC, clD, clW, clV, clN_e, clN_n, clL_e, clL_n] <;> first | assumption | rfl | omega)) rfl) (fun x39 M39 h39 => ?_)
            obtain ⟨e39, f39⟩ := h39
            rw [hq, if_pos hI] at f39
            rw [hq, vP_t hI] at e39
            subst e39
            have f39' := f39.symm
            subst f39'
            refine x_if_eq (tgt := 81) dX2_row_42 (by decide) (fun h42 => ?_) (fun h42 => ?_)
            · try simp only [vP_0, vP_1, vP_n0, vP_n1, Classical.not_not] at h42
              simp at h42
            · try simp only [vP_0, vP_1, vP_n0, vP_n1, Classical.not_not] at h42
              refine x_aload_n dX2_row_45 rfl rfl ?_
              refine x_newX (x := Y) (by first | (simp only [nxI, nxR, nxL, nxC, nxD, nxW, nxV, nxN]; done) | (simp only [nxI, nxR, nxL, nxC, nxD, nxW, nxV, nxN]; omega) | omega) (t := 9) rfl q1148 q1149 q170 dX2_row_46 ?_
              refine WP.mem (mP_n (by omega)) ?_
              refine x_dup dX2_row_49 rfl ?_
              refine x_iload_n dX2_row_50 rfl rfl ?_
              refine x_if_eq (tgt := 61) dX2_row_51 (by decide) (fun h51 => ?_) (fun h51 => ?_)
              · refine x_aload_n dX2_row_61 rfl rfl ?_
                refine x_iconst dX2_row_62 rfl ?_
                refine g_callRX (vs := [_, _]) (d' := d - 1) rfl (hca) dX2_row_63 kX2_221 (by omega) (by decide) rfl (Nat.le_of_ble_eq_true rfl) (rcv_o (by first | assumption | first | assumption | (simp (disch := omega) only [shI, shR, shL, shC, shD, shW, sh_V, shN_e, shN_n, crI, crL, crC, crW, crV, crR_e, crR_n, crN_e, crN_n, ciR, ciL, ciD, ciN_e, ciN_n, rdI_e, rdI_n, rdC_i, rdC_o, rdW, rdU_e, rdU_n, rdLW, clI, clR, clC, clD, clW, clV, clN_e, clN_n, clL_e, clL_n]; done) | (simp (disch := omega) only [shI, shR, shL, shC, shD, shW, sh_V, shN_e, shN_n, crI, crL, crC, crW, crV, crR_e, crR_n, crN_e, crN_n, ciR, ciL, ciD, ciN_e, ciN_n, rdI_e, rdI_n, rdC_i, rdC_o, rdW, rdU_e, rdU_n, rdLW, clI, clR, clC, clD, clW, clV, clN_e, clN_n, clL_e, clL_n] <;> first | assumption | rfl | omega)) rfl) (fun x63 M63 h63 => ?_) (fun a63 E63 M63 h63 => ?_)
                · obtain ⟨y, R, M', q2, a2, hy, -⟩ := h63
                  rw [show ((wdB tp e (skB tp e s.1), s.2.1, s.2.2) : LgS) = (wdB tp e (skB tp e s.1), s.2) from rfl, hf] at hy
                  cases hy
                  skip
                · obtain ⟨f', hf', hx⟩ := h63
                  rw [show ((wdB tp e (skB tp e s.1), s.2.1, s.2.2) : LgS) = (wdB tp e (skB tp e s.1), s.2) from rfl, hf] at hf'
                  cases hf'
                  exact th_nil rfl (hQ _ _ (CX.f hr (hx.d (hD.trans (hDa.z (Int.le_refl _) (Int.le_refl _))) (by show 3 * (s.1 - p) - kx + ((1 : Nat) : Int) + (3 * (e - wdB tp e (skB tp e s.1)) + fx) ≤ 3 * (e - p) + (fx + 1); omega) (by show 12 * (s.1 - p) - ky + ((3 : Nat) : Int) + (12 * (e - wdB tp e (skB tp e s.1)) + fy) ≤ 12 * (e - p) + (fy + 3); omega) rfl)))
              · simp at h51
          · simp at h29
        · rw [hf] at hr
          dsimp only at hr
          have g1 : Gp e 1 1 1 s (wdB tp e (skB tp e s.1), s.2) := Gp.adv (by omega) (by omega) (by omega)
          have g2 := hU _ _ (by show wdB tp e (skB tp e s.1) ≤ e; omega) hf 1
          have g3 : Gp e (-1) (1 + 1) 1 z (em z 16 0) := Gp.emi g2.1.2 (by omega) (fun q => by omega) (Or.inr (Or.inr ⟨by omega, by omega, by omega, by omega⟩))
          have g4 : Gp e 0 0 1 (p, c, u) (em z 16 0) := (((hG.trans g1).trans g2).trans g3).less (by omega)
          have hz1 : wdB tp e (skB tp e s.1) ≤ z.1 := g2.1.1
          have hz2 : z.1 ≤ e := g2.1.2
          have step : ∀ (R : Pf) (M2 : Mem) (q2 a2 : Int), Ev (wdB tp e (skB tp e s.1), s.2.1, s.2.2) z (fun fc => vP (R fc)) → Dz (mNx M1 Y 9 0 3) M2 (3 * (z.1 - wdB tp e (skB tp e s.1)) - (kx + 1)) (12 * (z.1 - wdB tp e (skB tp e s.1)) - (ky + 3)) → mci M2 2 10 = dp → CD (msh M2) (mci M2) (mcr M2) (mnx (mNx M1 Y 9 0 3)) (mnx M2) lv a2 R →
              msh M2 Y = some (9, 0) ∧ (msh (mI (mR M2 Y 0 (some a2)) Y 1 0) l = some (9, 0)) ∧ ∃ P' : Pf, Ev (p, c, u) (em z 16 0) (fun fc => vP (P' fc)) ∧ Dz M (mR (mI (mR M2 Y 0 (some a2)) Y 1 0) l 2 (some Y)) (3 * (z.1 - p) - kx) (12 * (z.1 - p) - ky) ∧ mci (mR (mI (mR M2 Y 0 (some a2)) Y 1 0) l 2 (some Y)) 2 10 = dp ∧ ChL (msh (mR (mI (mR M2 Y 0 (some a2)) Y 1 0) l 2 (some Y))) (mci (mR (mI (mR M2 Y 0 (some a2)) Y 1 0) l 2 (some Y))) (mcr (mR (mI (mR M2 Y 0 (some a2)) Y 1 0) l 2 (some Y))) (mnx (mR (mI (mR M2 Y 0 (some a2)) Y 1 0) l 2 (some Y))) 0 lv (m + 1) X Y P' := by
            intro R M2 q2 a2 hER hD2 h102 hCR
            have sa := hD2.same (B := 54) (T := Y + 1) (Int.le_refl _) (by omega)
            have hYn : ((mnx M2 : Nat) : Int) ≥ Y + 1 := by have := hD2.nx; omega
            have sY : msh M2 Y = some (9, 0) := (sa Y (by omega) (by omega)).1.trans (if_pos rfl)
            have cY : mcr M2 Y 2 = none := ((sa Y (by omega) (by omega)).2.2 2).trans (if_pos rfl)
            have s1 : ∀ a, X ≤ a → a < mnx M1 → msh (mR (mI (mR M2 Y 0 (some a2)) Y 1 0) l 2 (some Y)) a = msh M1 a ∧ (∀ k, mci (mR (mI (mR M2 Y 0 (some a2)) Y 1 0) l 2 (some Y)) a k = mci M1 a k) ∧ ∀ k, ¬ (a = l ∧ k = 2) → mcr (mR (mI (mR M2 Y 0 (some a2)) Y 1 0) l 2 (some Y)) a k = mcr M1 a k := fun a a0 a1 =>
              ⟨(sa a (by omega) (by omega)).1.trans (if_neg (by omega)), fun k => (rdI_n (by omega)).trans (((sa a (by omega) (by omega)).2.1 k).trans (if_neg (by omega))), fun k hk => (crR_n hk).trans ((crR_n (by omega)).trans (((sa a (by omega) (by omega)).2.2 k).trans (if_neg (by omega))))⟩
            have sR : Same (Y + 1) (mnx M2) (msh M2) (mci M2) (mcr M2) (msh (mR (mI (mR M2 Y 0 (some a2)) Y 1 0) l 2 (some Y))) (mci (mR (mI (mR M2 Y 0 (some a2)) Y 1 0) l 2 (some Y))) (mcr (mR (mI (mR M2 Y 0 (some a2)) Y 1 0) l 2 (some Y))) := fun a a0 a1 => ⟨rfl, fun k => rdI_n (by omega), fun k => (crR_n (by omega)).trans (crR_n (by omega))⟩
            rw [eTa] at hCR
            have hN : ChN (msh (mR (mI (mR M2 Y 0 (some a2)) Y 1 0) l 2 (some Y))) (mci (mR (mI (mR M2 Y 0 (some a2)) Y 1 0) l 2 (some Y))) (mcr (mR (mI (mR M2 Y 0 (some a2)) Y 1 0) l 2 (some Y))) Y (mnx M2) 0 Y a2 := ⟨⟨Int.le_refl _, by omega⟩, sY, rdI_e ⟨rfl, rfl⟩, (crR_n (by omega)).trans (crR_e ⟨rfl, rfl⟩)⟩
            obtain ⟨P', hP1, hP2⟩ := ChL.snoc (R := R) (by omega) (by omega) hN ((crR_n (by omega)).trans ((crR_n (by omega)).trans cY)) (hCR.wid sR (Int.le_refl _) (Int.le_refl _)) (crR_e ⟨rfl, rfl⟩) (by omega) hL s1
            refine ⟨sY, ((sa l (by omega) (by omega)).1.trans (if_neg (by omega))).trans hLe.2.2, P', (Ev.bin hE hER hG g2 (by omega) (by omega)).cg fun fc _ => ?_, ?_, (rdI_n (by omega)).trans h102, hP1⟩
            · show op2 16 (vP (P fc)) (vP (R fc)) = vP (P' fc)
              rw [op2_or]
              refine vP_c ?_
              rw [hP2 fc]
              unfold comb
              rw [if_neg (by decide)]
            · obtain ⟨c1, s1', d1, d2, d3⟩ := (hD.trans (hDa.z (Int.le_refl _) (Int.le_refl _))).trans hD2
              refine ⟨c1, s1', ?_, by omega, by omega⟩
              exact ((d1.mR2 (by omega)).I2 (by omega)).mR2 (by omega)
          refine x_aload_n dX2_row_27 rfl rfl ?_
          refine x_iload_n dX2_row_28 rfl rfl ?_
          refine x_if_eq (tgt := 37) dX2_row_29 (by decide) (fun h29 => ?_) (fun h29 => ?_)
          · refine x_ldcs dX2_row_37 (List.mem_of_getElem? (i := 33) rfl) ?_
            refine g_callI (vs := [_, _]) (d' := d - 1) rfl (s_X2_takes (i := 33) (by omega) hR1 h0 (by omega) rfl) dX2_row_39 kX2_109 (by omega) (by decide) rfl (Nat.le_of_ble_eq_true rfl) (rcv_o (by first | assumption | first | assumption | (simp (disch := omega) only [shI, shR, shL, shC, shD, shW, sh_V, shN_e, shN_n, crI, crL, crC, crW, crV, crR_e, crR_n, crN_e, crN_n, ciR, ciL, ciD, ciN_e, ciN_n, rdI_e, rdI_n, rdC_i, rdC_o, rdW, rdU_e, rdU_n, rdLW, clI, clR, clC, clD, clW, clV, clN_e, clN_n, clL_e, clL_n]; done) | (simp (disch := omega) only [shI, shR, shL, shC, shD, shW, sh_V, shN_e, shN_n, crI, crL, crC, crW, crV, crR_e, crR_n, crN_e, crN_n, ciR, ciL, ciD, ciN_e, ciN_n, rdI_e, rdI_n, rdC_i, rdC_o, rdW, rdU_e, rdU_n, rdLW, clI, clR, clC, clD, clW, clV, clN_e, clN_n, clL_e, clL_n] <;> first | assumption | rfl | omega)) rfl) (fun x39 M39 h39 => ?_)
            obtain ⟨e39, f39⟩ := h39
            rw [hq, if_pos hI] at f39
            rw [hq, vP_t hI] at e39
            subst e39
            have f39' := f39.symm
            subst f39'
            refine x_if_eq (tgt := 81) dX2_row_42 (by decide) (fun h42 => ?_) (fun h42 => ?_)
            · try simp only [vP_0, vP_1, vP_n0, vP_n1, Classical.not_not] at h42
              simp at h42
            · try simp only [vP_0, vP_1, vP_n0, vP_n1, Classical.not_not] at h42
              refine x_aload_n dX2_row_45 rfl rfl ?_
              refine x_newX (x := Y) (by first | (simp only [nxI, nxR, nxL, nxC, nxD, nxW, nxV, nxN]; done) | (simp only [nxI, nxR, nxL, nxC, nxD, nxW, nxV, nxN]; omega) | omega) (t := 9) rfl q1148 q1149 q170 dX2_row_46 ?_
              refine WP.mem (mP_n (by omega)) ?_
              refine x_dup dX2_row_49 rfl ?_
              refine x_iload_n dX2_row_50 rfl rfl ?_
              refine x_if_eq (tgt := 61) dX2_row_51 (by decide) (fun h51 => ?_) (fun h51 => ?_)
              · refine x_aload_n dX2_row_61 rfl rfl ?_
                refine x_iconst dX2_row_62 rfl ?_
                refine g_callRX (vs := [_, _]) (d' := d - 1) rfl (hca) dX2_row_63 kX2_221 (by omega) (by decide) rfl (Nat.le_of_ble_eq_true rfl) (rcv_o (by first | assumption | first | assumption | (simp (disch := omega) only [shI, shR, shL, shC, shD, shW, sh_V, shN_e, shN_n, crI, crL, crC, crW, crV, crR_e, crR_n, crN_e, crN_n, ciR, ciL, ciD, ciN_e, ciN_n, rdI_e, rdI_n, rdC_i, rdC_o, rdW, rdU_e, rdU_n, rdLW, clI, clR, clC, clD, clW, clV, clN_e, clN_n, clL_e, clL_n]; done) | (simp (disch := omega) only [shI, shR, shL, shC, shD, shW, sh_V, shN_e, shN_n, crI, crL, crC, crW, crV, crR_e, crR_n, crN_e, crN_n, ciR, ciL, ciD, ciN_e, ciN_n, rdI_e, rdI_n, rdC_i, rdC_o, rdW, rdU_e, rdU_n, rdLW, clI, clR, clC, clD, clW, clV, clN_e, clN_n, clL_e, clL_n] <;> first | assumption | rfl | omega)) rfl) (fun x63 M63 h63 => ?_) (fun a63 E63 M63 h63 => ?_)
                · obtain ⟨y, R, M2, q2, a2, hy, hER, ho, hMM, hq2, hqs2, hD2, h102, hCR⟩ := h63
                  rw [show ((wdB tp e (skB tp e s.1), s.2.1, s.2.2) : LgS) = (wdB tp e (skB tp e s.1), s.2) from rfl, hf] at hy
                  cases hy
                  cases ho
                  subst hMM
                  obtain ⟨t1, t2, P', t3, t4, t5, t6⟩ := step R M2 q2 a2 hER hD2 (h102.trans ea) hCR
                  refine x_iload_n dX2_row_66 rfl rfl ?_
                  refine g_callN (vs := [_, _, _]) (d' := d - 1) rfl (s_X9_init (by omega) (by omega) t1 (by omega)) dX2_row_67 kX2_241 (by omega) (by decide) rfl (Nat.le_of_ble_eq_true rfl) (rcv_o (by first | assumption | first | assumption | (simp (disch := omega) only [shI, shR, shL, shC, shD, shW, sh_V, shN_e, shN_n, crI, crL, crC, crW, crV, crR_e, crR_n, crN_e, crN_n, ciR, ciL, ciD, ciN_e, ciN_n, rdI_e, rdI_n, rdC_i, rdC_o, rdW, rdU_e, rdU_n, rdLW, clI, clR, clC, clD, clW, clV, clN_e, clN_n, clL_e, clL_n]; done) | (simp (disch := omega) only [shI, shR, shL, shC, shD, shW, sh_V, shN_e, shN_n, crI, crL, crC, crW, crV, crR_e, crR_n, crN_e, crN_n, ciR, ciL, ciD, ciN_e, ciN_n, rdI_e, rdI_n, rdC_i, rdC_o, rdW, rdU_e, rdU_n, rdLW, clI, clR, clC, clD, clW, clV, clN_e, clN_n, clL_e, clL_n] <;> first | assumption | rfl | omega)) rfl) (fun M67 h67 => ?_)
                  subst h67
                  refine WP.mem ((congrArg (fun z => mI z Y 1 0) mP_r).trans (mP_c (by omega))) ?_
                  refine g_putR (kI := 2) rfl dX2_row_70 fX2_248_9 (by exact t2) ?_
                  try simp only [mP_w]
                  refine WP.mem mP_r ?_
                  refine x_aload_n dX2_row_73 rfl rfl ?_
                  refine g_getR (kI := 2) rfl dX2_row_74 fX2_248_9 (by exact t2) (by exact crR_e ⟨rfl, rfl⟩) ?_
                  refine x_astore_n (L' := [some _, some _, some _, some _]) dX2_row_77 rfl (by decide) rfl ?_
                  refine x_goto (tgt := 27) dX2_row_78 (by decide) ?_
                  exact ih _ (by omega) q2 Y (m + 1) (em z 16 0) P' _ fu rfl hq2 hqs2 hr t3 g4 (by show e - z.1 < fu; omega) t4 t5 t6
                · obtain ⟨f', hf', -⟩ := h63
                  rw [show ((wdB tp e (skB tp e s.1), s.2.1, s.2.2) : LgS) = (wdB tp e (skB tp e s.1), s.2) from rfl, hf] at hf'
                  cases hf'
              · simp at h51
          · simp at h29
      · rw [if_neg hI] at hr
        refine x_aload_n dX2_row_27 rfl rfl ?_
        refine x_iload_n dX2_row_28 rfl rfl ?_
        refine x_if_eq (tgt := 37) dX2_row_29 (by decide) (fun h29 => ?_) (fun h29 => ?_)
        · refine x_ldcs dX2_row_37 (List.mem_of_getElem? (i := 33) rfl) ?_
          refine g_callI (vs := [_, _]) (d' := d - 1) rfl (s_X2_takes (i := 33) (by omega) hR1 h0 (by omega) rfl) dX2_row_39 kX2_109 (by omega) (by decide) rfl (Nat.le_of_ble_eq_true rfl) (rcv_o (by first | assumption | first | assumption | (simp (disch := omega) only [shI, shR, shL, shC, shD, shW, sh_V, shN_e, shN_n, crI, crL, crC, crW, crV, crR_e, crR_n, crN_e, crN_n, ciR, ciL, ciD, ciN_e, ciN_n, rdI_e, rdI_n, rdC_i, rdC_o, rdW, rdU_e, rdU_n, rdLW, clI, clR, clC, clD, clW, clV, clN_e, clN_n, clL_e, clL_n]; done) | (simp (disch := omega) only [shI, shR, shL, shC, shD, shW, sh_V, shN_e, shN_n, crI, crL, crC, crW, crV, crR_e, crR_n, crN_e, crN_n, ciR, ciL, ciD, ciN_e, ciN_n, rdI_e, rdI_n, rdC_i, rdC_o, rdW, rdU_e, rdU_n, rdLW, clI, clR, clC, clD, clW, clV, clN_e, clN_n, clL_e, clL_n] <;> first | assumption | rfl | omega)) rfl) (fun x39 M39 h39 => ?_)
          obtain ⟨e39, f39⟩ := h39
          rw [hq, if_neg hI] at f39
          rw [hq, vP_f hI] at e39
          subst e39
          have f39' := f39.symm
          subst f39'
          refine x_if_eq (tgt := 81) dX2_row_42 (by decide) (fun h42 => ?_) (fun h42 => ?_)
          · try simp only [vP_0, vP_1, vP_n0, vP_n1, Classical.not_not] at h42
            refine x_aload_n dX2_row_81 rfl rfl ?_
            refine x_areturn rfl (by first | exact Or.inl ⟨_, rfl⟩ | exact Or.inr ⟨_, rfl⟩) dX2_row_82 ?_
            exact fin (skB tp e s.1, s.2) _ l m P M1 hr hE (by omega) rfl (hD.le (by show 3 * (s.1 - p) - kx ≤ 3 * (skB tp e s.1 - p) - kx; omega) (by show 12 * (s.1 - p) - ky ≤ 12 * (skB tp e s.1 - p) - ky; omega)) h10 hL
          · try simp only [vP_0, vP_1, vP_n0, vP_n1, Classical.not_not] at h42
            simp at h42
        · simp at h29
  have hnxP : ((mnx (mP M p) : Nat) : Int) = X := hXX
  have hDa : Dr M (mNx M X 9 0 3) 1 3 := Dr.rfl.nx hXX
  have hRa : RdX (mNx M X 9 0 3) tp e := hR.dr hDa (by omega)
  have r2a : msh (mNx M X 9 0 3) 2 = some (2, 0) := hRa.1.1.1
  have ea : mci (mNx M X 9 0 3) 2 10 = dp := (ciN_n (by omega)).trans hdp
  have eTa : ((mnx (mNx M X 9 0 3) : Nat) : Int) = X + 1 := by
    show ((mnx M + 1 : Nat) : Int) = X + 1
    omega
  have r2' : msh M 2 = some (2, 0) := hR.1.1.1
  have hca := hin (mNx M X 9 0 3) p c u hRa (by show 761 ≤ mnx M + 1; omega) hp ea
  rcases hf : f (p, c, u) with f1 | z
  · refine x_newX (x := X) (by first | (simp only [nxI, nxR, nxL, nxC, nxD, nxW, nxV, nxN]; done) | (simp only [nxI, nxR, nxL, nxC, nxD, nxW, nxV, nxN]; omega) | omega) (t := 9) rfl q1148 q1149 q170 dX2_row_0 ?_
    refine WP.mem (mP_n (by omega)) ?_
    refine x_dup dX2_row_3 rfl ?_
    refine x_iload_n dX2_row_4 rfl rfl ?_
    refine x_if_eq (tgt := 15) dX2_row_5 (by decide) (fun h5 => ?_) (fun h5 => ?_)
    · refine x_aload_n dX2_row_15 rfl rfl ?_
      refine x_iconst dX2_row_16 rfl ?_
      refine g_callRX (vs := [_, _]) (d' := d - 1) rfl (hca) dX2_row_17 kX2_221 (by omega) (by decide) rfl (Nat.le_of_ble_eq_true rfl) (rcv_o (by first | assumption | first | assumption | (simp (disch := omega) only [shI, shR, shL, shC, shD, shW, sh_V, shN_e, shN_n, crI, crL, crC, crW, crV, crR_e, crR_n, crN_e, crN_n, ciR, ciL, ciD, ciN_e, ciN_n, rdI_e, rdI_n, rdC_i, rdC_o, rdW, rdU_e, rdU_n, rdLW, clI, clR, clC, clD, clW, clV, clN_e, clN_n, clL_e, clL_n]; done) | (simp (disch := omega) only [shI, shR, shL, shC, shD, shW, sh_V, shN_e, shN_n, crI, crL, crC, crW, crV, crR_e, crR_n, crN_e, crN_n, ciR, ciL, ciD, ciN_e, ciN_n, rdI_e, rdI_n, rdC_i, rdC_o, rdW, rdU_e, rdU_n, rdLW, clI, clR, clC, clD, clW, clV, clN_e, clN_n, clL_e, clL_n] <;> first | assumption | rfl | omega)) rfl) (fun x17 M17 h17 => ?_) (fun a17 E17 M17 h17 => ?_)
      · obtain ⟨y, R, M', q2, a2, hy, -⟩ := h17
        rw [hf] at hy
        cases hy
        skip
      · obtain ⟨f', hf', hx⟩ := h17
        rw [hf] at hf'
        cases hf'
        exact th_nil rfl (hQ _ _ (CX.f (rLst_l hf) (hx.d (hDa.z (Int.le_refl _) (Int.le_refl _)) (by show ((1 : Nat) : Int) + (3 * (e - p) + fx) ≤ 3 * (e - p) + (fx + 1); omega) (by show ((3 : Nat) : Int) + (12 * (e - p) + fy) ≤ 12 * (e - p) + (fy + 3); omega) rfl)))
    · simp at h5
  · have g2 := hU _ _ (by show p ≤ e; omega) hf 0
    have hz1 : p ≤ z.1 := g2.1.1
    have hz2 : z.1 ≤ e := g2.1.2
    have step : ∀ (R : Pf) (M2 : Mem) (a2 : Int), Dz (mNx M X 9 0 3) M2 (3 * (z.1 - p) - (kx + 1)) (12 * (z.1 - p) - (ky + 3)) → mci M2 2 10 = dp → CD (msh M2) (mci M2) (mcr M2) (mnx (mNx M X 9 0 3)) (mnx M2) lv a2 R →
        msh M2 X = some (9, 0) ∧ Dz M (mI (mR M2 X 0 (some a2)) X 1 0) (3 * (z.1 - p) - kx) (12 * (z.1 - p) - ky) ∧ mci (mI (mR M2 X 0 (some a2)) X 1 0) 2 10 = dp ∧ ChL (msh (mI (mR M2 X 0 (some a2)) X 1 0)) (mci (mI (mR M2 X 0 (some a2)) X 1 0)) (mcr (mI (mR M2 X 0 (some a2)) X 1 0)) (mnx (mI (mR M2 X 0 (some a2)) X 1 0)) 0 lv 0 X X R := by
      intro R M2 a2 hD2 h102 hCR
      have sa := hD2.same (B := 54) (T := X + 1) (Int.le_refl _) (by omega)
      have hYn : ((mnx M2 : Nat) : Int) ≥ X + 1 := by have := hD2.nx; omega
      have sY : msh M2 X = some (9, 0) := (sa X (by omega) (by omega)).1.trans (if_pos rfl)
      have cY : mcr M2 X 2 = none := ((sa X (by omega) (by omega)).2.2 2).trans (if_pos rfl)
      rw [eTa] at hCR
      refine ⟨sY, ?_, (rdI_n (by omega)).trans h102, rfl, a2, ⟨⟨Int.le_refl _, by show X < ((mnx M2 : Nat) : Int); omega⟩, sY, rdI_e ⟨rfl, rfl⟩, crR_e ⟨rfl, rfl⟩⟩, (crR_n (by omega)).trans cY, hCR.wid (fun a a0 a1 => ⟨rfl, fun k => rdI_n (by omega), fun k => crR_n (by omega)⟩) (Int.le_refl _) (Int.le_refl _)⟩
      obtain ⟨c1, s1', d1, d2, d3⟩ := (hDa.z (Int.le_refl _) (Int.le_refl _)).trans hD2
      refine ⟨c1, s1', ?_, by omega, by omega⟩
      exact (d1.mR2 (by omega)).I2 (by omega)
    refine x_newX (x := X) (by first | (simp only [nxI, nxR, nxL, nxC, nxD, nxW, nxV, nxN]; done) | (simp only [nxI, nxR, nxL, nxC, nxD, nxW, nxV, nxN]; omega) | omega) (t := 9) rfl q1148 q1149 q170 dX2_row_0 ?_
    refine WP.mem (mP_n (by omega)) ?_
    refine x_dup dX2_row_3 rfl ?_
    refine x_iload_n dX2_row_4 rfl rfl ?_
    refine x_if_eq (tgt := 15) dX2_row_5 (by decide) (fun h5 => ?_) (fun h5 => ?_)
    · refine x_aload_n dX2_row_15 rfl rfl ?_
      refine x_iconst dX2_row_16 rfl ?_
      refine g_callRX (vs := [_, _]) (d' := d - 1) rfl (hca) dX2_row_17 kX2_221 (by omega) (by decide) rfl (Nat.le_of_ble_eq_true rfl) (rcv_o (by first | assumption | first | assumption | (simp (disch := omega) only [shI, shR, shL, shC, shD, shW, sh_V, shN_e, shN_n, crI, crL, crC, crW, crV, crR_e, crR_n, crN_e, crN_n, ciR, ciL, ciD, ciN_e, ciN_n, rdI_e, rdI_n, rdC_i, rdC_o, rdW, rdU_e, rdU_n, rdLW, clI, clR, clC, clD, clW, clV, clN_e, clN_n, clL_e, clL_n]; done) | (simp (disch := omega) only [shI, shR, shL, shC, shD, shW, sh_V, shN_e, shN_n, crI, crL, crC, crW, crV, crR_e, crR_n, crN_e, crN_n, ciR, ciL, ciD, ciN_e, ciN_n, rdI_e, rdI_n, rdC_i, rdC_o, rdW, rdU_e, rdU_n, rdLW, clI, clR, clC, clD, clW, clV, clN_e, clN_n, clL_e, clL_n] <;> first | assumption | rfl | omega)) rfl) (fun x17 M17 h17 => ?_) (fun a17 E17 M17 h17 => ?_)
      · obtain ⟨y, R, M2, q2, a2, hy, hER, ho, hMM, hq2, hqs2, hD2, h102, hCR⟩ := h17
        rw [hf] at hy
        cases hy
        cases ho
        subst hMM
        obtain ⟨t1, t4, t5, t6⟩ := step R M2 a2 hD2 (h102.trans ea) hCR
        refine x_iload_n dX2_row_20 rfl rfl ?_
        refine g_callN (vs := [_, _, _]) (d' := d - 1) rfl (s_X9_init (by omega) (by omega) t1 (by omega)) dX2_row_21 kX2_241 (by omega) (by decide) rfl (Nat.le_of_ble_eq_true rfl) (rcv_o (by first | assumption | first | assumption | (simp (disch := omega) only [shI, shR, shL, shC, shD, shW, sh_V, shN_e, shN_n, crI, crL, crC, crW, crV, crR_e, crR_n, crN_e, crN_n, ciR, ciL, ciD, ciN_e, ciN_n, rdI_e, rdI_n, rdC_i, rdC_o, rdW, rdU_e, rdU_n, rdLW, clI, clR, clC, clD, clW, clV, clN_e, clN_n, clL_e, clL_n]; done) | (simp (disch := omega) only [shI, shR, shL, shC, shD, shW, sh_V, shN_e, shN_n, crI, crL, crC, crW, crV, crR_e, crR_n, crN_e, crN_n, ciR, ciL, ciD, ciN_e, ciN_n, rdI_e, rdI_n, rdC_i, rdC_o, rdW, rdU_e, rdU_n, rdLW, clI, clR, clC, clD, clW, clV, clN_e, clN_n, clL_e, clL_n] <;> first | assumption | rfl | omega)) rfl) (fun M21 h21 => ?_)
        subst h21
        refine WP.mem ((congrArg (fun z => mI z X 1 0) mP_r).trans (mP_c (by omega))) ?_
        refine x_astore_n (L' := [some _, some _, some _, none]) dX2_row_24 rfl (by decide) rfl ?_
        refine x_aload_n dX2_row_25 rfl rfl ?_
        refine x_astore_n (L' := [some _, some _, some _, some _]) dX2_row_26 rfl (by decide) rfl ?_
        exact lp _ q2 X 0 z R _ (e.toNat + 1) rfl hq2 hqs2 (rLst_r hf) hER g2 (by omega) t4 t5 t6
      · obtain ⟨f', hf', -⟩ := h17
        rw [hf] at hf'
        cases hf'
    · simp at h5
end X2

