/-! Reader of laws: words and comparisons -/
/-- what comes of a step that reads a condition -/
def CX (M : Mem) (tp : Int → Int) (e : Int) (lv : Nat) (kx ky fx fy : Int) (r : LgR) (s : LgS) : Res → Mem → Prop :=
  orT (postR fun o M1 => ∃ (y : LgS) (P : Pf) (M' : Mem) (q a : Int), r = .inr y ∧ Ev s y (fun fc => vP (P fc)) ∧ o = some a ∧ M1 = mP M' q ∧ (0 ≤ q ∧ q ≤ e) ∧ skB tp e q = skB tp e y.1 ∧ Dz M M' (3 * (y.1 - s.1) - kx) (12 * (y.1 - s.1) - ky) ∧ mci M' 2 10 = mci M 2 10 ∧ CD (msh M') (mci M') (mcr M') (mnx M) (mnx M') lv a P)
    (fun a E M1 => ∃ f, r = .inl f ∧ FlZ M f (3 * (e - s.1) + fx) (12 * (e - s.1) + fy) a E M1)
theorem CX.s {M M' : Mem} {tp : Int → Int} {e kx ky fx fy q a : Int} {lv : Nat} {r : LgR} {s y : LgS} {P : Pf} (h : r = .inr y) (hE : Ev s y (fun fc => vP (P fc))) (hq : 0 ≤ q ∧ q ≤ e) (hs : skB tp e q = skB tp e y.1) (hd : Dz M M' (3 * (y.1 - s.1) - kx) (12 * (y.1 - s.1) - ky)) (h10 : mci M' 2 10 = mci M 2 10) (hC : CD (msh M') (mci M') (mcr M') (mnx M) (mnx M') lv a P) : CX M tp e lv kx ky fx fy r s (rV (dR a)) (mP M' q) := Or.inl ⟨some a, rfl, y, P, M', q, a, h, hE, rfl, rfl, hq, hs, hd, h10, hC⟩
theorem CX.f {M M1 : Mem} {tp : Int → Int} {e kx ky fx fy f a : Int} {lv : Nat} {r : LgR} {s : LgS} {E : String} (h : r = .inl f) (hf : FlZ M f (3 * (e - s.1) + fx) (12 * (e - s.1) + fy) a E M1) : CX M tp e lv kx ky fx fy r s (rT a E) M1 := Or.inr ⟨a, E, rfl, f, h, hf⟩
theorem rSum_p {tp : Int → Int} {e : Int} {s y : LgS} (hs : s.1 ≤ e) (h : rSum tp e s = .inr y) : s.1 < y.1 ∧ y.1 ≤ e := by
  unfold rSum at h
  rcases hp : rPart tp e s with f | z
  · rw [hp] at h; cases h
  · rw [hp] at h
    have h1 := rPart_p hs hp
    have h2 := rSumL_g _ _ _ h1.2.1 h 0
    exact ⟨by have := h2.1.1; omega, h2.1.2⟩
theorem mP_r {M : Mem} {p a i : Int} {r : Option Int} : mR (mP M p) a i r = mP (mR M a i r) p := rfl
theorem less_ok {M M1 M2 : Mem} {a1 a2 X o1 o2 : Int} {F1 F2 : (Int → Int) → Int} {c s c' s' : Nat} (hM : 761 ≤ mnx M) (h1 : SumO M M1 a1 F1) (h2 : SumO M1 M2 a2 F2) (hd1 : Dr M M1 c s) (hd2 : Dr M1 M2 c' s') (hX : ((mnx M2 : Nat) : Int) = X) (ho : (o1 = a1 ∧ o2 = a2) ∨ (o1 = a2 ∧ o2 = a1)) :
    CD (msh (mR (mR (mNx M2 X 12 0 2) X 0 (some o1)) X 1 (some o2))) (mci (mR (mR (mNx M2 X 12 0 2) X 0 (some o1)) X 1 (some o2))) (mcr (mR (mR (mNx M2 X 12 0 2) X 0 (some o1)) X 1 (some o2))) (mnx M) (mnx (mR (mR (mNx M2 X 12 0 2) X 0 (some o1)) X 1 (some o2))) 0 X (fun fc => sumL (mci (mR (mR (mNx M2 X 12 0 2) X 0 (some o1)) X 1 (some o2))) o1 fc < sumL (mci (mR (mR (mNx M2 X 12 0 2) X 0 (some o1)) X 1 (some o2))) o2 fc) ∧
    (∀ fc, sumL (mci (mR (mR (mNx M2 X 12 0 2) X 0 (some o1)) X 1 (some o2))) a1 fc = F1 fc) ∧ (∀ fc, sumL (mci (mR (mR (mNx M2 X 12 0 2) X 0 (some o1)) X 1 (some o2))) a2 fc = F2 fc) := by
  have n1 := hd1.2.1
  have n2 := hd2.2.1
  have hT : (mnx (mR (mR (mNx M2 X 12 0 2) X 0 (some o1)) X 1 (some o2)) : Int) = X + 1 := by
    show ((mnx M2 + 1 : Nat) : Int) = X + 1
    omega
  have s2 : ∀ B T : Int, T ≤ X → Same B T (msh M2) (mci M2) (mcr M2) (msh (mR (mR (mNx M2 X 12 0 2) X 0 (some o1)) X 1 (some o2))) (mci (mR (mR (mNx M2 X 12 0 2) X 0 (some o1)) X 1 (some o2))) (mcr (mR (mR (mNx M2 X 12 0 2) X 0 (some o1)) X 1 (some o2))) := fun B T hT a a0 a1 => ⟨if_neg (by omega), fun k => if_neg (by omega), fun k => (crR_n (by omega)).trans ((crR_n (by omega)).trans (if_neg (by omega)))⟩
  have s1 : Same (mnx M) (mnx M1) (msh M1) (mci M1) (mcr M1) (msh M2) (mci M2) (mcr M2) := (hd2.z (Int.le_refl _) (Int.le_refl _)).same (by omega) (Int.le_refl _)
  obtain ⟨x1, x2⟩ := h1.1.wid s1 (Int.le_refl _) (show ((mnx M1 : Nat) : Int) ≤ X by omega)
  obtain ⟨y1, y2⟩ := x1.wid (s2 (mnx M) X (Int.le_refl _)) (Int.le_refl _) (show X ≤ X + 1 by omega)
  obtain ⟨z1, z2⟩ := h2.1.wid (s2 (mnx M1) (mnx M2) (by omega)) (show ((mnx M : Nat) : Int) ≤ mnx M1 by omega) (show ((mnx M2 : Nat) : Int) ≤ X + 1 by omega)
  rw [hT]
  refine ⟨⟨⟨by omega, by omega⟩, Or.inr ⟨if_pos rfl, o1, o2, (crR_n (by omega)).trans (crR_e ⟨rfl, rfl⟩), crR_e ⟨rfl, rfl⟩, ?_, ?_, rfl⟩⟩, fun fc => (y2 fc).trans ((x2 fc).trans (h1.2 fc)), fun fc => (z2 fc).trans (h2.2 fc)⟩
  · rcases ho with ⟨rfl, rfl⟩ | ⟨rfl, rfl⟩
    · exact y1
    · exact z1
  · rcases ho with ⟨rfl, rfl⟩ | ⟨rfl, rfl⟩
    · exact z1
    · exact y1
section X2
variable {G : GW} {d : Nat} {M M1 : Mem} {p e lo hi k n x a b c : Int} {tp : Int → Int} {u : Vw}
theorem s_X2_tag (hd : 24 ≤ d) (hR : RdX M tp e) (hM : 761 ≤ mnx M) (hp : 0 ≤ p ∧ p ≤ e) : CS G d mX2_tag [dR 2] (mP M p) (CX M tp e 0 2 6 4 18 (rCmp tp e (p, c, u)) (p, c, u)) := by
  obtain ⟨⟨⟨r0, r3, r4, r5, r6, r7, r53⟩, ⟨c0, c1, c2, c3, c4, c5, c6⟩, x1, x2, x3⟩, -, -, he2, -, hB⟩ := id hR
  have hsk := skB_r (tp := tp) hp.2
  have hwk := wdB_r (tp := tp) hsk.2
  have hss : skB tp e (skB tp e p) = skB tp e p := skB_i _ rfl
  generalize hXX : ((mnx M : Nat) : Int) = X
  have hX7 : 761 ≤ X := by omega
  have er0 : rCmp tp e (p, c, u) = (if tagW tp (skB tp e p) (wdB tp e (skB tp e p)) < 0 then
    (match rSum tp e (skB tp e p, c, u) with
    | .inl x => .inl x
    | .inr y => if chP tp e 60 60 (skB tp e y.1) ∨ chP tp e 62 62 (skB tp e y.1) then
        match rSum tp e (skB tp e y.1 + 1, y.2) with
        | .inl x => .inl x
        | .inr z => .inr (em z (if chP tp e 60 60 (skB tp e y.1) then 12 else 13) 0)
      else .inl (skB tp e y.1))
    else .inr (em (wdB tp e (skB tp e p), c, u) (7 + tagW tp (skB tp e p) (wdB tp e (skB tp e p))) 0)) := rfl
  generalize hb : skB tp e p = b at hsk hwk hss er0
  generalize hw : wdB tp e b = w at hwk er0
  generalize hW : tagW tp b w = W at er0
  refine CS.mkQ (by decide) (Nat.le_of_ble_eq_true rfl) fun Q hQ => ?_
  -- two sums
  have tail : W < 0 → WP G d mX2_tag 42 [some (dR 2), some (dI 3), none, none] [] (mP M b) Q := by
    intro hW0
    rw [if_pos hW0] at er0
    rcases h1 : rSum tp e (b, c, u) with f1 | y1
    · rw [h1] at er0
      dsimp only at er0
      refine x_aload_n dX2_tag_42 rfl rfl ?_
      refine g_callRX (vs := [_]) (d' := d - 1) rfl (s_X2_sum (c := c) (u := u) (by omega) hR hM (by omega)) dX2_tag_43 kX2_266 (by omega) (by decide) rfl (Nat.le_of_ble_eq_true rfl) (rcv_o (by first | assumption | first | assumption | (simp (disch := omega) only [shI, shR, shL, shC, shD, shW, sh_V, shN_e, shN_n, crI, crL, crC, crW, crV, crR_e, crR_n, crN_e, crN_n, ciR, ciL, ciD, ciN_e, ciN_n, rdI_e, rdI_n, rdC_i, rdC_o, rdW, rdU_e, rdU_n, rdLW, clI, clR, clC, clD, clW, clV, clN_e, clN_n, clL_e, clL_n]; done) | (simp (disch := omega) only [shI, shR, shL, shC, shD, shW, sh_V, shN_e, shN_n, crI, crL, crC, crW, crV, crR_e, crR_n, crN_e, crN_n, ciR, ciL, ciD, ciN_e, ciN_n, rdI_e, rdI_n, rdC_i, rdC_o, rdW, rdU_e, rdU_n, rdLW, clI, clR, clC, clD, clW, clV, clN_e, clN_n, clL_e, clL_n] <;> first | assumption | rfl | omega)) rfl) (fun x43 M43 h43 => ?_) (fun a43 E43 M43 h43 => ?_)
      · obtain ⟨y, F, M', q, a, hy, -⟩ := h43
        rw [h1] at hy
        cases hy
        skip
      · obtain ⟨f', hf, g1, g2, g3, g4⟩ := h43
        rw [h1] at hf
        cases hf
        exact th_nil rfl (hQ _ _ (CX.f er0 ⟨g1, g2, g3.z (by show (2 : Int) ≤ 3 * (e - p) + 4; omega) (by show (9 : Int) ≤ 12 * (e - p) + 18; omega), g4⟩))
    · rw [h1] at er0
      dsimp only at er0
      have hy1 := rSum_p (by show b ≤ e; omega) h1
      have hy11 : b < y1.1 := hy1.1
      have hs1 := skB_r (tp := tp) hy1.2
      have g1 := rSum_g _ _ (by show b ≤ e; omega) h1 0
      by_cases hc : chP tp e 60 60 (skB tp e y1.1) ∨ chP tp e 62 62 (skB tp e y1.1)
      · rw [if_pos hc] at er0
        have hc1 : skB tp e y1.1 < e := by rcases hc with q | q <;> exact q.1
        rcases h2 : rSum tp e (skB tp e y1.1 + 1, y1.2) with f2 | y2
        · rw [h2] at er0
          dsimp only at er0
          refine x_aload_n dX2_tag_42 rfl rfl ?_
          refine g_callRX (vs := [_]) (d' := d - 1) rfl (s_X2_sum (c := c) (u := u) (by omega) hR hM (by omega)) dX2_tag_43 kX2_266 (by omega) (by decide) rfl (Nat.le_of_ble_eq_true rfl) (rcv_o (by first | assumption | first | assumption | (simp (disch := omega) only [shI, shR, shL, shC, shD, shW, sh_V, shN_e, shN_n, crI, crL, crC, crW, crV, crR_e, crR_n, crN_e, crN_n, ciR, ciL, ciD, ciN_e, ciN_n, rdI_e, rdI_n, rdC_i, rdC_o, rdW, rdU_e, rdU_n, rdLW, clI, clR, clC, clD, clW, clV, clN_e, clN_n, clL_e, clL_n]; done) | (simp (disch := omega) only [shI, shR, shL, shC, shD, shW, sh_V, shN_e, shN_n, crI, crL, crC, crW, crV, crR_e, crR_n, crN_e, crN_n, ciR, ciL, ciD, ciN_e, ciN_n, rdI_e, rdI_n, rdC_i, rdC_o, rdW, rdU_e, rdU_n, rdLW, clI, clR, clC, clD, clW, clV, clN_e, clN_n, clL_e, clL_n] <;> first | assumption | rfl | omega)) rfl) (fun x43 M43 h43 => ?_) (fun a43 E43 M43 h43 => ?_)
          · obtain ⟨y, F1, M1, q1, a1, hy, hE1, ho, hM1, hq1, hqs1, hD1, hT1, hO1⟩ := h43
            rw [h1] at hy
            cases hy
            cases ho
            subst hM1
            refine x_astore_n (L' := [some _, some _, none, none]) dX2_tag_46 rfl (by decide) rfl ?_
            have hR1 : RdX M1 tp e := hR.dr hD1 (by omega)
            have hM1' : 761 ≤ mnx M1 := by have := hD1.2.1; omega
            have r2' : msh M1 2 = some (2, 0) := hR1.1.1.1
            have s60 : sgV tp e q1 = 60 ↔ chP tp e 60 60 (skB tp e y1.1) := by rw [← hqs1]; exact sgV_i hB (by omega)
            have s62 : sgV tp e q1 = 62 ↔ chP tp e 62 62 (skB tp e y1.1) := by rw [← hqs1]; exact sgV_i hB (by omega)
            have s6 : sgV tp e q1 = 60 ∨ sgV tp e q1 = 62 := hc.elim (fun q => Or.inl (s60.mpr q)) (fun q => Or.inr (s62.mpr q))
            refine x_aload_n dX2_tag_47 rfl rfl ?_
            refine g_callI (vs := [_]) (d' := d - 1) rfl (s_X2_sign (by omega) hR1 (by omega)) dX2_tag_48 kX2_98 (by omega) (by decide) rfl (Nat.le_of_ble_eq_true rfl) (rcv_o (by first | assumption | first | assumption | (simp (disch := omega) only [shI, shR, shL, shC, shD, shW, sh_V, shN_e, shN_n, crI, crL, crC, crW, crV, crR_e, crR_n, crN_e, crN_n, ciR, ciL, ciD, ciN_e, ciN_n, rdI_e, rdI_n, rdC_i, rdC_o, rdW, rdU_e, rdU_n, rdLW, clI, clR, clC, clD, clW, clV, clN_e, clN_n, clL_e, clL_n]; done) | (simp (disch := omega) only [shI, shR, shL, shC, shD, shW, sh_V, shN_e, shN_n, crI, crL, crC, crW, crV, crR_e, crR_n, crN_e, crN_n, ciR, ciL, ciD, ciN_e, ciN_n, rdI_e, rdI_n, rdC_i, rdC_o, rdW, rdU_e, rdU_n, rdLW, clI, clR, clC, clD, clW, clV, clN_e, clN_n, clL_e, clL_n] <;> first | assumption | rfl | omega)) rfl) (fun x48 M48 h48 => ?_)
            obtain ⟨e48, f48⟩ := h48
            rw [hqs1] at f48
            have f48' := f48.symm
            subst f48'
            refine x_istore_n (L' := [some _, some _, some _, none]) dX2_tag_51 rfl (by decide) rfl ?_
            refine x_iload_n dX2_tag_52 rfl rfl ?_
            refine x_bipush dX2_tag_53 rfl ?_
            refine x_icmp_eq (tgt := 72) dX2_tag_55 (by decide) (fun h55 => ?_) (fun h55 => ?_)
            · refine x_aload_n dX2_tag_72 rfl rfl ?_
              refine x_dup dX2_tag_73 rfl ?_
              refine g_getI (kI := 9) rfl dX2_tag_74 fX2_92_2 (by first | assumption | first | assumption | (simp (disch := omega) only [shI, shR, shL, shC, shD, shW, sh_V, shN_e, shN_n, crI, crL, crC, crW, crV, crR_e, crR_n, crN_e, crN_n, ciR, ciL, ciD, ciN_e, ciN_n, rdI_e, rdI_n, rdC_i, rdC_o, rdW, rdU_e, rdU_n, rdLW, clI, clR, clC, clD, clW, clV, clN_e, clN_n, clL_e, clL_n]; done) | (simp (disch := omega) only [shI, shR, shL, shC, shD, shW, sh_V, shN_e, shN_n, crI, crL, crC, crW, crV, crR_e, crR_n, crN_e, crN_n, ciR, ciL, ciD, ciN_e, ciN_n, rdI_e, rdI_n, rdC_i, rdC_o, rdW, rdU_e, rdU_n, rdLW, clI, clR, clC, clD, clW, clV, clN_e, clN_n, clL_e, clL_n] <;> first | assumption | rfl | omega)) ?_
              try simp (disch := omega) only [rdI_e, rdI_n, rdC_i, rdC_o, rdW, rdR, rdU_e, rdU_n, rdLW, Int.add_zero, mP_p]
              refine x_iconst dX2_tag_77 rfl ?_
              first | refine x_iaddN dX2_tag_78 (by unfold i32; omega) ?_ | refine x_iadd dX2_tag_78 ?_
              refine g_putI (kI := 9) rfl dX2_tag_79 fX2_92_2 (by first | assumption | first | assumption | (simp (disch := omega) only [shI, shR, shL, shC, shD, shW, sh_V, shN_e, shN_n, crI, crL, crC, crW, crV, crR_e, crR_n, crN_e, crN_n, ciR, ciL, ciD, ciN_e, ciN_n, rdI_e, rdI_n, rdC_i, rdC_o, rdW, rdU_e, rdU_n, rdLW, clI, clR, clC, clD, clW, clV, clN_e, clN_n, clL_e, clL_n]; done) | (simp (disch := omega) only [shI, shR, shL, shC, shD, shW, sh_V, shN_e, shN_n, crI, crL, crC, crW, crV, crR_e, crR_n, crN_e, crN_n, ciR, ciL, ciD, ciN_e, ciN_n, rdI_e, rdI_n, rdC_i, rdC_o, rdW, rdU_e, rdU_n, rdLW, clI, clR, clC, clD, clW, clV, clN_e, clN_n, clL_e, clL_n] <;> first | assumption | rfl | omega)) ?_
              try simp only [mP_w]
              refine x_aload_n dX2_tag_82 rfl rfl ?_
              refine g_callRX (vs := [_]) (d' := d - 1) rfl (s_X2_sum (c := y1.2.1) (u := y1.2.2) (by omega) hR1 hM1' (by omega)) dX2_tag_83 kX2_266 (by omega) (by decide) rfl (Nat.le_of_ble_eq_true rfl) (rcv_o (by first | assumption | first | assumption | (simp (disch := omega) only [shI, shR, shL, shC, shD, shW, sh_V, shN_e, shN_n, crI, crL, crC, crW, crV, crR_e, crR_n, crN_e, crN_n, ciR, ciL, ciD, ciN_e, ciN_n, rdI_e, rdI_n, rdC_i, rdC_o, rdW, rdU_e, rdU_n, rdLW, clI, clR, clC, clD, clW, clV, clN_e, clN_n, clL_e, clL_n]; done) | (simp (disch := omega) only [shI, shR, shL, shC, shD, shW, sh_V, shN_e, shN_n, crI, crL, crC, crW, crV, crR_e, crR_n, crN_e, crN_n, ciR, ciL, ciD, ciN_e, ciN_n, rdI_e, rdI_n, rdC_i, rdC_o, rdW, rdU_e, rdU_n, rdLW, clI, clR, clC, clD, clW, clV, clN_e, clN_n, clL_e, clL_n] <;> first | assumption | rfl | omega)) rfl) (fun x83 M83 h83 => ?_) (fun a83 E83 M83 h83 => ?_)
              · obtain ⟨y, F, M', q, a, hy, -⟩ := h83
                rw [show ((skB tp e y1.1 + 1, y1.2.1, y1.2.2) : LgS) = (skB tp e y1.1 + 1, y1.2) from rfl, h2] at hy
                cases hy
                skip
              · obtain ⟨f', hf, g1, g2, g3, g4⟩ := h83
                rw [show ((skB tp e y1.1 + 1, y1.2.1, y1.2.2) : LgS) = (skB tp e y1.1 + 1, y1.2) from rfl, h2] at hf
                cases hf
                exact th_nil rfl (hQ _ _ (CX.f er0 ⟨g1, g2, (hD1.trans g3).z (by show ((2 + 2 : Nat) : Int) ≤ 3 * (e - p) + 4; omega) (by show ((9 + 9 : Nat) : Int) ≤ 12 * (e - p) + 18; omega), g4⟩))
            · refine x_iload_n dX2_tag_58 rfl rfl ?_
              refine x_bipush dX2_tag_59 rfl ?_
              refine x_icmp_eq (tgt := 72) dX2_tag_61 (by decide) (fun h61 => ?_) (fun h61 => ?_)
              · refine x_aload_n dX2_tag_72 rfl rfl ?_
                refine x_dup dX2_tag_73 rfl ?_
                refine g_getI (kI := 9) rfl dX2_tag_74 fX2_92_2 (by first | assumption | first | assumption | (simp (disch := omega) only [shI, shR, shL, shC, shD, shW, sh_V, shN_e, shN_n, crI, crL, crC, crW, crV, crR_e, crR_n, crN_e, crN_n, ciR, ciL, ciD, ciN_e, ciN_n, rdI_e, rdI_n, rdC_i, rdC_o, rdW, rdU_e, rdU_n, rdLW, clI, clR, clC, clD, clW, clV, clN_e, clN_n, clL_e, clL_n]; done) | (simp (disch := omega) only [shI, shR, shL, shC, shD, shW, sh_V, shN_e, shN_n, crI, crL, crC, crW, crV, crR_e, crR_n, crN_e, crN_n, ciR, ciL, ciD, ciN_e, ciN_n, rdI_e, rdI_n, rdC_i, rdC_o, rdW, rdU_e, rdU_n, rdLW, clI, clR, clC, clD, clW, clV, clN_e, clN_n, clL_e, clL_n] <;> first | assumption | rfl | omega)) ?_
                try simp (disch := omega) only [rdI_e, rdI_n, rdC_i, rdC_o, rdW, rdR, rdU_e, rdU_n, rdLW, Int.add_zero, mP_p]
                refine x_iconst dX2_tag_77 rfl ?_
                first | refine x_iaddN dX2_tag_78 (by unfold i32; omega) ?_ | refine x_iadd dX2_tag_78 ?_
                refine g_putI (kI := 9) rfl dX2_tag_79 fX2_92_2 (by first | assumption | first | assumption | (simp (disch := omega) only [shI, shR, shL, shC, shD, shW, sh_V, shN_e, shN_n, crI, crL, crC, crW, crV, crR_e, crR_n, crN_e, crN_n, ciR, ciL, ciD, ciN_e, ciN_n, rdI_e, rdI_n, rdC_i, rdC_o, rdW, rdU_e, rdU_n, rdLW, clI, clR, clC, clD, clW, clV, clN_e, clN_n, clL_e, clL_n]; done) | (simp (disch := omega) only [shI, shR, shL, shC, shD, shW, sh_V, shN_e, shN_n, crI, crL, crC, crW, crV, crR_e, crR_n, crN_e, crN_n, ciR, ciL, ciD, ciN_e, ciN_n, rdI_e, rdI_n, rdC_i, rdC_o, rdW, rdU_e, rdU_n, rdLW, clI, clR, clC, clD, clW, clV, clN_e, clN_n, clL_e, clL_n] <;> first | assumption | rfl | omega)) ?_
                try simp only [mP_w]
                refine x_aload_n dX2_tag_82 rfl rfl ?_
                refine g_callRX (vs := [_]) (d' := d - 1) rfl (s_X2_sum (c := y1.2.1) (u := y1.2.2) (by omega) hR1 hM1' (by omega)) dX2_tag_83 kX2_266 (by omega) (by decide) rfl (Nat.le_of_ble_eq_true rfl) (rcv_o (by first | assumption | first | assumption | (simp (disch := omega) only [shI, shR, shL, shC, shD, shW, sh_V, shN_e, shN_n, crI, crL, crC, crW, crV, crR_e, crR_n, crN_e, crN_n, ciR, ciL, ciD, ciN_e, ciN_n, rdI_e, rdI_n, rdC_i, rdC_o, rdW, rdU_e, rdU_n, rdLW, clI, clR, clC, clD, clW, clV, clN_e, clN_n, clL_e, clL_n]; done) | (simp (disch := omega) only [shI, shR, shL, shC, shD, shW, sh_V, shN_e, shN_n, crI, crL, crC, crW, crV, crR_e, crR_n, crN_e, crN_n, ciR, ciL, ciD, ciN_e, ciN_n, rdI_e, rdI_n, rdC_i, rdC_o, rdW, rdU_e, rdU_n, rdLW, clI, clR, clC, clD, clW, clV, clN_e, clN_n, clL_e, clL_n] <;> first | assumption | rfl | omega)) rfl) (fun x83 M83 h83 => ?_) (fun a83 E83 M83 h83 => ?_)
                · obtain ⟨y, F, M', q, a, hy, -⟩ := h83
                  rw [show ((skB tp e y1.1 + 1, y1.2.1, y1.2.2) : LgS) = (skB tp e y1.1 + 1, y1.2) from rfl, h2] at hy
                  cases hy
                  skip
                · obtain ⟨f', hf, g1, g2, g3, g4⟩ := h83
                  rw [show ((skB tp e y1.1 + 1, y1.2.1, y1.2.2) : LgS) = (skB tp e y1.1 + 1, y1.2) from rfl, h2] at hf
                  cases hf
                  exact th_nil rfl (hQ _ _ (CX.f er0 ⟨g1, g2, (hD1.trans g3).z (by show ((2 + 2 : Nat) : Int) ≤ 3 * (e - p) + 4; omega) (by show ((9 + 9 : Nat) : Int) ≤ 12 * (e - p) + 18; omega), g4⟩))
              · omega
          · obtain ⟨f', hf, -⟩ := h43
            rw [h1] at hf
            cases hf
        · rw [h2] at er0
          dsimp only at er0
          have hy2 := rSum_p (by show skB tp e y1.1 + 1 ≤ e; omega) h2
          have hy21 : skB tp e y1.1 + 1 < y2.1 := hy2.1
          have g2 := rSum_g _ _ (by show skB tp e y1.1 + 1 ≤ e; omega) h2 1
          refine x_aload_n dX2_tag_42 rfl rfl ?_
          refine g_callRX (vs := [_]) (d' := d - 1) rfl (s_X2_sum (c := c) (u := u) (by omega) hR hM (by omega)) dX2_tag_43 kX2_266 (by omega) (by decide) rfl (Nat.le_of_ble_eq_true rfl) (rcv_o (by first | assumption | first | assumption | (simp (disch := omega) only [shI, shR, shL, shC, shD, shW, sh_V, shN_e, shN_n, crI, crL, crC, crW, crV, crR_e, crR_n, crN_e, crN_n, ciR, ciL, ciD, ciN_e, ciN_n, rdI_e, rdI_n, rdC_i, rdC_o, rdW, rdU_e, rdU_n, rdLW, clI, clR, clC, clD, clW, clV, clN_e, clN_n, clL_e, clL_n]; done) | (simp (disch := omega) only [shI, shR, shL, shC, shD, shW, sh_V, shN_e, shN_n, crI, crL, crC, crW, crV, crR_e, crR_n, crN_e, crN_n, ciR, ciL, ciD, ciN_e, ciN_n, rdI_e, rdI_n, rdC_i, rdC_o, rdW, rdU_e, rdU_n, rdLW, clI, clR, clC, clD, clW, clV, clN_e, clN_n, clL_e, clL_n] <;> first | assumption | rfl | omega)) rfl) (fun x43 M43 h43 => ?_) (fun a43 E43 M43 h43 => ?_)
          · obtain ⟨y, F1, M1, q1, a1, hy, hE1, ho, hM1, hq1, hqs1, hD1, hT1, hO1⟩ := h43
            rw [h1] at hy
            cases hy
            cases ho
            subst hM1
            refine x_astore_n (L' := [some _, some _, none, none]) dX2_tag_46 rfl (by decide) rfl ?_
            have hR1 : RdX M1 tp e := hR.dr hD1 (by omega)
            have hM1' : 761 ≤ mnx M1 := by have := hD1.2.1; omega
            have r2' : msh M1 2 = some (2, 0) := hR1.1.1.1
            have s60 : sgV tp e q1 = 60 ↔ chP tp e 60 60 (skB tp e y1.1) := by rw [← hqs1]; exact sgV_i hB (by omega)
            have s62 : sgV tp e q1 = 62 ↔ chP tp e 62 62 (skB tp e y1.1) := by rw [← hqs1]; exact sgV_i hB (by omega)
            have s6 : sgV tp e q1 = 60 ∨ sgV tp e q1 = 62 := hc.elim (fun q => Or.inl (s60.mpr q)) (fun q => Or.inr (s62.mpr q))
            refine x_aload_n dX2_tag_47 rfl rfl ?_
            refine g_callI (vs := [_]) (d' := d - 1) rfl (s_X2_sign (by omega) hR1 (by omega)) dX2_tag_48 kX2_98 (by omega) (by decide) rfl (Nat.le_of_ble_eq_true rfl) (rcv_o (by first | assumption | first | assumption | (simp (disch := omega) only [shI, shR, shL, shC, shD, shW, sh_V, shN_e, shN_n, crI, crL, crC, crW, crV, crR_e, crR_n, crN_e, crN_n, ciR, ciL, ciD, ciN_e, ciN_n, rdI_e, rdI_n, rdC_i, rdC_o, rdW, rdU_e, rdU_n, rdLW, clI, clR, clC, clD, clW, clV, clN_e, clN_n, clL_e, clL_n]; done) | (simp (disch := omega) only [shI, shR, shL, shC, shD, shW, sh_V, shN_e, shN_n, crI, crL, crC, crW, crV, crR_e, crR_n, crN_e, crN_n, ciR, ciL, ciD, ciN_e, ciN_n, rdI_e, rdI_n, rdC_i, rdC_o, rdW, rdU_e, rdU_n, rdLW, clI, clR, clC, clD, clW, clV, clN_e, clN_n, clL_e, clL_n] <;> first | assumption | rfl | omega)) rfl) (fun x48 M48 h48 => ?_)
            obtain ⟨e48, f48⟩ := h48
            rw [hqs1] at f48
            have f48' := f48.symm
            subst f48'
            refine x_istore_n (L' := [some _, some _, some _, none]) dX2_tag_51 rfl (by decide) rfl ?_
            refine x_iload_n dX2_tag_52 rfl rfl ?_
            refine x_bipush dX2_tag_53 rfl ?_
            refine x_icmp_eq (tgt := 72) dX2_tag_55 (by decide) (fun h55 => ?_) (fun h55 => ?_)
            · refine x_aload_n dX2_tag_72 rfl rfl ?_
              refine x_dup dX2_tag_73 rfl ?_
              refine g_getI (kI := 9) rfl dX2_tag_74 fX2_92_2 (by first | assumption | first | assumption | (simp (disch := omega) only [shI, shR, shL, shC, shD, shW, sh_V, shN_e, shN_n, crI, crL, crC, crW, crV, crR_e, crR_n, crN_e, crN_n, ciR, ciL, ciD, ciN_e, ciN_n, rdI_e, rdI_n, rdC_i, rdC_o, rdW, rdU_e, rdU_n, rdLW, clI, clR, clC, clD, clW, clV, clN_e, clN_n, clL_e, clL_n]; done) | (simp (disch := omega) only [shI, shR, shL, shC, shD, shW, sh_V, shN_e, shN_n, crI, crL, crC, crW, crV, crR_e, crR_n, crN_e, crN_n, ciR, ciL, ciD, ciN_e, ciN_n, rdI_e, rdI_n, rdC_i, rdC_o, rdW, rdU_e, rdU_n, rdLW, clI, clR, clC, clD, clW, clV, clN_e, clN_n, clL_e, clL_n] <;> first | assumption | rfl | omega)) ?_
              try simp (disch := omega) only [rdI_e, rdI_n, rdC_i, rdC_o, rdW, rdR, rdU_e, rdU_n, rdLW, Int.add_zero, mP_p]
              refine x_iconst dX2_tag_77 rfl ?_
              first | refine x_iaddN dX2_tag_78 (by unfold i32; omega) ?_ | refine x_iadd dX2_tag_78 ?_
              refine g_putI (kI := 9) rfl dX2_tag_79 fX2_92_2 (by first | assumption | first | assumption | (simp (disch := omega) only [shI, shR, shL, shC, shD, shW, sh_V, shN_e, shN_n, crI, crL, crC, crW, crV, crR_e, crR_n, crN_e, crN_n, ciR, ciL, ciD, ciN_e, ciN_n, rdI_e, rdI_n, rdC_i, rdC_o, rdW, rdU_e, rdU_n, rdLW, clI, clR, clC, clD, clW, clV, clN_e, clN_n, clL_e, clL_n]; done) | (simp (disch := omega) only [shI, shR, shL, shC, shD, shW, sh_V, shN_e, shN_n, crI, crL, crC, crW, crV, crR_e, crR_n, crN_e, crN_n, ciR, ciL, ciD, ciN_e, ciN_n, rdI_e, rdI_n, rdC_i, rdC_o, rdW, rdU_e, rdU_n, rdLW, clI, clR, clC, clD, clW, clV, clN_e, clN_n, clL_e, clL_n] <;> first | assumption | rfl | omega)) ?_
              try simp only [mP_w]
              refine x_aload_n dX2_tag_82 rfl rfl ?_
              refine g_callRX (vs := [_]) (d' := d - 1) rfl (s_X2_sum (c := y1.2.1) (u := y1.2.2) (by omega) hR1 hM1' (by omega)) dX2_tag_83 kX2_266 (by omega) (by decide) rfl (Nat.le_of_ble_eq_true rfl) (rcv_o (by first | assumption | first | assumption | (simp (disch := omega) only [shI, shR, shL, shC, shD, shW, sh_V, shN_e, shN_n, crI, crL, crC, crW, crV, crR_e, crR_n, crN_e, crN_n, ciR, ciL, ciD, ciN_e, ciN_n, rdI_e, rdI_n, rdC_i, rdC_o, rdW, rdU_e, rdU_n, rdLW, clI, clR, clC, clD, clW, clV, clN_e, clN_n, clL_e, clL_n]; done) | (simp (disch := omega) only [shI, shR, shL, shC, shD, shW, sh_V, shN_e, shN_n, crI, crL, crC, crW, crV, crR_e, crR_n, crN_e, crN_n, ciR, ciL, ciD, ciN_e, ciN_n, rdI_e, rdI_n, rdC_i, rdC_o, rdW, rdU_e, rdU_n, rdLW, clI, clR, clC, clD, clW, clV, clN_e, clN_n, clL_e, clL_n] <;> first | assumption | rfl | omega)) rfl) (fun x83 M83 h83 => ?_) (fun a83 E83 M83 h83 => ?_)
              · obtain ⟨y, F2, M2, q2, a2, hy, hE2, ho, hM2, hq2, hqs2, hD2, hT2, hO2⟩ := h83
                rw [show ((skB tp e y1.1 + 1, y1.2.1, y1.2.2) : LgS) = (skB tp e y1.1 + 1, y1.2) from rfl, h2] at hy
                cases hy
                cases ho
                subst hM2
                refine x_astore_n (L' := [some _, some _, some _, some _]) dX2_tag_86 rfl (by decide) rfl ?_
                generalize hXY : ((mnx M2 : Nat) : Int) = Y
                have hnxP : ((mnx (mP M2 q2) : Nat) : Int) = Y := hXY
                have hY7 : 761 ≤ Y := by have := hD2.2.1; omega
                have fin : ∀ (o1 o2 cd : Int), ((o1 = a1 ∧ o2 = a2 ∧ cd = 12) ∨ (o1 = a2 ∧ o2 = a1 ∧ cd = 13)) → rCmp tp e (p, c, u) = .inr (em y2 cd 0) → Q (rV (dR Y)) (mR (mR (mNx (mP M2 q2) Y 12 0 2) Y 0 (some o1)) Y 1 (some o2)) := by
                  intro o1 o2 cd ho er
                  have hl := less_ok (o1 := o1) (o2 := o2) hM hO1 hO2 hD1 hD2 hXY (by omega)
                  have hEv := Ev.bin (c := cd) hE1 hE2 g1 g2 (by omega) (by omega)
                  have hDf : Dr M (mR (mR (mNx M2 Y 12 0 2) Y 0 (some o1)) Y 1 (some o2)) (2 + 2 + 1) (9 + 9 + 2) := (((hD1.trans hD2).nx hXY).mR2 (by have := hD1.2.1; have := hD2.2.1; omega)).mR2 (by have := hD1.2.1; have := hD2.2.1; omega)
                  rw [mP_n (by omega), mP_r, mP_r]
                  refine hQ _ _ (CX.s (y := em y2 cd 0) er (hEv.cg fun fc _ => ?_) hq2 hqs2 (hDf.z (by show ((2 + 2 + 1 : Nat) : Int) ≤ 3 * (y2.1 - p) - 2; omega) (by show ((9 + 9 + 2 : Nat) : Int) ≤ 12 * (y2.1 - p) - 6; omega)) ?_ hl.1)
                  · rcases ho with ⟨rfl, rfl, rfl⟩ | ⟨rfl, rfl, rfl⟩
                    · rw [op2_lt, hl.2.1, hl.2.2]
                    · rw [op2_gt, hl.2.1, hl.2.2]
                  · exact (if_neg (by omega)).trans (hT2.trans hT1)
                refine x_iload_n dX2_tag_87 rfl rfl ?_
                refine x_bipush dX2_tag_88 rfl ?_
                refine x_icmp_ne (tgt := 105) dX2_tag_90 (by decide) (fun h90 => ?_) (fun h90 => ?_)
                · have hf := fin a2 a1 13 (Or.inr ⟨rfl, rfl, rfl⟩) (by rw [er0, if_neg (fun z => absurd (s60.mpr z) (by omega))])
                  refine x_newX (x := Y) (by first | (simp only [nxI, nxR, nxL, nxC, nxD, nxW, nxV, nxN]; done) | (simp only [nxI, nxR, nxL, nxC, nxD, nxW, nxV, nxN]; omega) | omega) (t := 12) rfl q1192 q1193 q173 dX2_tag_105 ?_
                  refine x_dup dX2_tag_108 rfl ?_
                  refine x_aload_n dX2_tag_109 rfl rfl ?_
                  refine x_aload_n dX2_tag_110 rfl rfl ?_
                  refine g_callN (vs := [_, _, _]) (d' := d - 1) rfl (s_X12_init (by omega) (by omega) (by first | assumption | (simp (disch := omega) only [shI, shR, shL, shC, shD, shW, sh_V, shN_e, shN_n, crI, crL, crC, crW, crV, crR_e, crR_n, crN_e, crN_n, ciR, ciL, ciD, ciN_e, ciN_n, rdI_e, rdI_n, rdC_i, rdC_o, rdW, rdU_e, rdU_n, rdLW, clI, clR, clC, clD, clW, clV, clN_e, clN_n, clL_e, clL_n]; done) | (simp (disch := omega) only [shI, shR, shL, shC, shD, shW, sh_V, shN_e, shN_n, crI, crL, crC, crW, crV, crR_e, crR_n, crN_e, crN_n, ciR, ciL, ciD, ciN_e, ciN_n, rdI_e, rdI_n, rdC_i, rdC_o, rdW, rdU_e, rdU_n, rdLW, clI, clR, clC, clD, clW, clV, clN_e, clN_n, clL_e, clL_n] <;> first | assumption | rfl | omega))) dX2_tag_111 kX2_272 (by omega) (by decide) rfl (Nat.le_of_ble_eq_true rfl) (rcv_o (by first | assumption | first | assumption | (simp (disch := omega) only [shI, shR, shL, shC, shD, shW, sh_V, shN_e, shN_n, crI, crL, crC, crW, crV, crR_e, crR_n, crN_e, crN_n, ciR, ciL, ciD, ciN_e, ciN_n, rdI_e, rdI_n, rdC_i, rdC_o, rdW, rdU_e, rdU_n, rdLW, clI, clR, clC, clD, clW, clV, clN_e, clN_n, clL_e, clL_n]; done) | (simp (disch := omega) only [shI, shR, shL, shC, shD, shW, sh_V, shN_e, shN_n, crI, crL, crC, crW, crV, crR_e, crR_n, crN_e, crN_n, ciR, ciL, ciD, ciN_e, ciN_n, rdI_e, rdI_n, rdC_i, rdC_o, rdW, rdU_e, rdU_n, rdLW, clI, clR, clC, clD, clW, clV, clN_e, clN_n, clL_e, clL_n] <;> first | assumption | rfl | omega)) rfl) (fun M111 h111 => ?_)
                  subst h111
                  refine x_areturn rfl (by first | exact Or.inl ⟨_, rfl⟩ | exact Or.inr ⟨_, rfl⟩) dX2_tag_114 ?_
                  exact hf
                · have hf := fin a1 a2 12 (Or.inl ⟨rfl, rfl, rfl⟩) (by rw [er0, if_pos (s60.mp (by omega))])
                  refine x_newX (x := Y) (by first | (simp only [nxI, nxR, nxL, nxC, nxD, nxW, nxV, nxN]; done) | (simp only [nxI, nxR, nxL, nxC, nxD, nxW, nxV, nxN]; omega) | omega) (t := 12) rfl q1192 q1193 q173 dX2_tag_93 ?_
                  refine x_dup dX2_tag_96 rfl ?_
                  refine x_aload_n dX2_tag_97 rfl rfl ?_
                  refine x_aload_n dX2_tag_98 rfl rfl ?_
                  refine g_callN (vs := [_, _, _]) (d' := d - 1) rfl (s_X12_init (by omega) (by omega) (by first | assumption | (simp (disch := omega) only [shI, shR, shL, shC, shD, shW, sh_V, shN_e, shN_n, crI, crL, crC, crW, crV, crR_e, crR_n, crN_e, crN_n, ciR, ciL, ciD, ciN_e, ciN_n, rdI_e, rdI_n, rdC_i, rdC_o, rdW, rdU_e, rdU_n, rdLW, clI, clR, clC, clD, clW, clV, clN_e, clN_n, clL_e, clL_n]; done) | (simp (disch := omega) only [shI, shR, shL, shC, shD, shW, sh_V, shN_e, shN_n, crI, crL, crC, crW, crV, crR_e, crR_n, crN_e, crN_n, ciR, ciL, ciD, ciN_e, ciN_n, rdI_e, rdI_n, rdC_i, rdC_o, rdW, rdU_e, rdU_n, rdLW, clI, clR, clC, clD, clW, clV, clN_e, clN_n, clL_e, clL_n] <;> first | assumption | rfl | omega))) dX2_tag_99 kX2_272 (by omega) (by decide) rfl (Nat.le_of_ble_eq_true rfl) (rcv_o (by first | assumption | first | assumption | (simp (disch := omega) only [shI, shR, shL, shC, shD, shW, sh_V, shN_e, shN_n, crI, crL, crC, crW, crV, crR_e, crR_n, crN_e, crN_n, ciR, ciL, ciD, ciN_e, ciN_n, rdI_e, rdI_n, rdC_i, rdC_o, rdW, rdU_e, rdU_n, rdLW, clI, clR, clC, clD, clW, clV, clN_e, clN_n, clL_e, clL_n]; done) | (simp (disch := omega) only [shI, shR, shL, shC, shD, shW, sh_V, shN_e, shN_n, crI, crL, crC, crW, crV, crR_e, crR_n, crN_e, crN_n, ciR, ciL, ciD, ciN_e, ciN_n, rdI_e, rdI_n, rdC_i, rdC_o, rdW, rdU_e, rdU_n, rdLW, clI, clR, clC, clD, clW, clV, clN_e, clN_n, clL_e, clL_n] <;> first | assumption | rfl | omega)) rfl) (fun M99 h99 => ?_)
                  subst h99
                  refine x_goto (tgt := 114) dX2_tag_102 (by decide) ?_
                  refine x_areturn rfl (by first | exact Or.inl ⟨_, rfl⟩ | exact Or.inr ⟨_, rfl⟩) dX2_tag_114 ?_
                  exact hf
              · obtain ⟨f', hf, -⟩ := h83
                rw [show ((skB tp e y1.1 + 1, y1.2.1, y1.2.2) : LgS) = (skB tp e y1.1 + 1, y1.2) from rfl, h2] at hf
                cases hf
            · refine x_iload_n dX2_tag_58 rfl rfl ?_
              refine x_bipush dX2_tag_59 rfl ?_
              refine x_icmp_eq (tgt := 72) dX2_tag_61 (by decide) (fun h61 => ?_) (fun h61 => ?_)
              · refine x_aload_n dX2_tag_72 rfl rfl ?_
                refine x_dup dX2_tag_73 rfl ?_
                refine g_getI (kI := 9) rfl dX2_tag_74 fX2_92_2 (by first | assumption | first | assumption | (simp (disch := omega) only [shI, shR, shL, shC, shD, shW, sh_V, shN_e, shN_n, crI, crL, crC, crW, crV, crR_e, crR_n, crN_e, crN_n, ciR, ciL, ciD, ciN_e, ciN_n, rdI_e, rdI_n, rdC_i, rdC_o, rdW, rdU_e, rdU_n, rdLW, clI, clR, clC, clD, clW, clV, clN_e, clN_n, clL_e, clL_n]; done) | (simp (disch := omega) only [shI, shR, shL, shC, shD, shW, sh_V, shN_e, shN_n, crI, crL, crC, crW, crV, crR_e, crR_n, crN_e, crN_n, ciR, ciL, ciD, ciN_e, ciN_n, rdI_e, rdI_n, rdC_i, rdC_o, rdW, rdU_e, rdU_n, rdLW, clI, clR, clC, clD, clW, clV, clN_e, clN_n, clL_e, clL_n] <;> first | assumption | rfl | omega)) ?_
                try simp (disch := omega) only [rdI_e, rdI_n, rdC_i, rdC_o, rdW, rdR, rdU_e, rdU_n, rdLW, Int.add_zero, mP_p]
                refine x_iconst dX2_tag_77 rfl ?_
                first | refine x_iaddN dX2_tag_78 (by unfold i32; omega) ?_ | refine x_iadd dX2_tag_78 ?_
                refine g_putI (kI := 9) rfl dX2_tag_79 fX2_92_2 (by first | assumption | first | assumption | (simp (disch := omega) only [shI, shR, shL, shC, shD, shW, sh_V, shN_e, shN_n, crI, crL, crC, crW, crV, crR_e, crR_n, crN_e, crN_n, ciR, ciL, ciD, ciN_e, ciN_n, rdI_e, rdI_n, rdC_i, rdC_o, rdW, rdU_e, rdU_n, rdLW, clI, clR, clC, clD, clW, clV, clN_e, clN_n, clL_e, clL_n]; done) | (simp (disch := omega) only [shI, shR, shL, shC, shD, shW, sh_V, shN_e, shN_n, crI, crL, crC, crW, crV, crR_e, crR_n, crN_e, crN_n, ciR, ciL, ciD, ciN_e, ciN_n, rdI_e, rdI_n, rdC_i, rdC_o, rdW, rdU_e, rdU_n, rdLW, clI, clR, clC, clD, clW, clV, clN_e, clN_n, clL_e, clL_n] <;> first | assumption | rfl | omega)) ?_
                try simp only [mP_w]
                refine x_aload_n dX2_tag_82 rfl rfl ?_
                refine g_callRX (vs := [_]) (d' := d - 1) rfl (s_X2_sum (c := y1.2.1) (u := y1.2.2) (by omega) hR1 hM1' (by omega)) dX2_tag_83 kX2_266 (by omega) (by decide) rfl (Nat.le_of_ble_eq_true rfl) (rcv_o (by first | assumption | first | assumption | (simp (disch := omega) only [shI, shR, shL, shC, shD, shW, sh_V, shN_e, shN_n, crI, crL, crC, crW, crV, crR_e, crR_n, crN_e, crN_n, ciR, ciL, ciD, ciN_e, ciN_n, rdI_e, rdI_n, rdC_i, rdC_o, rdW, rdU_e, rdU_n, rdLW, clI, clR, clC, clD, clW, clV, clN_e, clN_n, clL_e, clL_n]; done) | (simp (disch := omega) only [shI, shR, shL, shC, shD, shW, sh_V, shN_e, shN_n, crI, crL, crC, crW, crV, crR_e, crR_n, crN_e, crN_n, ciR, ciL, ciD, ciN_e, ciN_n, rdI_e, rdI_n, rdC_i, rdC_o, rdW, rdU_e, rdU_n, rdLW, clI, clR, clC, clD, clW, clV, clN_e, clN_n, clL_e, clL_n] <;> first | assumption | rfl | omega)) rfl) (fun x83 M83 h83 => ?_) (fun a83 E83 M83 h83 => ?_)
                · obtain ⟨y, F2, M2, q2, a2, hy, hE2, ho, hM2, hq2, hqs2, hD2, hT2, hO2⟩ := h83
                  rw [show ((skB tp e y1.1 + 1, y1.2.1, y1.2.2) : LgS) = (skB tp e y1.1 + 1, y1.2) from rfl, h2] at hy
                  cases hy
                  cases ho
                  subst hM2
                  refine x_astore_n (L' := [some _, some _, some _, some _]) dX2_tag_86 rfl (by decide) rfl ?_
                  generalize hXY : ((mnx M2 : Nat) : Int) = Y
                  have hnxP : ((mnx (mP M2 q2) : Nat) : Int) = Y := hXY
                  have hY7 : 761 ≤ Y := by have := hD2.2.1; omega
                  have fin : ∀ (o1 o2 cd : Int), ((o1 = a1 ∧ o2 = a2 ∧ cd = 12) ∨ (o1 = a2 ∧ o2 = a1 ∧ cd = 13)) → rCmp tp e (p, c, u) = .inr (em y2 cd 0) → Q (rV (dR Y)) (mR (mR (mNx (mP M2 q2) Y 12 0 2) Y 0 (some o1)) Y 1 (some o2)) := by
                    intro o1 o2 cd ho er
                    have hl := less_ok (o1 := o1) (o2 := o2) hM hO1 hO2 hD1 hD2 hXY (by omega)
                    have hEv := Ev.bin (c := cd) hE1 hE2 g1 g2 (by omega) (by omega)
                    have hDf : Dr M (mR (mR (mNx M2 Y 12 0 2) Y 0 (some o1)) Y 1 (some o2)) (2 + 2 + 1) (9 + 9 + 2) := (((hD1.trans hD2).nx hXY).mR2 (by have := hD1.2.1; have := hD2.2.1; omega)).mR2 (by have := hD1.2.1; have := hD2.2.1; omega)
                    rw [mP_n (by omega), mP_r, mP_r]
                    refine hQ _ _ (CX.s (y := em y2 cd 0) er (hEv.cg fun fc _ => ?_) hq2 hqs2 (hDf.z (by show ((2 + 2 + 1 : Nat) : Int) ≤ 3 * (y2.1 - p) - 2; omega) (by show ((9 + 9 + 2 : Nat) : Int) ≤ 12 * (y2.1 - p) - 6; omega)) ?_ hl.1)
                    · rcases ho with ⟨rfl, rfl, rfl⟩ | ⟨rfl, rfl, rfl⟩
                      · rw [op2_lt, hl.2.1, hl.2.2]
                      · rw [op2_gt, hl.2.1, hl.2.2]
                    · exact (if_neg (by omega)).trans (hT2.trans hT1)
                  refine x_iload_n dX2_tag_87 rfl rfl ?_
                  refine x_bipush dX2_tag_88 rfl ?_
                  refine x_icmp_ne (tgt := 105) dX2_tag_90 (by decide) (fun h90 => ?_) (fun h90 => ?_)
                  · have hf := fin a2 a1 13 (Or.inr ⟨rfl, rfl, rfl⟩) (by rw [er0, if_neg (fun z => absurd (s60.mpr z) (by omega))])
                    refine x_newX (x := Y) (by first | (simp only [nxI, nxR, nxL, nxC, nxD, nxW, nxV, nxN]; done) | (simp only [nxI, nxR, nxL, nxC, nxD, nxW, nxV, nxN]; omega) | omega) (t := 12) rfl q1192 q1193 q173 dX2_tag_105 ?_
                    refine x_dup dX2_tag_108 rfl ?_
                    refine x_aload_n dX2_tag_109 rfl rfl ?_
                    refine x_aload_n dX2_tag_110 rfl rfl ?_
                    refine g_callN (vs := [_, _, _]) (d' := d - 1) rfl (s_X12_init (by omega) (by omega) (by first | assumption | (simp (disch := omega) only [shI, shR, shL, shC, shD, shW, sh_V, shN_e, shN_n, crI, crL, crC, crW, crV, crR_e, crR_n, crN_e, crN_n, ciR, ciL, ciD, ciN_e, ciN_n, rdI_e, rdI_n, rdC_i, rdC_o, rdW, rdU_e, rdU_n, rdLW, clI, clR, clC, clD, clW, clV, clN_e, clN_n, clL_e, clL_n]; done) | (simp (disch := omega) only [shI, shR, shL, shC, shD, shW, sh_V, shN_e, shN_n, crI, crL, crC, crW, crV, crR_e, crR_n, crN_e, crN_n, ciR, ciL, ciD, ciN_e, ciN_n, rdI_e, rdI_n, rdC_i, rdC_o, rdW, rdU_e, rdU_n, rdLW, clI, clR, clC, clD, clW, clV, clN_e, clN_n, clL_e, clL_n] <;> first | assumption | rfl | omega))) dX2_tag_111 kX2_272 (by omega) (by decide) rfl (Nat.le_of_ble_eq_true rfl) (rcv_o (by first | assumption | first | assumption | (simp (disch := omega) only [shI, shR, shL, shC, shD, shW, sh_V, shN_e, shN_n, crI, crL, crC, crW, crV, crR_e, crR_n, crN_e, crN_n, ciR, ciL, ciD, ciN_e, ciN_n, rdI_e, rdI_n, rdC_i, rdC_o, rdW, rdU_e, rdU_n, rdLW, clI, clR, clC, clD, clW, clV, clN_e, clN_n, clL_e, clL_n]; done) | (simp (disch := omega) only [shI, shR, shL, shC, shD, shW, sh_V, shN_e, shN_n, crI, crL, crC, crW, crV, crR_e, crR_n, crN_e, crN_n, ciR, ciL, ciD, ciN_e, ciN_n, rdI_e, rdI_n, rdC_i, rdC_o, rdW, rdU_e, rdU_n, rdLW, clI, clR, clC, clD, clW, clV, clN_e, clN_n, clL_e, clL_n] <;> first | assumption | rfl | omega)) rfl) (fun M111 h111 => ?_)
                    subst h111
                    refine x_areturn rfl (by first | exact Or.inl ⟨_, rfl⟩ | exact Or.inr ⟨_, rfl⟩) dX2_tag_114 ?_
                    exact hf
                  · have hf := fin a1 a2 12 (Or.inl ⟨rfl, rfl, rfl⟩) (by rw [er0, if_pos (s60.mp (by omega))])
                    refine x_newX (x := Y) (by first | (simp only [nxI, nxR, nxL, nxC, nxD, nxW, nxV, nxN]; done) | (simp only [nxI, nxR, nxL, nxC, nxD, nxW, nxV, nxN]; omega) | omega) (t := 12) rfl q1192 q1193 q173 dX2_tag_93 ?_
                    refine x_dup dX2_tag_96 rfl ?_
                    refine x_aload_n dX2_tag_97 rfl rfl ?_
                    refine x_aload_n dX2_tag_98 rfl rfl ?_
                    refine g_callN (vs := [_, _, _]) (d' := d - 1) rfl (s_X12_init (by omega) (by omega) (by first | assumption | (simp (disch := omega) only [shI, shR, shL, shC, shD, shW, sh_V, shN_e, shN_n, crI, crL, crC, crW, crV, crR_e, crR_n, crN_e, crN_n, ciR, ciL, ciD, ciN_e, ciN_n, rdI_e, rdI_n, rdC_i, rdC_o, rdW, rdU_e, rdU_n, rdLW, clI, clR, clC, clD, clW, clV, clN_e, clN_n, clL_e, clL_n]; done) | (simp (disch := omega) only [shI, shR, shL, shC, shD, shW, sh_V, shN_e, shN_n, crI, crL, crC, crW, crV, crR_e, crR_n, crN_e, crN_n, ciR, ciL, ciD, ciN_e, ciN_n, rdI_e, rdI_n, rdC_i, rdC_o, rdW, rdU_e, rdU_n, rdLW, clI, clR, clC, clD, clW, clV, clN_e, clN_n, clL_e, clL_n] <;> first | assumption | rfl | omega))) dX2_tag_99 kX2_272 (by omega) (by decide) rfl (Nat.le_of_ble_eq_true rfl) (rcv_o (by first | assumption | first | assumption | (simp (disch := omega) only [shI, shR, shL, shC, shD, shW, sh_V, shN_e, shN_n, crI, crL, crC, crW, crV, crR_e, crR_n, crN_e, crN_n, ciR, ciL, ciD, ciN_e, ciN_n, rdI_e, rdI_n, rdC_i, rdC_o, rdW, rdU_e, rdU_n, rdLW, clI, clR, clC, clD, clW, clV, clN_e, clN_n, clL_e, clL_n]; done) | (simp (disch := omega) only [shI, shR, shL, shC, shD, shW, sh_V, shN_e, shN_n, crI, crL, crC, crW, crV, crR_e, crR_n, crN_e, crN_n, ciR, ciL, ciD, ciN_e, ciN_n, rdI_e, rdI_n, rdC_i, rdC_o, rdW, rdU_e, rdU_n, rdLW, clI, clR, clC, clD, clW, clV, clN_e, clN_n, clL_e, clL_n] <;> first | assumption | rfl | omega)) rfl) (fun M99 h99 => ?_)
                    subst h99
                    refine x_goto (tgt := 114) dX2_tag_102 (by decide) ?_
                    refine x_areturn rfl (by first | exact Or.inl ⟨_, rfl⟩ | exact Or.inr ⟨_, rfl⟩) dX2_tag_114 ?_
                    exact hf
                · obtain ⟨f', hf, -⟩ := h83
                  rw [show ((skB tp e y1.1 + 1, y1.2.1, y1.2.2) : LgS) = (skB tp e y1.1 + 1, y1.2) from rfl, h2] at hf
                  cases hf
              · omega
          · obtain ⟨f', hf, -⟩ := h43
            rw [h1] at hf
            cases hf
      · rw [if_neg hc] at er0
        refine x_aload_n dX2_tag_42 rfl rfl ?_
        refine g_callRX (vs := [_]) (d' := d - 1) rfl (s_X2_sum (c := c) (u := u) (by omega) hR hM (by omega)) dX2_tag_43 kX2_266 (by omega) (by decide) rfl (Nat.le_of_ble_eq_true rfl) (rcv_o (by first | assumption | first | assumption | (simp (disch := omega) only [shI, shR, shL, shC, shD, shW, sh_V, shN_e, shN_n, crI, crL, crC, crW, crV, crR_e, crR_n, crN_e, crN_n, ciR, ciL, ciD, ciN_e, ciN_n, rdI_e, rdI_n, rdC_i, rdC_o, rdW, rdU_e, rdU_n, rdLW, clI, clR, clC, clD, clW, clV, clN_e, clN_n, clL_e, clL_n]; done) | (simp (disch := omega) only [shI, shR, shL, shC, shD, shW, sh_V, shN_e, shN_n, crI, crL, crC, crW, crV, crR_e, crR_n, crN_e, crN_n, ciR, ciL, ciD, ciN_e, ciN_n, rdI_e, rdI_n, rdC_i, rdC_o, rdW, rdU_e, rdU_n, rdLW, clI, clR, clC, clD, clW, clV, clN_e, clN_n, clL_e, clL_n] <;> first | assumption | rfl | omega)) rfl) (fun x43 M43 h43 => ?_) (fun a43 E43 M43 h43 => ?_)
        · obtain ⟨y, F1, M1, q1, a1, hy, hE1, ho, hM1, hq1, hqs1, hD1, hT1, hO1⟩ := h43
          rw [h1] at hy
          cases hy
          cases ho
          subst hM1
          refine x_astore_n (L' := [some _, some _, none, none]) dX2_tag_46 rfl (by decide) rfl ?_
          have hR1 : RdX M1 tp e := hR.dr hD1 (by omega)
          have r2' : msh M1 2 = some (2, 0) := hR1.1.1.1
          have s60 : ¬ sgV tp e q1 = 60 := fun z => hc (Or.inl (by rw [← hqs1]; exact (sgV_i hB (by omega)).mp z))
          have s62 : ¬ sgV tp e q1 = 62 := fun z => hc (Or.inr (by rw [← hqs1]; exact (sgV_i hB (by omega)).mp z))
          refine x_aload_n dX2_tag_47 rfl rfl ?_
          refine g_callI (vs := [_]) (d' := d - 1) rfl (s_X2_sign (by omega) hR1 (by omega)) dX2_tag_48 kX2_98 (by omega) (by decide) rfl (Nat.le_of_ble_eq_true rfl) (rcv_o (by first | assumption | first | assumption | (simp (disch := omega) only [shI, shR, shL, shC, shD, shW, sh_V, shN_e, shN_n, crI, crL, crC, crW, crV, crR_e, crR_n, crN_e, crN_n, ciR, ciL, ciD, ciN_e, ciN_n, rdI_e, rdI_n, rdC_i, rdC_o, rdW, rdU_e, rdU_n, rdLW, clI, clR, clC, clD, clW, clV, clN_e, clN_n, clL_e, clL_n]; done) | (simp (disch := omega) only [shI, shR, shL, shC, shD, shW, sh_V, shN_e, shN_n, crI, crL, crC, crW, crV, crR_e, crR_n, crN_e, crN_n, ciR, ciL, ciD, ciN_e, ciN_n, rdI_e, rdI_n, rdC_i, rdC_o, rdW, rdU_e, rdU_n, rdLW, clI, clR, clC, clD, clW, clV, clN_e, clN_n, clL_e, clL_n] <;> first | assumption | rfl | omega)) rfl) (fun x48 M48 h48 => ?_)
          obtain ⟨e48, f48⟩ := h48
          rw [hqs1] at f48
          have f48' := f48.symm
          subst f48'
          refine x_istore_n (L' := [some _, some _, some _, none]) dX2_tag_51 rfl (by decide) rfl ?_
          refine x_iload_n dX2_tag_52 rfl rfl ?_
          refine x_bipush dX2_tag_53 rfl ?_
          refine x_icmp_eq (tgt := 72) dX2_tag_55 (by decide) (fun h55 => ?_) (fun h55 => ?_)
          · omega
          · refine x_iload_n dX2_tag_58 rfl rfl ?_
            refine x_bipush dX2_tag_59 rfl ?_
            refine x_icmp_eq (tgt := 72) dX2_tag_61 (by decide) (fun h61 => ?_) (fun h61 => ?_)
            · omega
            · refine x_aload_n dX2_tag_64 rfl rfl ?_
              refine x_aload_n dX2_tag_65 rfl rfl ?_
              refine g_getI (kI := 9) rfl dX2_tag_66 fX2_92_2 (by first | assumption | first | assumption | (simp (disch := omega) only [shI, shR, shL, shC, shD, shW, sh_V, shN_e, shN_n, crI, crL, crC, crW, crV, crR_e, crR_n, crN_e, crN_n, ciR, ciL, ciD, ciN_e, ciN_n, rdI_e, rdI_n, rdC_i, rdC_o, rdW, rdU_e, rdU_n, rdLW, clI, clR, clC, clD, clW, clV, clN_e, clN_n, clL_e, clL_n]; done) | (simp (disch := omega) only [shI, shR, shL, shC, shD, shW, sh_V, shN_e, shN_n, crI, crL, crC, crW, crV, crR_e, crR_n, crN_e, crN_n, ciR, ciL, ciD, ciN_e, ciN_n, rdI_e, rdI_n, rdC_i, rdC_o, rdW, rdU_e, rdU_n, rdLW, clI, clR, clC, clD, clW, clV, clN_e, clN_n, clL_e, clL_n] <;> first | assumption | rfl | omega)) ?_
              try simp (disch := omega) only [rdI_e, rdI_n, rdC_i, rdC_o, rdW, rdR, rdU_e, rdU_n, rdLW, Int.add_zero, mP_p]
              refine g_callNX (vs := [_, _]) (d' := d - 1) rfl (s_X2_fail (by omega) hR1) dX2_tag_69 kX2_113 (by omega) (by decide) rfl (Nat.le_of_ble_eq_true rfl) (rcv_o (by first | assumption | first | assumption | (simp (disch := omega) only [shI, shR, shL, shC, shD, shW, sh_V, shN_e, shN_n, crI, crL, crC, crW, crV, crR_e, crR_n, crN_e, crN_n, ciR, ciL, ciD, ciN_e, ciN_n, rdI_e, rdI_n, rdC_i, rdC_o, rdW, rdU_e, rdU_n, rdLW, clI, clR, clC, clD, clW, clV, clN_e, clN_n, clL_e, clL_n]; done) | (simp (disch := omega) only [shI, shR, shL, shC, shD, shW, sh_V, shN_e, shN_n, crI, crL, crC, crW, crV, crR_e, crR_n, crN_e, crN_n, ciR, ciL, ciD, ciN_e, ciN_n, rdI_e, rdI_n, rdC_i, rdC_o, rdW, rdU_e, rdU_n, rdLW, clI, clR, clC, clD, clW, clV, clN_e, clN_n, clL_e, clL_n] <;> first | assumption | rfl | omega)) rfl) (fun M69 h69 => ?_) (fun a69 E69 M69 h69 => ?_)
              · exact False.elim (by assumption)
              · exact th_nil rfl (hQ _ _ (CX.f er0 (h69.z (hD1.z (Int.le_refl _) (Int.le_refl _)) (by show ((2 : Nat) : Int) ≤ 3 * (e - p) + 4; omega) (by show ((9 : Nat) : Int) ≤ 12 * (e - p) + 18; omega) rfl)))
        · obtain ⟨f', hf, -⟩ := h43
          rw [h1] at hf
          cases hf
  have lp : ∀ (t : Nat) (k q : Int), (3 - k).toNat = t → (0 ≤ k ∧ k ≤ 3) → (0 ≤ q ∧ q ≤ e) → (skB tp e q = b) → (k = 0 ∨ q = b) → (wrF tp b w 7 (3 - k).toNat k.toNat = W) → WP G d mX2_tag 2 [some (dR 2), some (dI k), none, none] [] (mP M q) Q := by
    intro t
    induction t using Nat.strongRecOn with
    | _ t ih =>
      intro k q ht k0 q0 hq hq1 hk
      by_cases hk1 : k < 3
      · have hx := x2 k k0.1 hk1
        have ea : -(10 + 2 * (7 + k)) = -(10 + 2 * (((7 + k.toNat : Nat)) : Int)) := by omega
        rw [show (3 - k).toNat = (3 - (k + 1)).toNat + 1 by omega, wrF_s] at hk
        by_cases hI : isW tp b w (txB (7 + k.toNat))
        · rw [if_pos hI] at hk
          have eW : W = k := by omega
          have hlen : b < w := by
            have h1 := hI.1
            have h2 : 0 < (txB (7 + k.toNat)).length := by
              rcases (show k = 0 ∨ k = 1 ∨ k = 2 by omega) with q | q | q <;> subst q <;> decide
            omega
          rw [if_neg (by omega)] at er0
          have hnxP : ((mnx (mP M w) : Nat) : Int) = X := hXX
          refine x_iload_n dX2_tag_2 rfl rfl ?_
          refine x_aload_n dX2_tag_3 rfl rfl ?_
          refine g_getR (kI := 2) rfl dX2_tag_4 fX2_41_2 (by first | assumption | first | assumption | (simp (disch := omega) only [shI, shR, shL, shC, shD, shW, sh_V, shN_e, shN_n, crI, crL, crC, crW, crV, crR_e, crR_n, crN_e, crN_n, ciR, ciL, ciD, ciN_e, ciN_n, rdI_e, rdI_n, rdC_i, rdC_o, rdW, rdU_e, rdU_n, rdLW, clI, clR, clC, clD, clW, clV, clN_e, clN_n, clL_e, clL_n]; done) | (simp (disch := omega) only [shI, shR, shL, shC, shD, shW, sh_V, shN_e, shN_n, crI, crL, crC, crW, crV, crR_e, crR_n, crN_e, crN_n, ciR, ciL, ciD, ciN_e, ciN_n, rdI_e, rdI_n, rdC_i, rdC_o, rdW, rdU_e, rdU_n, rdLW, clI, clR, clC, clD, clW, clV, clN_e, clN_n, clL_e, clL_n] <;> first | assumption | rfl | omega)) (by first | assumption | first | assumption | (simp (disch := omega) only [shI, shR, shL, shC, shD, shW, sh_V, shN_e, shN_n, crI, crL, crC, crW, crV, crR_e, crR_n, crN_e, crN_n, ciR, ciL, ciD, ciN_e, ciN_n, rdI_e, rdI_n, rdC_i, rdC_o, rdW, rdU_e, rdU_n, rdLW, clI, clR, clC, clD, clW, clV, clN_e, clN_n, clL_e, clL_n]; done) | (simp (disch := omega) only [shI, shR, shL, shC, shD, shW, sh_V, shN_e, shN_n, crI, crL, crC, crW, crV, crR_e, crR_n, crN_e, crN_n, ciR, ciL, ciD, ciN_e, ciN_n, rdI_e, rdI_n, rdC_i, rdC_o, rdW, rdU_e, rdU_n, rdLW, clI, clR, clC, clD, clW, clV, clN_e, clN_n, clL_e, clL_n] <;> first | assumption | rfl | omega)) ?_
          refine x_alen rfl dX2_tag_7 (by first | assumption | first | assumption | (simp (disch := omega) only [shI, shR, shL, shC, shD, shW, sh_V, shN_e, shN_n, crI, crL, crC, crW, crV, crR_e, crR_n, crN_e, crN_n, ciR, ciL, ciD, ciN_e, ciN_n, rdI_e, rdI_n, rdC_i, rdC_o, rdW, rdU_e, rdU_n, rdLW, clI, clR, clC, clD, clW, clV, clN_e, clN_n, clL_e, clL_n]; done) | (simp (disch := omega) only [shI, shR, shL, shC, shD, shW, sh_V, shN_e, shN_n, crI, crL, crC, crW, crV, crR_e, crR_n, crN_e, crN_n, ciR, ciL, ciD, ciN_e, ciN_n, rdI_e, rdI_n, rdC_i, rdC_o, rdW, rdU_e, rdU_n, rdLW, clI, clR, clC, clD, clW, clV, clN_e, clN_n, clL_e, clL_n] <;> first | assumption | rfl | omega)) ?_
          refine x_icmp_ge (tgt := 42) dX2_tag_8 (by decide) (fun h8 => ?_) (fun h8 => ?_)
          · omega
          · refine x_aload_n dX2_tag_11 rfl rfl ?_
            refine x_aload_n dX2_tag_12 rfl rfl ?_
            refine g_getR (kI := 2) rfl dX2_tag_13 fX2_41_2 (by first | assumption | first | assumption | (simp (disch := omega) only [shI, shR, shL, shC, shD, shW, sh_V, shN_e, shN_n, crI, crL, crC, crW, crV, crR_e, crR_n, crN_e, crN_n, ciR, ciL, ciD, ciN_e, ciN_n, rdI_e, rdI_n, rdC_i, rdC_o, rdW, rdU_e, rdU_n, rdLW, clI, clR, clC, clD, clW, clV, clN_e, clN_n, clL_e, clL_n]; done) | (simp (disch := omega) only [shI, shR, shL, shC, shD, shW, sh_V, shN_e, shN_n, crI, crL, crC, crW, crV, crR_e, crR_n, crN_e, crN_n, ciR, ciL, ciD, ciN_e, ciN_n, rdI_e, rdI_n, rdC_i, rdC_o, rdW, rdU_e, rdU_n, rdLW, clI, clR, clC, clD, clW, clV, clN_e, clN_n, clL_e, clL_n] <;> first | assumption | rfl | omega)) (by first | assumption | first | assumption | (simp (disch := omega) only [shI, shR, shL, shC, shD, shW, sh_V, shN_e, shN_n, crI, crL, crC, crW, crV, crR_e, crR_n, crN_e, crN_n, ciR, ciL, ciD, ciN_e, ciN_n, rdI_e, rdI_n, rdC_i, rdC_o, rdW, rdU_e, rdU_n, rdLW, clI, clR, clC, clD, clW, clV, clN_e, clN_n, clL_e, clL_n]; done) | (simp (disch := omega) only [shI, shR, shL, shC, shD, shW, sh_V, shN_e, shN_n, crI, crL, crC, crW, crV, crR_e, crR_n, crN_e, crN_n, ciR, ciL, ciD, ciN_e, ciN_n, rdI_e, rdI_n, rdC_i, rdC_o, rdW, rdU_e, rdU_n, rdLW, clI, clR, clC, clD, clW, clV, clN_e, clN_n, clL_e, clL_n] <;> first | assumption | rfl | omega)) ?_
            refine x_iload_n dX2_tag_16 rfl rfl ?_
            refine x_aald (t := 140) rfl (by decide) dX2_tag_17 (by first | assumption | first | assumption | (simp (disch := omega) only [shI, shR, shL, shC, shD, shW, sh_V, shN_e, shN_n, crI, crL, crC, crW, crV, crR_e, crR_n, crN_e, crN_n, ciR, ciL, ciD, ciN_e, ciN_n, rdI_e, rdI_n, rdC_i, rdC_o, rdW, rdU_e, rdU_n, rdLW, clI, clR, clC, clD, clW, clV, clN_e, clN_n, clL_e, clL_n]; done) | (simp (disch := omega) only [shI, shR, shL, shC, shD, shW, sh_V, shN_e, shN_n, crI, crL, crC, crW, crV, crR_e, crR_n, crN_e, crN_n, ciR, ciL, ciD, ciN_e, ciN_n, rdI_e, rdI_n, rdC_i, rdC_o, rdW, rdU_e, rdU_n, rdLW, clI, clR, clC, clD, clW, clV, clN_e, clN_n, clL_e, clL_n] <;> first | assumption | rfl | omega)) (by omega) (by omega) (by exact hx) ?_
            refine g_callI (vs := [_, _]) (d' := d - 1) rfl (s_X2_takes (i := 7 + k.toNat) (by omega) hR q0 (by omega) ea) dX2_tag_18 kX2_109 (by omega) (by decide) rfl (Nat.le_of_ble_eq_true rfl) (rcv_o (by first | assumption | first | assumption | (simp (disch := omega) only [shI, shR, shL, shC, shD, shW, sh_V, shN_e, shN_n, crI, crL, crC, crW, crV, crR_e, crR_n, crN_e, crN_n, ciR, ciL, ciD, ciN_e, ciN_n, rdI_e, rdI_n, rdC_i, rdC_o, rdW, rdU_e, rdU_n, rdLW, clI, clR, clC, clD, clW, clV, clN_e, clN_n, clL_e, clL_n]; done) | (simp (disch := omega) only [shI, shR, shL, shC, shD, shW, sh_V, shN_e, shN_n, crI, crL, crC, crW, crV, crR_e, crR_n, crN_e, crN_n, ciR, ciL, ciD, ciN_e, ciN_n, rdI_e, rdI_n, rdC_i, rdC_o, rdW, rdU_e, rdU_n, rdLW, clI, clR, clC, clD, clW, clV, clN_e, clN_n, clL_e, clL_n] <;> first | assumption | rfl | omega)) rfl) (fun x18 M18 h18 => ?_)
            obtain ⟨e18, f18⟩ := h18
            rw [hq, hw, if_pos hI] at f18
            rw [hq, hw, vP_t hI] at e18
            subst e18
            have f18' := f18.symm
            subst f18'
            refine x_if_eq (tgt := 36) dX2_tag_21 (by decide) (fun h21 => ?_) (fun h21 => ?_)
            · try simp only [vP_0, vP_1, vP_n0, vP_n1, Classical.not_not] at h21
              omega
            · try simp only [vP_0, vP_1, vP_n0, vP_n1, Classical.not_not] at h21
              refine x_newX (x := X) (by first | (simp only [nxI, nxR, nxL, nxC, nxD, nxW, nxV, nxN]; done) | (simp only [nxI, nxR, nxL, nxC, nxD, nxW, nxV, nxN]; omega) | omega) (t := 10) rfl q1159 q1160 q171 dX2_tag_24 ?_
              refine x_dup dX2_tag_27 rfl ?_
              refine x_bipush dX2_tag_28 rfl ?_
              refine x_iload_n dX2_tag_30 rfl rfl ?_
              first | refine x_iaddN dX2_tag_31 (by unfold i32; omega) ?_ | refine x_iadd dX2_tag_31 ?_
              refine g_callN (vs := [_, _]) (d' := d - 1) rfl (s_X10_init (by omega) (by omega) (by first | assumption | (simp (disch := omega) only [shI, shR, shL, shC, shD, shW, sh_V, shN_e, shN_n, crI, crL, crC, crW, crV, crR_e, crR_n, crN_e, crN_n, ciR, ciL, ciD, ciN_e, ciN_n, rdI_e, rdI_n, rdC_i, rdC_o, rdW, rdU_e, rdU_n, rdLW, clI, clR, clC, clD, clW, clV, clN_e, clN_n, clL_e, clL_n]; done) | (simp (disch := omega) only [shI, shR, shL, shC, shD, shW, sh_V, shN_e, shN_n, crI, crL, crC, crW, crV, crR_e, crR_n, crN_e, crN_n, ciR, ciL, ciD, ciN_e, ciN_n, rdI_e, rdI_n, rdC_i, rdC_o, rdW, rdU_e, rdU_n, rdLW, clI, clR, clC, clD, clW, clV, clN_e, clN_n, clL_e, clL_n] <;> first | assumption | rfl | omega))) dX2_tag_32 kX2_264 (by omega) (by decide) rfl (Nat.le_of_ble_eq_true rfl) (rcv_o (by first | assumption | first | assumption | (simp (disch := omega) only [shI, shR, shL, shC, shD, shW, sh_V, shN_e, shN_n, crI, crL, crC, crW, crV, crR_e, crR_n, crN_e, crN_n, ciR, ciL, ciD, ciN_e, ciN_n, rdI_e, rdI_n, rdC_i, rdC_o, rdW, rdU_e, rdU_n, rdLW, clI, clR, clC, clD, clW, clV, clN_e, clN_n, clL_e, clL_n]; done) | (simp (disch := omega) only [shI, shR, shL, shC, shD, shW, sh_V, shN_e, shN_n, crI, crL, crC, crW, crV, crR_e, crR_n, crN_e, crN_n, ciR, ciL, ciD, ciN_e, ciN_n, rdI_e, rdI_n, rdC_i, rdC_o, rdW, rdU_e, rdU_n, rdLW, clI, clR, clC, clD, clW, clV, clN_e, clN_n, clL_e, clL_n] <;> first | assumption | rfl | omega)) rfl) (fun M32 h32 => ?_)
              subst h32
              refine x_areturn rfl (by first | exact Or.inl ⟨_, rfl⟩ | exact Or.inr ⟨_, rfl⟩) dX2_tag_35 ?_
              rw [mP_n (by omega), mP_c (by omega)]
              refine hQ _ _ (CX.s er0 ((Ev.push (by omega)).cg fun fc hfc => ?_) (by omega) rfl (((Dr.rfl.nx hXX).I2 (by omega)).z (by show ((0 + 1 : Nat) : Int) ≤ 3 * (w - p) - 2; omega) (by show ((0 + 1 : Nat) : Int) ≤ 12 * (w - p) - 6; omega)) ((rdI_n (by omega)).trans (if_neg (by omega))) (P := fun fc => fc (7 + k) ≠ 0) ⟨⟨by omega, ?_⟩, Or.inl ⟨if_pos rfl, ?_, ?_⟩⟩)
              · have h2 := hfc (7 + k) (by omega) (by omega)
                rw [if_pos (by omega), eW]
                by_cases q : fc (7 + k) = 0
                · rw [q]; exact (vP_f (fun z => z rfl)).symm
                · exact (show fc (7 + k) = 1 by omega).trans (vP_t q).symm
              · show X < ((mnx M + 1 : Nat) : Int)
                omega
              · rw [show mci (mI (mNx M X 10 0 1) X 0 (7 + k)) X 0 = 7 + k from rdI_e ⟨rfl, rfl⟩]
                omega
              · rw [show mci (mI (mNx M X 10 0 1) X 0 (7 + k)) X 0 = 7 + k from rdI_e ⟨rfl, rfl⟩]
        · rw [if_neg hI] at hk
          refine x_iload_n dX2_tag_2 rfl rfl ?_
          refine x_aload_n dX2_tag_3 rfl rfl ?_
          refine g_getR (kI := 2) rfl dX2_tag_4 fX2_41_2 (by first | assumption | first | assumption | (simp (disch := omega) only [shI, shR, shL, shC, shD, shW, sh_V, shN_e, shN_n, crI, crL, crC, crW, crV, crR_e, crR_n, crN_e, crN_n, ciR, ciL, ciD, ciN_e, ciN_n, rdI_e, rdI_n, rdC_i, rdC_o, rdW, rdU_e, rdU_n, rdLW, clI, clR, clC, clD, clW, clV, clN_e, clN_n, clL_e, clL_n]; done) | (simp (disch := omega) only [shI, shR, shL, shC, shD, shW, sh_V, shN_e, shN_n, crI, crL, crC, crW, crV, crR_e, crR_n, crN_e, crN_n, ciR, ciL, ciD, ciN_e, ciN_n, rdI_e, rdI_n, rdC_i, rdC_o, rdW, rdU_e, rdU_n, rdLW, clI, clR, clC, clD, clW, clV, clN_e, clN_n, clL_e, clL_n] <;> first | assumption | rfl | omega)) (by first | assumption | first | assumption | (simp (disch := omega) only [shI, shR, shL, shC, shD, shW, sh_V, shN_e, shN_n, crI, crL, crC, crW, crV, crR_e, crR_n, crN_e, crN_n, ciR, ciL, ciD, ciN_e, ciN_n, rdI_e, rdI_n, rdC_i, rdC_o, rdW, rdU_e, rdU_n, rdLW, clI, clR, clC, clD, clW, clV, clN_e, clN_n, clL_e, clL_n]; done) | (simp (disch := omega) only [shI, shR, shL, shC, shD, shW, sh_V, shN_e, shN_n, crI, crL, crC, crW, crV, crR_e, crR_n, crN_e, crN_n, ciR, ciL, ciD, ciN_e, ciN_n, rdI_e, rdI_n, rdC_i, rdC_o, rdW, rdU_e, rdU_n, rdLW, clI, clR, clC, clD, clW, clV, clN_e, clN_n, clL_e, clL_n] <;> first | assumption | rfl | omega)) ?_
          refine x_alen rfl dX2_tag_7 (by first | assumption | first | assumption | (simp (disch := omega) only [shI, shR, shL, shC, shD, shW, sh_V, shN_e, shN_n, crI, crL, crC, crW, crV, crR_e, crR_n, crN_e, crN_n, ciR, ciL, ciD, ciN_e, ciN_n, rdI_e, rdI_n, rdC_i, rdC_o, rdW, rdU_e, rdU_n, rdLW, clI, clR, clC, clD, clW, clV, clN_e, clN_n, clL_e, clL_n]; done) | (simp (disch := omega) only [shI, shR, shL, shC, shD, shW, sh_V, shN_e, shN_n, crI, crL, crC, crW, crV, crR_e, crR_n, crN_e, crN_n, ciR, ciL, ciD, ciN_e, ciN_n, rdI_e, rdI_n, rdC_i, rdC_o, rdW, rdU_e, rdU_n, rdLW, clI, clR, clC, clD, clW, clV, clN_e, clN_n, clL_e, clL_n] <;> first | assumption | rfl | omega)) ?_
          refine x_icmp_ge (tgt := 42) dX2_tag_8 (by decide) (fun h8 => ?_) (fun h8 => ?_)
          · omega
          · refine x_aload_n dX2_tag_11 rfl rfl ?_
            refine x_aload_n dX2_tag_12 rfl rfl ?_
            refine g_getR (kI := 2) rfl dX2_tag_13 fX2_41_2 (by first | assumption | first | assumption | (simp (disch := omega) only [shI, shR, shL, shC, shD, shW, sh_V, shN_e, shN_n, crI, crL, crC, crW, crV, crR_e, crR_n, crN_e, crN_n, ciR, ciL, ciD, ciN_e, ciN_n, rdI_e, rdI_n, rdC_i, rdC_o, rdW, rdU_e, rdU_n, rdLW, clI, clR, clC, clD, clW, clV, clN_e, clN_n, clL_e, clL_n]; done) | (simp (disch := omega) only [shI, shR, shL, shC, shD, shW, sh_V, shN_e, shN_n, crI, crL, crC, crW, crV, crR_e, crR_n, crN_e, crN_n, ciR, ciL, ciD, ciN_e, ciN_n, rdI_e, rdI_n, rdC_i, rdC_o, rdW, rdU_e, rdU_n, rdLW, clI, clR, clC, clD, clW, clV, clN_e, clN_n, clL_e, clL_n] <;> first | assumption | rfl | omega)) (by first | assumption | first | assumption | (simp (disch := omega) only [shI, shR, shL, shC, shD, shW, sh_V, shN_e, shN_n, crI, crL, crC, crW, crV, crR_e, crR_n, crN_e, crN_n, ciR, ciL, ciD, ciN_e, ciN_n, rdI_e, rdI_n, rdC_i, rdC_o, rdW, rdU_e, rdU_n, rdLW, clI, clR, clC, clD, clW, clV, clN_e, clN_n, clL_e, clL_n]; done) | (simp (disch := omega) only [shI, shR, shL, shC, shD, shW, sh_V, shN_e, shN_n, crI, crL, crC, crW, crV, crR_e, crR_n, crN_e, crN_n, ciR, ciL, ciD, ciN_e, ciN_n, rdI_e, rdI_n, rdC_i, rdC_o, rdW, rdU_e, rdU_n, rdLW, clI, clR, clC, clD, clW, clV, clN_e, clN_n, clL_e, clL_n] <;> first | assumption | rfl | omega)) ?_
            refine x_iload_n dX2_tag_16 rfl rfl ?_
            refine x_aald (t := 140) rfl (by decide) dX2_tag_17 (by first | assumption | first | assumption | (simp (disch := omega) only [shI, shR, shL, shC, shD, shW, sh_V, shN_e, shN_n, crI, crL, crC, crW, crV, crR_e, crR_n, crN_e, crN_n, ciR, ciL, ciD, ciN_e, ciN_n, rdI_e, rdI_n, rdC_i, rdC_o, rdW, rdU_e, rdU_n, rdLW, clI, clR, clC, clD, clW, clV, clN_e, clN_n, clL_e, clL_n]; done) | (simp (disch := omega) only [shI, shR, shL, shC, shD, shW, sh_V, shN_e, shN_n, crI, crL, crC, crW, crV, crR_e, crR_n, crN_e, crN_n, ciR, ciL, ciD, ciN_e, ciN_n, rdI_e, rdI_n, rdC_i, rdC_o, rdW, rdU_e, rdU_n, rdLW, clI, clR, clC, clD, clW, clV, clN_e, clN_n, clL_e, clL_n] <;> first | assumption | rfl | omega)) (by omega) (by omega) (by exact hx) ?_
            refine g_callI (vs := [_, _]) (d' := d - 1) rfl (s_X2_takes (i := 7 + k.toNat) (by omega) hR q0 (by omega) ea) dX2_tag_18 kX2_109 (by omega) (by decide) rfl (Nat.le_of_ble_eq_true rfl) (rcv_o (by first | assumption | first | assumption | (simp (disch := omega) only [shI, shR, shL, shC, shD, shW, sh_V, shN_e, shN_n, crI, crL, crC, crW, crV, crR_e, crR_n, crN_e, crN_n, ciR, ciL, ciD, ciN_e, ciN_n, rdI_e, rdI_n, rdC_i, rdC_o, rdW, rdU_e, rdU_n, rdLW, clI, clR, clC, clD, clW, clV, clN_e, clN_n, clL_e, clL_n]; done) | (simp (disch := omega) only [shI, shR, shL, shC, shD, shW, sh_V, shN_e, shN_n, crI, crL, crC, crW, crV, crR_e, crR_n, crN_e, crN_n, ciR, ciL, ciD, ciN_e, ciN_n, rdI_e, rdI_n, rdC_i, rdC_o, rdW, rdU_e, rdU_n, rdLW, clI, clR, clC, clD, clW, clV, clN_e, clN_n, clL_e, clL_n] <;> first | assumption | rfl | omega)) rfl) (fun x18 M18 h18 => ?_)
            obtain ⟨e18, f18⟩ := h18
            rw [hq, hw, if_neg hI] at f18
            rw [hq, hw, vP_f hI] at e18
            subst e18
            have f18' := f18.symm
            subst f18'
            refine x_if_eq (tgt := 36) dX2_tag_21 (by decide) (fun h21 => ?_) (fun h21 => ?_)
            · try simp only [vP_0, vP_1, vP_n0, vP_n1, Classical.not_not] at h21
              first | refine x_iincN (L' := [some _, some _, none, none]) dX2_tag_36 rfl (by decide) (by unfold i32; omega) rfl ?_ | refine x_iinc (L' := [some _, some _, none, none]) dX2_tag_36 rfl (by decide) rfl ?_
              refine x_goto (tgt := 2) dX2_tag_39 (by decide) ?_
              exact ih _ (by omega) (k + 1) b rfl (by omega) (by omega) hss (Or.inr rfl) (by rw [show (k + 1).toNat = k.toNat + 1 by omega]; exact hk)
            · try simp only [vP_0, vP_1, vP_n0, vP_n1, Classical.not_not] at h21
              simp at h21
      · rw [show (3 - k).toNat = 0 by omega] at hk
        have hk2 : W = -1 := hk.symm
        have eq : q = b := by omega
        have ek : k = 3 := by omega
        subst eq
        subst ek
        refine x_iload_n dX2_tag_2 rfl rfl ?_
        refine x_aload_n dX2_tag_3 rfl rfl ?_
        refine g_getR (kI := 2) rfl dX2_tag_4 fX2_41_2 (by first | assumption | first | assumption | (simp (disch := omega) only [shI, shR, shL, shC, shD, shW, sh_V, shN_e, shN_n, crI, crL, crC, crW, crV, crR_e, crR_n, crN_e, crN_n, ciR, ciL, ciD, ciN_e, ciN_n, rdI_e, rdI_n, rdC_i, rdC_o, rdW, rdU_e, rdU_n, rdLW, clI, clR, clC, clD, clW, clV, clN_e, clN_n, clL_e, clL_n]; done) | (simp (disch := omega) only [shI, shR, shL, shC, shD, shW, sh_V, shN_e, shN_n, crI, crL, crC, crW, crV, crR_e, crR_n, crN_e, crN_n, ciR, ciL, ciD, ciN_e, ciN_n, rdI_e, rdI_n, rdC_i, rdC_o, rdW, rdU_e, rdU_n, rdLW, clI, clR, clC, clD, clW, clV, clN_e, clN_n, clL_e, clL_n] <;> first | assumption | rfl | omega)) (by first | assumption | first | assumption | (simp (disch := omega) only [shI, shR, shL, shC, shD, shW, sh_V, shN_e, shN_n, crI, crL, crC, crW, crV, crR_e, crR_n, crN_e, crN_n, ciR, ciL, ciD, ciN_e, ciN_n, rdI_e, rdI_n, rdC_i, rdC_o, rdW, rdU_e, rdU_n, rdLW, clI, clR, clC, clD, clW, clV, clN_e, clN_n, clL_e, clL_n]; done) | (simp (disch := omega) only [shI, shR, shL, shC, shD, shW, sh_V, shN_e, shN_n, crI, crL, crC, crW, crV, crR_e, crR_n, crN_e, crN_n, ciR, ciL, ciD, ciN_e, ciN_n, rdI_e, rdI_n, rdC_i, rdC_o, rdW, rdU_e, rdU_n, rdLW, clI, clR, clC, clD, clW, clV, clN_e, clN_n, clL_e, clL_n] <;> first | assumption | rfl | omega)) ?_
        refine x_alen rfl dX2_tag_7 (by first | assumption | first | assumption | (simp (disch := omega) only [shI, shR, shL, shC, shD, shW, sh_V, shN_e, shN_n, crI, crL, crC, crW, crV, crR_e, crR_n, crN_e, crN_n, ciR, ciL, ciD, ciN_e, ciN_n, rdI_e, rdI_n, rdC_i, rdC_o, rdW, rdU_e, rdU_n, rdLW, clI, clR, clC, clD, clW, clV, clN_e, clN_n, clL_e, clL_n]; done) | (simp (disch := omega) only [shI, shR, shL, shC, shD, shW, sh_V, shN_e, shN_n, crI, crL, crC, crW, crV, crR_e, crR_n, crN_e, crN_n, ciR, ciL, ciD, ciN_e, ciN_n, rdI_e, rdI_n, rdC_i, rdC_o, rdW, rdU_e, rdU_n, rdLW, clI, clR, clC, clD, clW, clV, clN_e, clN_n, clL_e, clL_n] <;> first | assumption | rfl | omega)) ?_
        refine x_icmp_ge (tgt := 42) dX2_tag_8 (by decide) (fun h8 => ?_) (fun h8 => ?_)
        · exact tail (by omega)
        · omega
  refine x_iconst dX2_tag_0 rfl ?_
  refine x_istore_n (L' := [some _, some _, none, none]) dX2_tag_1 rfl (by decide) rfl ?_
  exact lp _ 0 p rfl (by omega) hp hb (Or.inl rfl) hW
end X2

