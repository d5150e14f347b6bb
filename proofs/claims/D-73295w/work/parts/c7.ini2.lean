/-! constructor of a state of the component -/
/-- a new operation -/
def OpI (M : Mem) (o : Int) : Prop := OpS (msh M) (mcr M) o ∧ (∀ k, mci M o k = 0) ∧ (∀ k, mci M (o + 1) k = 0 ∧ mci M (o + 2) k = 0) ∧ (∀ k, 0 ≤ k → k < 4 → mci M (o + 3) k = -1)
theorem OpI.kp {M M1 : Mem} {o : Int} {P : Int → Prop} (h : OpI M o) (hk : Kp P M M1) (hp : ∀ b, o ≤ b → b ≤ o + 3 → P b) : OpI M1 o := by
  obtain ⟨⟨a1, a2, a3, a4, a5, a6, a7, a8⟩, b, c, d⟩ := h
  have s := fun (b : Int) (x : o ≤ b) (y : b ≤ o + 3) => hk b (hp b x y)
  exact ⟨⟨a1, (s _ (by omega) (by omega)).1.trans a2, ((s _ (by omega) (by omega)).2.2.1 _).trans a3, ((s _ (by omega) (by omega)).2.2.1 _).trans a4, ((s _ (by omega) (by omega)).2.2.1 _).trans a5, (s _ (by omega) (by omega)).1.trans a6, (s _ (by omega) (by omega)).1.trans a7, (s _ (by omega) (by omega)).1.trans a8⟩, fun k => ((s _ (by omega) (by omega)).2.1 k).trans (b k), fun k => ⟨((s _ (by omega) (by omega)).2.1 k).trans (c k).1, ((s _ (by omega) (by omega)).2.1 k).trans (c k).2⟩, fun k x y => ((s _ (by omega) (by omega)).2.1 k).trans (d k x y)⟩
section INI
variable {G : GW} {d : Nat} {M M1 M0 : Mem} {a q o p : Int} {Q : Res → Mem → Prop}
theorem s_X3_initL (hd : 14 ≤ d) (h0 : 0 ≤ p) (hs : msh M0 p = some (3, 0)) (hc : mcr M0 p 0 = some (p + 1)) (h1 : msh M0 (p + 1) = some (126, 8)) (hn : (mnx M0 : Int) = p + 13) (hQ : ∀ M1, (∀ j, 0 ≤ j → j < 8 → mcr M1 (p + 1) j = some (p + 13 + 4 * j) ∧ OpI M1 (p + 13 + 4 * j)) → msh M1 (p + 1) = some (126, 8) → (mnx M1 : Int) = p + 45 → mns M1 ≤ mns M0 + 400 → Kp (fun b => b < p + 13 ∧ b ≠ p + 1) M0 M1 → Q (.inl none) M1) : WP G d mX3_init 99 [some (dR p), some (dI 0)] [] M0 Q := by
  have lp : ∀ (t : Nat) (k : Int) (M' : Mem), (8 - k).toNat = t → (0 ≤ k ∧ k ≤ 8) → (∀ j, 0 ≤ j → j < k → mcr M' (p + 1) j = some (p + 13 + 4 * j) ∧ OpI M' (p + 13 + 4 * j)) → (msh M' (p + 1) = some (126, 8)) → ((mnx M' : Int) = p + 13 + 4 * k) → (mns M' ≤ mns M0 + 50 * k.toNat) → (Kp (fun b => b < p + 13 ∧ b ≠ p + 1) M0 M') → WP G d mX3_init 99 [some (dR p), some (dI k)] [] (M') Q := by
    intro t
    induction t using Nat.strongRecOn with
    | _ t ih =>
      intro k M' ht k0 hO hs1 hnx hns hk
      have sp : msh M' p = some (3, 0) := (hk p ⟨by omega, by omega⟩).1.trans hs
      have cp : mcr M' p 0 = some (p + 1) := ((hk p ⟨by omega, by omega⟩).2.2.1 0).trans hc
      by_cases h8 : k < 8
      · refine x_iload_n dX3_init_99 rfl rfl ?_
        refine x_bipush dX3_init_100 rfl ?_
        refine x_icmp_ge (tgt := 124) dX3_init_102 (by decide) (fun h102 => ?_) (fun h102 => ?_)
        · omega
        · refine x_aload_n dX3_init_105 rfl rfl ?_
          refine g_getR (kI := 0) rfl dX3_init_106 fX3_11_3 (by first | assumption | first | assumption | (simp (disch := omega) only [shI, shR, shL, shC, shD, shW, sh_V, shN_e, shN_n, crI, crL, crC, crW, crV, crR_e, crR_n, crN_e, crN_n, ciR, ciL, ciD, ciN_e, ciN_n, rdI_e, rdI_n, rdC_i, rdC_o, rdW, rdU_e, rdU_n, rdLW, clI, clR, clC, clD, clW, clV, clN_e, clN_n, clL_e, clL_n]; done) | (simp (disch := omega) only [shI, shR, shL, shC, shD, shW, sh_V, shN_e, shN_n, crI, crL, crC, crW, crV, crR_e, crR_n, crN_e, crN_n, ciR, ciL, ciD, ciN_e, ciN_n, rdI_e, rdI_n, rdC_i, rdC_o, rdW, rdU_e, rdU_n, rdLW, clI, clR, clC, clD, clW, clV, clN_e, clN_n, clL_e, clL_n] <;> first | assumption | rfl | omega)) (by first | assumption | first | assumption | (simp (disch := omega) only [shI, shR, shL, shC, shD, shW, sh_V, shN_e, shN_n, crI, crL, crC, crW, crV, crR_e, crR_n, crN_e, crN_n, ciR, ciL, ciD, ciN_e, ciN_n, rdI_e, rdI_n, rdC_i, rdC_o, rdW, rdU_e, rdU_n, rdLW, clI, clR, clC, clD, clW, clV, clN_e, clN_n, clL_e, clL_n]; done) | (simp (disch := omega) only [shI, shR, shL, shC, shD, shW, sh_V, shN_e, shN_n, crI, crL, crC, crW, crV, crR_e, crR_n, crN_e, crN_n, ciR, ciL, ciD, ciN_e, ciN_n, rdI_e, rdI_n, rdC_i, rdC_o, rdW, rdU_e, rdU_n, rdLW, clI, clR, clC, clD, clW, clV, clN_e, clN_n, clL_e, clL_n] <;> first | assumption | rfl | omega)) ?_
          refine x_iload_n dX3_init_109 rfl rfl ?_
          refine x_newX (x := p + 13 + 4 * k) (by first | (simp only [nxI, nxR, nxL, nxC, nxD, nxW, nxV, nxN]; done) | (simp only [nxI, nxR, nxL, nxC, nxD, nxW, nxV, nxN]; omega) | omega) (t := 6) rfl q232 q301 q157 dX3_init_110 ?_
          refine x_dup dX3_init_113 rfl ?_
          refine g_callN (vs := [_]) (d' := d - 1) rfl (s_X6_init (o := p + 13 + 4 * k) (by omega) (by omega) (by first | assumption | (simp (disch := omega) only [shI, shR, shL, shC, shD, shW, sh_V, shN_e, shN_n, crI, crL, crC, crW, crV, crR_e, crR_n, crN_e, crN_n, ciR, ciL, ciD, ciN_e, ciN_n, rdI_e, rdI_n, rdC_i, rdC_o, rdW, rdU_e, rdU_n, rdLW, clI, clR, clC, clD, clW, clV, clN_e, clN_n, clL_e, clL_n]; done) | (simp (disch := omega) only [shI, shR, shL, shC, shD, shW, sh_V, shN_e, shN_n, crI, crL, crC, crW, crV, crR_e, crR_n, crN_e, crN_n, ciR, ciL, ciD, ciN_e, ciN_n, rdI_e, rdI_n, rdC_i, rdC_o, rdW, rdU_e, rdU_n, rdLW, clI, clR, clC, clD, clW, clV, clN_e, clN_n, clL_e, clL_n] <;> first | assumption | rfl | omega)) (by first | (simp only [nxI, nxR, nxL, nxC, nxD, nxW, nxV, nxN]; done) | (simp only [nxI, nxR, nxL, nxC, nxD, nxW, nxV, nxN]; omega) | omega) Frsh.n) dX3_init_114 kX3_59 (by omega) (by decide) rfl (Nat.le_of_ble_eq_true rfl) (rcv_o (by first | assumption | first | assumption | (simp (disch := omega) only [shI, shR, shL, shC, shD, shW, sh_V, shN_e, shN_n, crI, crL, crC, crW, crV, crR_e, crR_n, crN_e, crN_n, ciR, ciL, ciD, ciN_e, ciN_n, rdI_e, rdI_n, rdC_i, rdC_o, rdW, rdU_e, rdU_n, rdLW, clI, clR, clC, clD, clW, clV, clN_e, clN_n, clL_e, clL_n]; done) | (simp (disch := omega) only [shI, shR, shL, shC, shD, shW, sh_V, shN_e, shN_n, crI, crL, crC, crW, crV, crR_e, crR_n, crN_e, crN_n, ciR, ciL, ciD, ciN_e, ciN_n, rdI_e, rdI_n, rdC_i, rdC_o, rdW, rdU_e, rdU_n, rdLW, clI, clR, clC, clD, clW, clV, clN_e, clN_n, clL_e, clL_n] <;> first | assumption | rfl | omega)) rfl) (fun M114 h114 => ?_)
          obtain ⟨a114, b114, c114, e114, n114, z114, k114⟩ := h114
          have s1 : msh M114 (p + 1) = some (126, 8) := ((k114 _ (by omega)).1).trans ((shN_n (by omega)).trans hs1)
          have s6 : msh M114 (p + 13 + 4 * k) = some (6, 0) := a114.2.1
          refine x_aast (t := 126) (by decide) rfl (by omega) dX3_init_117 (by first | assumption | first | assumption | (simp (disch := omega) only [shI, shR, shL, shC, shD, shW, sh_V, shN_e, shN_n, crI, crL, crC, crW, crV, crR_e, crR_n, crN_e, crN_n, ciR, ciL, ciD, ciN_e, ciN_n, rdI_e, rdI_n, rdC_i, rdC_o, rdW, rdU_e, rdU_n, rdLW, clI, clR, clC, clD, clW, clV, clN_e, clN_n, clL_e, clL_n]; done) | (simp (disch := omega) only [shI, shR, shL, shC, shD, shW, sh_V, shN_e, shN_n, crI, crL, crC, crW, crV, crR_e, crR_n, crN_e, crN_n, ciR, ciL, ciD, ciN_e, ciN_n, rdI_e, rdI_n, rdC_i, rdC_o, rdW, rdU_e, rdU_n, rdLW, clI, clR, clC, clD, clW, clV, clN_e, clN_n, clL_e, clL_n] <;> first | assumption | rfl | omega)) (by omega) (by omega) (any_ob (tb := 6) rfl s6 (Or.inl rfl)) ?_
          first | refine x_iincN (L' := [some _, some _]) dX3_init_118 rfl (by decide) (by unfold i32; omega) rfl ?_ | refine x_iinc (L' := [some _, some _]) dX3_init_118 rfl (by decide) rfl ?_
          refine x_goto (tgt := 99) dX3_init_121 (by decide) ?_
          refine ih _ (by omega) (k + 1) _ rfl (by omega) (fun j j0 j1 => ?_) s1 ?_ ?_ ?_
          · have kR : Kp (fun b => b ≠ p + 1) M114 (mR M114 (p + 1) k (some (p + 13 + 4 * k))) := fun b hb => ⟨rfl, fun i => rfl, fun i => crR_n (by omega), fun i => rfl⟩
            by_cases e : j = k
            · subst e
              exact ⟨crR_e (by omega), OpI.kp ⟨a114, b114, c114, e114⟩ kR fun b x y => by omega⟩
            · have kN : Kp (fun b => b < p + 13 + 4 * k) M' M114 := fun b hb => ⟨((k114 b hb).1).trans (shN_n (by omega)), fun i => ((k114 b hb).2.1 i).trans (ciN_n (by omega)), fun i => ((k114 b hb).2.2.1 i).trans (crN_n (by omega)), fun i => ((k114 b hb).2.2.2 i).trans (clN_n (by omega))⟩
              have hj := hO j j0 (by omega)
              exact ⟨(crR_n (by omega)).trans (((kN _ (by omega)).2.2.1 j).trans hj.1), (hj.2.kp kN fun b x y => by omega).kp kR fun b x y => by omega⟩
          · show ((mnx M114 : Nat) : Int) = _
            omega
          · show mns M114 ≤ _
            simp only [nsN] at z114
            omega
          · exact fun b hb => ⟨((k114 b (by omega)).1).trans ((shN_n (by omega)).trans (hk b hb).1), fun i => ((k114 b (by omega)).2.1 i).trans ((ciN_n (by omega)).trans ((hk b hb).2.1 i)), fun i => (crR_n (by omega)).trans (((k114 b (by omega)).2.2.1 i).trans ((crN_n (by omega)).trans ((hk b hb).2.2.1 i))), fun i => ((k114 b (by omega)).2.2.2 i).trans ((clN_n (by omega)).trans ((hk b hb).2.2.2 i))⟩
      · refine x_iload_n dX3_init_99 rfl rfl ?_
        refine x_bipush dX3_init_100 rfl ?_
        refine x_icmp_ge (tgt := 124) dX3_init_102 (by decide) (fun h102 => ?_) (fun h102 => ?_)
        · refine x_vreturn rfl dX3_init_124 ?_
          exact hQ M' (fun j j0 j1 => hO j j0 (by omega)) hs1 (by omega) (by omega) hk
        · omega
  exact lp _ 0 M0 rfl (by omega) (fun j j0 j1 => by omega) h1 (by omega) (by omega) Kp.rfl
end INI

