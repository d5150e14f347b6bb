/-! GuestView$State: steps of guests -/
theorem step1_clock {kind n : Int} {m : Ms} : (step1 kind n m).2.2.2.1 = m.2.2.2.1 := by
  unfold step1
  split
  · rfl
  · split
    · rfl
    · split
      · rfl
      · split
        · rfl
        · split
          · rfl
          · split
            · rfl
            · split
              · rfl
              · split
                · rfl
                · split
                  · rfl
                  · split
                    · rfl
                    · rfl
theorem runM_clock {K X : Int → Int} : ∀ (t : Nat) (k : Int) (m : Ms), (runM K X t k m).2.2.2.1 = m.2.2.2.1 := by
  intro t
  induction t with
  | zero => intro k m; rfl
  | succ t ih =>
    intro k m
    rw [runM_s]
    split
    · exact step1_clock
    · rw [ih]; exact step1_clock
theorem doM_clock {n : Int} {K X : Int → Int} {m : Ms} : (doM n K X m).2.2.2.1 = m.2.2.2.1 := runM_clock _ _ _
theorem setG_at (v : Vw) (i pc : Int) (m : Ms) (cl : Int) : setG v i pc m cl (guA i) = pc ∧ setG v i pc m cl (guA i + 1) = m.1 ∧ setG v i pc m cl (guA i + 2) = m.2.1 ∧ setG v i pc m cl (guA i + 3) = m.2.2.1 ∧ setG v i pc m cl (guA i + 4) = cl ∧ ∀ k, 0 ≤ k → k < 8 → setG v i pc m cl (guA i + 5 + k) = m.2.2.2.2.2 k := by
  refine ⟨if_pos rfl, ?_, ?_, ?_, ?_, fun k a b => ?_⟩
  · unfold setG; rw [if_neg (by omega), if_pos rfl]
  · unfold setG; rw [if_neg (by omega), if_neg (by omega), if_pos rfl]
  · unfold setG; rw [if_neg (by omega), if_neg (by omega), if_neg (by omega), if_pos rfl]
  · unfold setG; rw [if_neg (by omega), if_neg (by omega), if_neg (by omega), if_neg (by omega), if_pos rfl]
  · unfold setG
    rw [if_neg (by omega), if_neg (by omega), if_neg (by omega), if_neg (by omega), if_neg (by omega), if_pos (by omega), show guA i + 5 + k - (guA i + 5) = k by omega]
theorem RelG.set {g : Int → Int → Int} {q s i pc cl : Int} {v : Vw} {m : Ms} (h1 : g q 1 = pc) (h2 : g q 2 = s) (h3 : g (q + 1) 6 = 0 ∨ g (q + 1) 6 = 1) (h4 : g (q + 1) 1 = m.1) (h5 : g (q + 1) 2 = m.2.1) (h6 : g (q + 1) 3 = m.2.2.1) (h7 : g (q + 1) 4 = cl) (h8 : ∀ k, 0 ≤ k → k < 8 → g (q + 2) ((k + s) % 8) = m.2.2.2.2.2 k) : RelG g q s (setG v i pc m cl) i := by
  obtain ⟨e0, e1, e2, e3, e4, e5⟩ := setG_at v i pc m cl
  exact ⟨h1.trans e0.symm, h2, h3, h4.trans e1.symm, h5.trans e2.symm, h6.trans e3.symm, h7.trans e4.symm, fun k a b => (h8 k a b).trans (e5 k a b).symm⟩
theorem RelG.opD {f : Int → Int → Int} {q s i o : Int} {v : Vw} (h : RelG f q s v i) : opD v o (mvw f (q + 1) s) = opD v o (guM v i) := by
  rw [h.view]
  rfl
theorem RelG.i5 {f : Int → Int → Int} {q s i x : Int} {v : Vw} (h : RelG f q s v i) : RelG (up f (q + 1) 5 x) q s v i := by
  obtain ⟨h1, h2, h3, h4, h5, h6, h7, h8⟩ := h
  refine ⟨?_, ?_, ?_, ?_, ?_, ?_, ?_, fun k a b => ?_⟩
  · simp (disch := omega) only [rdI_e, rdI_n, rdC_i, rdC_o, rdW, rdR, rdU_e, rdU_n]
    exact h1
  · simp (disch := omega) only [rdI_e, rdI_n, rdC_i, rdC_o, rdW, rdR, rdU_e, rdU_n]
    exact h2
  · simp (disch := omega) only [rdI_e, rdI_n, rdC_i, rdC_o, rdW, rdR, rdU_e, rdU_n]
    exact h3
  · simp (disch := omega) only [rdI_e, rdI_n, rdC_i, rdC_o, rdW, rdR, rdU_e, rdU_n]
    exact h4
  · simp (disch := omega) only [rdI_e, rdI_n, rdC_i, rdC_o, rdW, rdR, rdU_e, rdU_n]
    exact h5
  · simp (disch := omega) only [rdI_e, rdI_n, rdC_i, rdC_o, rdW, rdR, rdU_e, rdU_n]
    exact h6
  · simp (disch := omega) only [rdI_e, rdI_n, rdC_i, rdC_o, rdW, rdR, rdU_e, rdU_n]
    exact h7
  · simp (disch := omega) only [rdI_e, rdI_n, rdC_i, rdC_o, rdW, rdR, rdU_e, rdU_n]
    exact h8 k a b
theorem mvw_1 {f : Int → Int → Int} {a s : Int} {m : Ms} (h : mvw f a s = m) : f a 1 = m.1 ∧ f a 2 = m.2.1 ∧ f a 3 = m.2.2.1 ∧ f a 4 = m.2.2.2.1 ∧ f a 6 = m.2.2.2.2.1 ∧ ∀ k, f (a + 1) ((k + s) % 8) = m.2.2.2.2.2 k := by
  subst h
  exact ⟨rfl, rfl, rfl, rfl, rfl, fun k => rfl⟩
section X3
variable {G : GW} {d : Nat} {M : Mem} {p q s N i : Int} {v : Vw}
theorem s_X3_stepsBare (hd : 15 ≤ d) (h : StS (msh M) (mcr M) p) (hq : GuS (msh M) (mcr M) q) (hp : GP p q) (hB : RelB (mci M) p v N) (hv : okB v) (hG : RelG (mci M) q 0 v i) (hg : okGu v i) : CS G d mX3_stepsBare [dR p, dR q] M (postN fun M1 => ∃ g, M1 = wI M g ∧ RelG g q 0 (bareV v i) i ∧ Fo q (q + 2) (mci M) g) := by
  have hh := h
  have hqq := hq
  obtain ⟨p0, p1, ⟨c0, c1, c2, c3, c4, c5, c6, c7⟩, ⟨t1, t2, t3, t4, t5, t6⟩, p5, p6, p7⟩ := h
  obtain ⟨q0, q1, q2, q3, q4, q5, q6⟩ := hq
  have e3 := hB.2.1
  have e4 := hB.2.2.2.1
  have hv8 := hv.n8
  have hg0 := hg.1
  by_cases hh3 : v 3 ≤ v (guA i)
  · refine CS.mk (by decide) (Nat.le_of_ble_eq_true rfl) ?_
    refine x_aload_n dX3_stepsBare_0 rfl rfl ?_
    refine x_aload_n dX3_stepsBare_1 rfl rfl ?_
    refine g_callI (vs := [_, _]) (d' := d - 1) rfl (s_X3_opAt (by omega) hh hqq hB hv hG (by omega)) dX3_stepsBare_2 kX3_141 (by omega) (by decide) rfl (Nat.le_of_ble_eq_true rfl) (rcv_o (by assumption) rfl) (fun x2 M2 h2 => ?_)
    obtain ⟨e2, f2⟩ := h2
    have f2' := f2.symm
    subst f2'
    rw [if_neg (by omega)] at e2
    subst e2
    refine x_istore_n (L' := [some _, some _, some _]) dX3_stepsBare_5 rfl (by decide) rfl ?_
    refine x_iload_n dX3_stepsBare_6 rfl rfl ?_
    refine x_iconst dX3_stepsBare_7 rfl ?_
    refine x_icmp_ne (tgt := 12) dX3_stepsBare_8 (by decide) (fun h8 => ?_) (fun h8 => ?_)
    · exact absurd rfl h8
    · refine x_vreturn rfl dX3_stepsBare_11 ?_
      refine ⟨rfl, mci _, rfl, ?_, Fo.rfl⟩
      unfold bareV
      rw [if_pos hh3]
      exact hG
  · have ho := hv.pr (v (guA i)) (by omega) (by omega)
    have ho' : 0 ≤ opAtV v i ∧ opAtV v i < v 0 := ho
    have hop := hv.op _ ho'.1 ho'.2
    have hRO := hB.2.2.2.2.2.2.2.2.2.2.2.2.2.1 _ ho'.1 ho'.2
    have hOS := p7 (opAtV v i) (by omega) (by omega)
    have e3g : v (guA i) < v 3 := by omega
    have hf5 : Fo q (q + 2) (mci M) (up (mci M) (q + 1) 5 0) := fun b k r => by simp (disch := omega) only [rdI_e, rdI_n, rdC_i, rdC_o, rdW, rdR, rdU_e, rdU_n]
    have hB5 := hB.fg hf5 hv8 hp
    have hRO5 := hB5.2.2.2.2.2.2.2.2.2.2.2.2.2.1 _ ho'.1 ho'.2
    have hG5 : RelG (up (mci M) (q + 1) 5 0) q 0 v i := hG.i5
    have hu5 : (0 : Int) = up (mci M) (q + 1) 5 0 (q + 1) 5 := by simp (disch := omega) only [rdI_e, rdI_n, rdC_i, rdC_o, rdW, rdR, rdU_e, rdU_n]
    obtain ⟨a1, a2, a3, a4, a5, a6, a7, a8⟩ := hG
    have hG : RelG (mci M) q 0 v i := ⟨a1, a2, a3, a4, a5, a6, a7, a8⟩
    have hg4 := hg.2.2.2.2.1
    have hg4' : 0 ≤ v (guA i + 4) ∧ v (guA i + 4) < 8 := hg4
    refine CS.mk (by decide) (Nat.le_of_ble_eq_true rfl) ?_
    refine x_aload_n dX3_stepsBare_0 rfl rfl ?_
    refine x_aload_n dX3_stepsBare_1 rfl rfl ?_
    refine g_callI (vs := [_, _]) (d' := d - 1) rfl (s_X3_opAt (by omega) hh hqq hB hv hG (by omega)) dX3_stepsBare_2 kX3_141 (by omega) (by decide) rfl (Nat.le_of_ble_eq_true rfl) (rcv_o (by assumption) rfl) (fun x2 M2 h2 => ?_)
    obtain ⟨e2, f2⟩ := h2
    have f2' := f2.symm
    subst f2'
    rw [if_pos e3g] at e2
    subst e2
    refine x_istore_n (L' := [some _, some _, some _]) dX3_stepsBare_5 rfl (by decide) rfl ?_
    refine x_iload_n dX3_stepsBare_6 rfl rfl ?_
    refine x_iconst dX3_stepsBare_7 rfl ?_
    refine x_icmp_ne (tgt := 12) dX3_stepsBare_8 (by decide) (fun h8 => ?_) (fun h8 => ?_)
    · refine x_aload_n dX3_stepsBare_12 rfl rfl ?_
      refine g_getR (kI := 0) rfl dX3_stepsBare_13 fX3_145_4 (by assumption) (by assumption) ?_
      refine x_aload_n dX3_stepsBare_16 rfl rfl ?_
      refine g_getR (kI := 0) rfl dX3_stepsBare_17 fX3_11_3 (by assumption) (by assumption) ?_
      refine x_iload_n dX3_stepsBare_20 rfl rfl ?_
      refine x_aald (t := 126) rfl (by decide) dX3_stepsBare_21 (by assumption) (by omega) (by omega) (by exact hOS.1) ?_
      refine g_callI (vs := [_, _]) (d' := d - 1) rfl (s_X5_isTrapped (by omega) ⟨q3, q4, q5, q6⟩ hOS.2) dX3_stepsBare_22 kX3_149 (by omega) (by decide) rfl (Nat.le_of_ble_eq_true rfl) (rcv_o (by assumption) rfl) (fun x22 M22 h22 => ?_)
      obtain ⟨e22, f22⟩ := h22
      have f22' := f22.symm
      subst f22'
      subst e22
      rw [hRO.2.1, a5]
      refine x_if_eq (tgt := 39) dX3_stepsBare_25 (by decide) (fun h25 => ?_) (fun h25 => ?_)
      · refine x_aload_n dX3_stepsBare_39 rfl rfl ?_
        refine g_getR (kI := 0) rfl dX3_stepsBare_40 fX3_145_4 (by assumption) (by assumption) ?_
        refine x_iconst dX3_stepsBare_43 rfl ?_
        refine g_putI (kI := 5) rfl dX3_stepsBare_44 fX3_159_5 (by assumption) ?_
        refine WP.mem (M1 := wI M (up (mci M) (q + 1) 5 0)) rfl ?_
        refine x_aload_n dX3_stepsBare_47 rfl rfl ?_
        refine g_getR (kI := 0) rfl dX3_stepsBare_48 fX3_145_4 (by assumption) (by assumption) ?_
        refine x_aload_n dX3_stepsBare_51 rfl rfl ?_
        refine g_getR (kI := 0) rfl dX3_stepsBare_52 fX3_11_3 (by assumption) (by assumption) ?_
        refine x_iload_n dX3_stepsBare_55 rfl rfl ?_
        refine x_aald (t := 126) rfl (by decide) dX3_stepsBare_56 (by assumption) (by omega) (by omega) (by exact hOS.1) ?_
        refine g_callN (vs := [_, _]) (d' := d - 1) rfl (s_X5_does (s := 0) (by omega) ⟨q3, q4, q5, q6⟩ hOS.2 (by unfold GP at hp; omega) hu5 (by omega) (hG5.okm hg) (hRO5.ok hop)) dX3_stepsBare_57 kX3_162 (by omega) (by decide) rfl (Nat.le_of_ble_eq_true rfl) (rcv_o (by assumption) rfl) (fun M57 h57 => ?_)
        obtain ⟨g1, hM57, r1, r2, r3⟩ := h57
        subst hM57
        have r1' : mvw g1 (q + 1) 0 = opD v (opAtV v i) (guM v i) := r1.trans ((hRO5.d _).trans hG5.opD)
        obtain ⟨b1, b2, b3, b4, b5, b6⟩ := mvw_1 r1'
        have hom := opD_ok (m := guM v i) hop hg.2
        have hgq : g1 q 1 = v (guA i) := (r3 _ _ (by omega)).trans ((by simp (disch := omega) only [rdI_e, rdI_n, rdC_i, rdC_o, rdW, rdR, rdU_e, rdU_n] : up (mci M) (q + 1) 5 0 q 1 = mci M q 1).trans a1)
        have hgq2 : g1 q 2 = 0 := (r3 _ _ (by omega)).trans ((by simp (disch := omega) only [rdI_e, rdI_n, rdC_i, rdC_o, rdW, rdR, rdU_e, rdU_n] : up (mci M) (q + 1) 5 0 q 2 = mci M q 2).trans a2)
        have hcl : (opD v (opAtV v i) (guM v i)).2.2.2.1 = v (guA i + 4) := doM_clock
        rw [hcl] at b4
        refine x_aload_n dX3_stepsBare_60 rfl rfl ?_
        refine g_callN (vs := [_]) (d' := d - 1) rfl (s_X4_goesOn (by omega) hqq (by rw [mci_wI, hgq]; exact hg0) (by rw [mci_wI, b5]; exact hom.2.2.2.2.1)) dX3_stepsBare_61 kX3_165 (by omega) (by decide) rfl (Nat.le_of_ble_eq_true rfl) (rcv_o (by assumption) rfl) (fun M61 h61 => ?_)
        subst h61
        have hck : 0 ≤ mci (wI M (up g1 q 1 (nextPc (g1 q 1) (g1 (q + 1) 6)))) (q + 1) 4 ∧ mci (wI M (up g1 q 1 (nextPc (g1 q 1) (g1 (q + 1) 6)))) (q + 1) 4 < 8 := by rw [mci_wI, rdU_n (by omega), b4]; exact hg4'
        refine x_aload_n dX3_stepsBare_64 rfl rfl ?_
        refine x_iconst dX3_stepsBare_65 rfl ?_
        refine g_callN (vs := [_, _]) (d' := d - 1) rfl (s_X4_ages (by omega) hqq hck (by omega)) dX3_stepsBare_66 kX3_168 (by omega) (by decide) rfl (Nat.le_of_ble_eq_true rfl) (rcv_o (by assumption) rfl) (fun M66 h66 => ?_)
        refine x_vreturn rfl dX3_stepsBare_69 ?_
        subst h66
        have ht : opG v (opAtV v i) ≠ 0 ∧ v (guA i + 2) = 0 ↔ opG v (opAtV v i) = 1 ∧ v (guA i + 2) = 0 := by
          have := hop.2.1
          omega
        first
        | (have h25' := vP_0.mp h25
           rw [ht] at h25'
           refine ⟨rfl, exI rfl ⟨?_, ?_⟩⟩
           · unfold bareV
             rw [if_neg hh3, if_neg h25']
             refine RelG.set ?_ ?_ ?_ ?_ ?_ ?_ ?_ fun k c1 c2 => ?_
             · simp (disch := omega) only [rdI_e, rdI_n, rdC_i, rdC_o, rdW, rdR, rdU_e, rdU_n]
               rw [hgq, b5]
             · simp (disch := omega) only [rdI_e, rdI_n, rdC_i, rdC_o, rdW, rdR, rdU_e, rdU_n]
               exact hgq2
             · simp (disch := omega) only [rdI_e, rdI_n, rdC_i, rdC_o, rdW, rdR, rdU_e, rdU_n]
               rw [b5]; exact hom.2.2.2.2.1
             · simp (disch := omega) only [rdI_e, rdI_n, rdC_i, rdC_o, rdW, rdR, rdU_e, rdU_n]
               exact b1
             · simp (disch := omega) only [rdI_e, rdI_n, rdC_i, rdC_o, rdW, rdR, rdU_e, rdU_n]
               exact b2
             · simp (disch := omega) only [rdI_e, rdI_n, rdC_i, rdC_o, rdW, rdR, rdU_e, rdU_n]
               exact b3
             · simp (disch := omega) only [rdI_e, rdI_n, rdC_i, rdC_o, rdW, rdR, rdU_e, rdU_n]
               rw [b4]
             · simp (disch := omega) only [rdI_e, rdI_n, rdC_i, rdC_o, rdW, rdR, rdU_e, rdU_n]
               rw [show q + 2 = q + 1 + 1 by omega]; exact b6 k
           · intro b k r
             have h1 := r3 b k (by omega)
             simp (disch := omega) only [rdI_e, rdI_n, rdC_i, rdC_o, rdW, rdR, rdU_e, rdU_n]
             rw [h1]
             simp (disch := omega) only [rdI_e, rdI_n, rdC_i, rdC_o, rdW, rdR, rdU_e, rdU_n])
        | (have h25' : vP (opG v (opAtV v i) ≠ 0 ∧ v (guA i + 2) = 0) = 1 := by
             rcases vP_r (opG v (opAtV v i) ≠ 0 ∧ v (guA i + 2) = 0) with e | e
             · exact absurd e h25
             · exact e
           have h25'' := ht.mp (vP_1.mp h25')
           refine ⟨rfl, exI rfl ⟨?_, ?_⟩⟩
           · unfold bareV
             rw [if_neg hh3, if_pos h25'']
             refine RelG.set ?_ ?_ ?_ ?_ ?_ ?_ ?_ fun k c1 c2 => ?_
             · simp (disch := omega) only [rdI_e, rdI_n, rdC_i, rdC_o, rdW, rdR, rdU_e, rdU_n]
               exact e4
             · simp (disch := omega) only [rdI_e, rdI_n, rdC_i, rdC_o, rdW, rdR, rdU_e, rdU_n]
               exact a2
             · simp (disch := omega) only [rdI_e, rdI_n, rdC_i, rdC_o, rdW, rdR, rdU_e, rdU_n]
               exact a3
             · simp (disch := omega) only [rdI_e, rdI_n, rdC_i, rdC_o, rdW, rdR, rdU_e, rdU_n]
               exact a4
             · simp (disch := omega) only [rdI_e, rdI_n, rdC_i, rdC_o, rdW, rdR, rdU_e, rdU_n]
               rfl
             · simp (disch := omega) only [rdI_e, rdI_n, rdC_i, rdC_o, rdW, rdR, rdU_e, rdU_n]
               exact a6
             · simp (disch := omega) only [rdI_e, rdI_n, rdC_i, rdC_o, rdW, rdR, rdU_e, rdU_n]
               rw [a7]
             · simp (disch := omega) only [rdI_e, rdI_n, rdC_i, rdC_o, rdW, rdR, rdU_e, rdU_n]
               rw [a8 k c1 c2]
               show v (guA i + 5 + k) = v (guA i + 5 + k % 8)
               rw [show k % 8 = k by omega]
           · intro b k r
             simp (disch := omega) only [rdI_e, rdI_n, rdC_i, rdC_o, rdW, rdR, rdU_e, rdU_n])
      · refine x_aload_n dX3_stepsBare_28 rfl rfl ?_
        refine x_aload_n dX3_stepsBare_29 rfl rfl ?_
        refine g_getI (kI := 12) rfl dX3_stepsBare_30 fX3_82_3 (by assumption) ?_
        refine g_callN (vs := [_, _]) (d' := d - 1) rfl (s_X4_jumps (by omega) hqq) dX3_stepsBare_33 kX3_155 (by omega) (by decide) rfl (Nat.le_of_ble_eq_true rfl) (rcv_o (by assumption) rfl) (fun M33 h33 => ?_)
        subst h33
        have hck : 0 ≤ mci (wI M (up (up (mci M) (q + 1) 2 1) q 1 (mci M p 12))) (q + 1) 4 ∧ mci (wI M (up (up (mci M) (q + 1) 2 1) q 1 (mci M p 12))) (q + 1) 4 < 8 := by
          simp (disch := omega) only [rdI_e, rdI_n, rdC_i, rdC_o, rdW, rdR, rdU_e, rdU_n]
          omega
        refine x_goto (tgt := 64) dX3_stepsBare_36 (by decide) ?_
        refine x_aload_n dX3_stepsBare_64 rfl rfl ?_
        refine x_iconst dX3_stepsBare_65 rfl ?_
        refine g_callN (vs := [_, _]) (d' := d - 1) rfl (s_X4_ages (by omega) hqq hck (by omega)) dX3_stepsBare_66 kX3_168 (by omega) (by decide) rfl (Nat.le_of_ble_eq_true rfl) (rcv_o (by assumption) rfl) (fun M66 h66 => ?_)
        refine x_vreturn rfl dX3_stepsBare_69 ?_
        subst h66
        have ht : opG v (opAtV v i) ≠ 0 ∧ v (guA i + 2) = 0 ↔ opG v (opAtV v i) = 1 ∧ v (guA i + 2) = 0 := by
          have := hop.2.1
          omega
        first
        | (have h25' := vP_0.mp h25
           rw [ht] at h25'
           refine ⟨rfl, exI rfl ⟨?_, ?_⟩⟩
           · unfold bareV
             rw [if_neg hh3, if_neg h25']
             refine RelG.set ?_ ?_ ?_ ?_ ?_ ?_ ?_ fun k c1 c2 => ?_
             · simp (disch := omega) only [rdI_e, rdI_n, rdC_i, rdC_o, rdW, rdR, rdU_e, rdU_n]
               rw [hgq, b5]
             · simp (disch := omega) only [rdI_e, rdI_n, rdC_i, rdC_o, rdW, rdR, rdU_e, rdU_n]
               exact hgq2
             · simp (disch := omega) only [rdI_e, rdI_n, rdC_i, rdC_o, rdW, rdR, rdU_e, rdU_n]
               rw [b5]; exact hom.2.2.2.2.1
             · simp (disch := omega) only [rdI_e, rdI_n, rdC_i, rdC_o, rdW, rdR, rdU_e, rdU_n]
               exact b1
             · simp (disch := omega) only [rdI_e, rdI_n, rdC_i, rdC_o, rdW, rdR, rdU_e, rdU_n]
               exact b2
             · simp (disch := omega) only [rdI_e, rdI_n, rdC_i, rdC_o, rdW, rdR, rdU_e, rdU_n]
               exact b3
             · simp (disch := omega) only [rdI_e, rdI_n, rdC_i, rdC_o, rdW, rdR, rdU_e, rdU_n]
               rw [b4]
             · simp (disch := omega) only [rdI_e, rdI_n, rdC_i, rdC_o, rdW, rdR, rdU_e, rdU_n]
               rw [show q + 2 = q + 1 + 1 by omega]; exact b6 k
           · intro b k r
             have h1 := r3 b k (by omega)
             simp (disch := omega) only [rdI_e, rdI_n, rdC_i, rdC_o, rdW, rdR, rdU_e, rdU_n]
             rw [h1]
             simp (disch := omega) only [rdI_e, rdI_n, rdC_i, rdC_o, rdW, rdR, rdU_e, rdU_n])
        | (have h25' : vP (opG v (opAtV v i) ≠ 0 ∧ v (guA i + 2) = 0) = 1 := by
             rcases vP_r (opG v (opAtV v i) ≠ 0 ∧ v (guA i + 2) = 0) with e | e
             · exact absurd e h25
             · exact e
           have h25'' := ht.mp (vP_1.mp h25')
           refine ⟨rfl, exI rfl ⟨?_, ?_⟩⟩
           · unfold bareV
             rw [if_neg hh3, if_pos h25'']
             refine RelG.set ?_ ?_ ?_ ?_ ?_ ?_ ?_ fun k c1 c2 => ?_
             · simp (disch := omega) only [rdI_e, rdI_n, rdC_i, rdC_o, rdW, rdR, rdU_e, rdU_n]
               exact e4
             · simp (disch := omega) only [rdI_e, rdI_n, rdC_i, rdC_o, rdW, rdR, rdU_e, rdU_n]
               exact a2
             · simp (disch := omega) only [rdI_e, rdI_n, rdC_i, rdC_o, rdW, rdR, rdU_e, rdU_n]
               exact a3
             · simp (disch := omega) only [rdI_e, rdI_n, rdC_i, rdC_o, rdW, rdR, rdU_e, rdU_n]
               exact a4
             · simp (disch := omega) only [rdI_e, rdI_n, rdC_i, rdC_o, rdW, rdR, rdU_e, rdU_n]
               rfl
             · simp (disch := omega) only [rdI_e, rdI_n, rdC_i, rdC_o, rdW, rdR, rdU_e, rdU_n]
               exact a6
             · simp (disch := omega) only [rdI_e, rdI_n, rdC_i, rdC_o, rdW, rdR, rdU_e, rdU_n]
               rw [a7]
             · simp (disch := omega) only [rdI_e, rdI_n, rdC_i, rdC_o, rdW, rdR, rdU_e, rdU_n]
               rw [a8 k c1 c2]
               show v (guA i + 5 + k) = v (guA i + 5 + k % 8)
               rw [show k % 8 = k by omega]
           · intro b k r
             simp (disch := omega) only [rdI_e, rdI_n, rdC_i, rdC_o, rdW, rdR, rdU_e, rdU_n])
    · omega
theorem trM_back {m : Ms} {a : Int} (h : a = 0 ∨ a = 2 ∨ a = 4 ∨ a = 6) : (trM m (8 - a)).1 = m.1 ∧ (trM m (8 - a)).2.2.1 = (m.2.2.1 - a + 8) % 8 := ⟨rfl, by show (m.2.2.1 + (8 - a)) % 8 = _; omega⟩
theorem doM_per {n : Int} {K X : Int → Int} {m : Ms} (h : perC m.2.2.2.2.2) : perC (doM n K X m).2.2.2.2.2 := by
  have st : ∀ (kind x : Int) (m : Ms), perC m.2.2.2.2.2 → perC (step1 kind x m).2.2.2.2.2 := fun kind x m h => by
    unfold step1
    split
    · exact h
    · split
      · exact h
      · split
        · intro k
          show upP _ _ _ (k % 8) = upP _ _ _ k
          unfold upP
          rw [show k % 8 % 8 = k % 8 by omega, h k]
        · split
          · exact h
          · split
            · exact h
            · split
              · exact h
              · split
                · exact h
                · split
                  · exact h
                  · split
                    · exact h
                    · split <;> exact h
  have rn : ∀ (t : Nat) (k : Int) (m : Ms), perC m.2.2.2.2.2 → perC (runM K X t k m).2.2.2.2.2 := by
    intro t
    induction t with
    | zero => intro k m h; exact h
    | succ t ih =>
      intro k m h
      rw [runM_s]
      split
      · exact st _ _ _ h
      · exact ih _ _ (st _ _ _ h)
  exact rn _ _ _ h
theorem perC_e {c : Int → Int} (h : perC c) {a b : Int} (e : a % 8 = b % 8) : c a = c b := by rw [← h a, ← h b, e]
/-- what is let through, at the guest's own place -/
theorem s_X3_letsThrough {o k : Int} (hd : 14 ≤ d) (h : StS (msh M) (mcr M) p) (hq : GuS (msh M) (mcr M) q) (ho : OpS (msh M) (mcr M) o) (hoq : o + 3 < q ∨ q + 2 < o) (hG : RelG (mci M) q (v 5) v 1) (hg : okGu v 1) (h5 : v 5 = 0 ∨ v 5 = 2 ∨ v 5 = 4 ∨ v 5 = 6) (hRO : RelO (mci M) o v k) (hop : okOp v k) : CS G d mX3_letsThrough [dR p, dR q, dR o] M (postI fun x M1 => ∃ g, M1 = wI M g ∧ x = vP ((letM v k (v 5) (guM v 1)).2.1 = 1) ∧ (g q 1 = v (guA 1) ∧ g q 2 = v 5 ∧ g (q + 1) 6 = (letM v k (v 5) (guM v 1)).2.2.2.2.1 ∧ g (q + 1) 1 = (letM v k (v 5) (guM v 1)).1 ∧ g (q + 1) 2 = v (guA 1 + 2) ∧ g (q + 1) 3 = (trM (letM v k (v 5) (guM v 1)) (8 - v 5)).2.2.1 ∧ g (q + 1) 4 = v (guA 1 + 4) ∧ ∀ j, 0 ≤ j → j < 8 → g (q + 2) ((j + v 5) % 8) = (trM (letM v k (v 5) (guM v 1)) (8 - v 5)).2.2.2.2.2 j) ∧ Fo q (q + 2) (mci M) g) := by
  have hqq := hq
  obtain ⟨p0, p1, -⟩ := h
  obtain ⟨q0, q1, q2, q3, q4, q5, q6⟩ := hq
  obtain ⟨a1, a2, a3, a4, a5, a6, a7, a8⟩ := hG
  have hG : RelG (mci M) q (v 5) v 1 := ⟨a1, a2, a3, a4, a5, a6, a7, a8⟩
  have hgm := hg.2
  have hg3 : 0 ≤ v (guA 1 + 3) ∧ v (guA 1 + 3) < 8 := hgm.2.2.1
  have hg2 : v (guA 1 + 2) = 0 ∨ v (guA 1 + 2) = 1 := hgm.2.1
  have hv0 := hG.view0
  have eb : ∀ x, mci (mI M (q + 1) 2 x) (q + 1) 3 = v (guA 1 + 3) := fun x => by simp (disch := omega) only [rdI_e, rdI_n, rdC_i, rdC_o, rdW, rdR, rdU_e, rdU_n]; exact a6
  have eq2 : ∀ x, mci (mI M (q + 1) 2 x) q 2 = v 5 := fun x => by simp (disch := omega) only [rdI_e, rdI_n, rdC_i, rdC_o, rdW, rdR, rdU_e, rdU_n]; exact a2
  have hf : Fo q (q + 2) (mci M) (up (up (up (mci M) (q + 1) 2 0) (q + 1) 3 ((v (guA 1 + 3) + v 5) % 8)) (q + 1) 5 0) := fun b k r => by simp (disch := omega) only [rdI_e, rdI_n, rdC_i, rdC_o, rdW, rdR, rdU_e, rdU_n]
  have hvw : mvw (up (up (up (mci M) (q + 1) 2 0) (q + 1) 3 ((v (guA 1 + 3) + v 5) % 8)) (q + 1) 5 0) (q + 1) 0 = ((guM v 1).1, 0, ((guM v 1).2.2.1 + v 5) % 8, (guM v 1).2.2.2.1, mci M (q + 1) 6, (trM (guM v 1) (v 5)).2.2.2.2.2) := by
    obtain ⟨b1, b2, b3, b4, b5, b6⟩ := mvw_1 hv0
    have e : (fun k => mci M (q + 1 + 1) ((k + 0) % 8)) = (trM (guM v 1) (v 5)).2.2.2.2.2 := funext b6
    unfold mvw
    simp (disch := omega) only [rdI_e, rdI_n, rdC_i, rdC_o, rdW, rdR, rdU_e, rdU_n]
    rw [b1, b4, e]
    rfl
  have hlm : doM (up (up (up (mci M) (q + 1) 2 0) (q + 1) 3 ((v (guA 1 + 3) + v 5) % 8)) (q + 1) 5 0 o 3) (up (up (up (mci M) (q + 1) 2 0) (q + 1) 3 ((v (guA 1 + 3) + v 5) % 8)) (q + 1) 5 0 (o + 1)) (up (up (up (mci M) (q + 1) 2 0) (q + 1) 3 ((v (guA 1 + 3) + v 5) % 8)) (q + 1) 5 0 (o + 2)) (mvw (up (up (up (mci M) (q + 1) 2 0) (q + 1) 3 ((v (guA 1 + 3) + v 5) % 8)) (q + 1) 5 0) (q + 1) 0) = letM v k (v 5) (guM v 1) := by
    rw [hf o 3 (by omega), show up (up (up (mci M) (q + 1) 2 0) (q + 1) 3 ((v (guA 1 + 3) + v 5) % 8)) (q + 1) 5 0 (o + 1) = mci M (o + 1) from funext fun i => hf _ _ (by omega), show up (up (up (mci M) (q + 1) 2 0) (q + 1) 3 ((v (guA 1 + 3) + v 5) % 8)) (q + 1) 5 0 (o + 2) = mci M (o + 2) from funext fun i => hf _ _ (by omega), hRO.d, hvw]
    rfl
  have hoM : okM (mvw (up (up (up (mci M) (q + 1) 2 0) (q + 1) 3 ((v (guA 1 + 3) + v 5) % 8)) (q + 1) 5 0) (q + 1) 0) := by
    rw [hvw]
    exact ⟨hgm.1, Or.inl rfl, by show 0 ≤ ((guM v 1).2.2.1 + v 5) % 8 ∧ ((guM v 1).2.2.1 + v 5) % 8 < 8; omega, hgm.2.2.2.1, a3, fun j => hgm.2.2.2.2.2 _⟩
  have hoO : OpOk (up (up (up (mci M) (q + 1) 2 0) (q + 1) 3 ((v (guA 1 + 3) + v 5) % 8)) (q + 1) 5 0) o := by
    have := hRO.ok hop
    unfold OpOk at this ⊢
    rw [hf o 3 (by omega), hf o 4 (by omega), hf o 5 (by omega), show up (up (up (mci M) (q + 1) 2 0) (q + 1) 3 ((v (guA 1 + 3) + v 5) % 8)) (q + 1) 5 0 (o + 1) = mci M (o + 1) from funext fun i => hf _ _ (by omega), show up (up (up (mci M) (q + 1) 2 0) (q + 1) 3 ((v (guA 1 + 3) + v 5) % 8)) (q + 1) 5 0 (o + 2) = mci M (o + 2) from funext fun i => hf _ _ (by omega)]
    exact this
  have hlo : okM (letM v k (v 5) (guM v 1)) := opD_ok hop (trM_ok (mdM_ok (Or.inl rfl) hgm))
  have hcl : (letM v k (v 5) (guM v 1)).2.2.2.1 = v (guA 1 + 4) := doM_clock
  have hper : perC (letM v k (v 5) (guM v 1)).2.2.2.2.2 := doM_per (fun j => by
    show v (guA 1 + 5 + (j % 8 - v 5) % 8) = v (guA 1 + 5 + (j - v 5) % 8)
    rw [show (j % 8 - v 5) % 8 = (j - v 5) % 8 by omega])
  refine CS.mk (by decide) (Nat.le_of_ble_eq_true rfl) ?_
  refine x_aload_n dX3_letsThrough_0 rfl rfl ?_
  refine g_getR (kI := 0) rfl dX3_letsThrough_1 fX3_145_4 (by assumption) (by assumption) ?_
  refine x_astore_n (L' := [some _, some _, some _, some _, none, none]) dX3_letsThrough_4 rfl (by decide) rfl ?_
  refine x_aload_n dX3_letsThrough_5 rfl rfl ?_
  refine g_getI (kI := 2) rfl dX3_letsThrough_6 fX3_171_5 (by assumption) ?_
  refine x_istore (L' := [some _, some _, some _, some _, some _, none]) dX3_letsThrough_9 (by decide) rfl ?_
  refine x_aload_n dX3_letsThrough_11 rfl rfl ?_
  refine x_iconst dX3_letsThrough_12 rfl ?_
  refine g_putI (kI := 2) rfl dX3_letsThrough_13 fX3_171_5 (by assumption) ?_
  refine x_aload_n dX3_letsThrough_16 rfl rfl ?_
  refine x_aload_n dX3_letsThrough_17 rfl rfl ?_
  refine g_getI (kI := 3) rfl dX3_letsThrough_18 fX3_174_5 (by assumption) ?_
  rw [eb]
  refine x_aload_n dX3_letsThrough_21 rfl rfl ?_
  refine g_getI (kI := 2) rfl dX3_letsThrough_22 fX3_177_4 (by assumption) ?_
  rw [eq2]
  first | refine x_iaddN dX3_letsThrough_25 (by unfold i32; omega) ?_ | refine x_iadd dX3_letsThrough_25 ?_
  refine x_bipush dX3_letsThrough_26 rfl ?_
  first | refine x_iremN dX3_letsThrough_28 (by omega) (by omega) ?_ | refine x_irem dX3_letsThrough_28 (by omega) ?_
  refine g_putI (kI := 3) rfl dX3_letsThrough_29 fX3_174_5 (by assumption) ?_
  refine x_aload_n dX3_letsThrough_32 rfl rfl ?_
  refine x_iconst dX3_letsThrough_33 rfl ?_
  refine g_putI (kI := 5) rfl dX3_letsThrough_34 fX3_159_5 (by assumption) ?_
  refine WP.mem (M1 := wI M (up (up (up (mci M) (q + 1) 2 0) (q + 1) 3 ((v (guA 1 + 3) + v 5) % 8)) (q + 1) 5 0)) rfl ?_
  refine x_aload_n dX3_letsThrough_37 rfl rfl ?_
  refine x_aload_n dX3_letsThrough_38 rfl rfl ?_
  refine g_callN (vs := [_, _]) (d' := d - 1) rfl (s_X5_does (s := 0) (by omega) ⟨q3, q4, q5, q6⟩ ho (by omega) (by rw [mci_wI]; simp (disch := omega) only [rdI_e, rdI_n, rdC_i, rdC_o, rdW, rdR, rdU_e, rdU_n]) (by omega) hoM hoO) dX3_letsThrough_39 kX3_162 (by omega) (by decide) rfl (Nat.le_of_ble_eq_true rfl) (rcv_o (by assumption) rfl) (fun M39 h39 => ?_)
  obtain ⟨g1, hM39, r1, r2, r3⟩ := h39
  subst hM39
  have r1' : mvw g1 (q + 1) 0 = letM v k (v 5) (guM v 1) := r1.trans hlm
  obtain ⟨b1, b2, b3, b4, b5, b6⟩ := mvw_1 r1'
  refine WP.mem (M1 := wI M g1) rfl ?_
  have gq1 : g1 q 1 = v (guA 1) := by
    rw [r3 _ _ (by omega), mci_wI]
    simp (disch := omega) only [rdI_e, rdI_n, rdC_i, rdC_o, rdW, rdR, rdU_e, rdU_n]
    exact a1
  have gq2 : g1 q 2 = v 5 := by
    rw [r3 _ _ (by omega), mci_wI]
    simp (disch := omega) only [rdI_e, rdI_n, rdC_i, rdC_o, rdW, rdR, rdU_e, rdU_n]
    exact a2
  have b3r := hlo.2.2.1
  rw [← b3] at b3r
  have eb' : ∀ x, mci (mI (wI M g1) (q + 1) 2 x) (q + 1) 3 = g1 (q + 1) 3 := fun x => by simp (disch := omega) only [rdI_e, rdI_n, rdC_i, rdC_o, rdW, rdR, rdU_e, rdU_n]
  have eq2' : ∀ x, mci (mI (wI M g1) (q + 1) 2 x) q 2 = v 5 := fun x => by simp (disch := omega) only [rdI_e, rdI_n, rdC_i, rdC_o, rdW, rdR, rdU_e, rdU_n]; exact gq2
  refine x_aload_n dX3_letsThrough_42 rfl rfl ?_
  refine g_getI (kI := 2) rfl dX3_letsThrough_43 fX3_171_5 (by assumption) ?_
  refine x_iconst dX3_letsThrough_46 rfl ?_
  refine x_icmp_ne (tgt := 54) dX3_letsThrough_47 (by decide) (fun h47 => ?_) (fun h47 => ?_)
  · refine x_iconst dX3_letsThrough_54 rfl ?_
    refine x_istore (L' := [some _, some _, some _, some _, some _, some _]) dX3_letsThrough_55 (by decide) rfl ?_
    refine x_aload_n dX3_letsThrough_57 rfl rfl ?_
    refine x_iload dX3_letsThrough_58 rfl ?_
    refine g_putI (kI := 2) rfl dX3_letsThrough_60 fX3_171_5 (by assumption) ?_
    refine x_aload_n dX3_letsThrough_63 rfl rfl ?_
    refine x_aload_n dX3_letsThrough_64 rfl rfl ?_
    refine g_getI (kI := 3) rfl dX3_letsThrough_65 fX3_174_5 (by assumption) ?_
    rw [eb']
    refine x_aload_n dX3_letsThrough_68 rfl rfl ?_
    refine g_getI (kI := 2) rfl dX3_letsThrough_69 fX3_177_4 (by assumption) ?_
    rw [eq2']
    first | refine x_isubN dX3_letsThrough_72 (by unfold i32; omega) ?_ | refine x_isub dX3_letsThrough_72 ?_
    refine x_bipush dX3_letsThrough_73 rfl ?_
    first | refine x_iaddN dX3_letsThrough_75 (by unfold i32; omega) ?_ | refine x_iadd dX3_letsThrough_75 ?_
    refine x_bipush dX3_letsThrough_76 rfl ?_
    first | refine x_iremN dX3_letsThrough_78 (by omega) (by omega) ?_ | refine x_irem dX3_letsThrough_78 (by omega) ?_
    refine g_putI (kI := 3) rfl dX3_letsThrough_79 fX3_174_5 (by assumption) ?_
    refine x_iload dX3_letsThrough_82 rfl ?_
    refine x_zreturn (by first | exact Or.inl rfl | exact Or.inr rfl) rfl dX3_letsThrough_84 ?_
    refine ⟨_, rfl, exI rfl ⟨?_, ⟨?_, ?_, ?_, ?_, ?_, ?_, ?_, fun j c1 c2 => ?_⟩, ?_⟩⟩
    · rw [← b2]
      first | exact (vP_t h47).symm | exact (vP_f h47).symm
    · simp (disch := omega) only [rdI_e, rdI_n, rdC_i, rdC_o, rdW, rdR, rdU_e, rdU_n]
      exact gq1
    · simp (disch := omega) only [rdI_e, rdI_n, rdC_i, rdC_o, rdW, rdR, rdU_e, rdU_n]
      exact gq2
    · simp (disch := omega) only [rdI_e, rdI_n, rdC_i, rdC_o, rdW, rdR, rdU_e, rdU_n]
      exact b5
    · simp (disch := omega) only [rdI_e, rdI_n, rdC_i, rdC_o, rdW, rdR, rdU_e, rdU_n]
      exact b1
    · simp (disch := omega) only [rdI_e, rdI_n, rdC_i, rdC_o, rdW, rdR, rdU_e, rdU_n]
      exact a5
    · simp (disch := omega) only [rdI_e, rdI_n, rdC_i, rdC_o, rdW, rdR, rdU_e, rdU_n]
      rw [(trM_back h5).2, b3]
    · simp (disch := omega) only [rdI_e, rdI_n, rdC_i, rdC_o, rdW, rdR, rdU_e, rdU_n]
      rw [b4, hcl]
    · simp (disch := omega) only [rdI_e, rdI_n, rdC_i, rdC_o, rdW, rdR, rdU_e, rdU_n]
      have := b6 (j + v 5)
      rw [show q + 1 + 1 = q + 2 by omega, show (j + v 5 + 0) % 8 = (j + v 5) % 8 by omega] at this
      rw [this]
      exact perC_e hper (by omega)
    · intro b k r
      have h1 := r3 b k (by omega)
      have h2 := hf b k r
      simp (disch := omega) only [rdI_e, rdI_n, rdC_i, rdC_o, rdW, rdR, rdU_e, rdU_n]
      rw [h1]
      exact h2
  · refine x_iconst dX3_letsThrough_50 rfl ?_
    refine x_goto (tgt := 55) dX3_letsThrough_51 (by decide) ?_
    refine x_istore (L' := [some _, some _, some _, some _, some _, some _]) dX3_letsThrough_55 (by decide) rfl ?_
    refine x_aload_n dX3_letsThrough_57 rfl rfl ?_
    refine x_iload dX3_letsThrough_58 rfl ?_
    refine g_putI (kI := 2) rfl dX3_letsThrough_60 fX3_171_5 (by assumption) ?_
    refine x_aload_n dX3_letsThrough_63 rfl rfl ?_
    refine x_aload_n dX3_letsThrough_64 rfl rfl ?_
    refine g_getI (kI := 3) rfl dX3_letsThrough_65 fX3_174_5 (by assumption) ?_
    rw [eb']
    refine x_aload_n dX3_letsThrough_68 rfl rfl ?_
    refine g_getI (kI := 2) rfl dX3_letsThrough_69 fX3_177_4 (by assumption) ?_
    rw [eq2']
    first | refine x_isubN dX3_letsThrough_72 (by unfold i32; omega) ?_ | refine x_isub dX3_letsThrough_72 ?_
    refine x_bipush dX3_letsThrough_73 rfl ?_
    first | refine x_iaddN dX3_letsThrough_75 (by unfold i32; omega) ?_ | refine x_iadd dX3_letsThrough_75 ?_
    refine x_bipush dX3_letsThrough_76 rfl ?_
    first | refine x_iremN dX3_letsThrough_78 (by omega) (by omega) ?_ | refine x_irem dX3_letsThrough_78 (by omega) ?_
    refine g_putI (kI := 3) rfl dX3_letsThrough_79 fX3_174_5 (by assumption) ?_
    refine x_iload dX3_letsThrough_82 rfl ?_
    refine x_zreturn (by first | exact Or.inl rfl | exact Or.inr rfl) rfl dX3_letsThrough_84 ?_
    refine ⟨_, rfl, exI rfl ⟨?_, ⟨?_, ?_, ?_, ?_, ?_, ?_, ?_, fun j c1 c2 => ?_⟩, ?_⟩⟩
    · rw [← b2]
      first | exact (vP_t h47).symm | exact (vP_f h47).symm
    · simp (disch := omega) only [rdI_e, rdI_n, rdC_i, rdC_o, rdW, rdR, rdU_e, rdU_n]
      exact gq1
    · simp (disch := omega) only [rdI_e, rdI_n, rdC_i, rdC_o, rdW, rdR, rdU_e, rdU_n]
      exact gq2
    · simp (disch := omega) only [rdI_e, rdI_n, rdC_i, rdC_o, rdW, rdR, rdU_e, rdU_n]
      exact b5
    · simp (disch := omega) only [rdI_e, rdI_n, rdC_i, rdC_o, rdW, rdR, rdU_e, rdU_n]
      exact b1
    · simp (disch := omega) only [rdI_e, rdI_n, rdC_i, rdC_o, rdW, rdR, rdU_e, rdU_n]
      exact a5
    · simp (disch := omega) only [rdI_e, rdI_n, rdC_i, rdC_o, rdW, rdR, rdU_e, rdU_n]
      rw [(trM_back h5).2, b3]
    · simp (disch := omega) only [rdI_e, rdI_n, rdC_i, rdC_o, rdW, rdR, rdU_e, rdU_n]
      rw [b4, hcl]
    · simp (disch := omega) only [rdI_e, rdI_n, rdC_i, rdC_o, rdW, rdR, rdU_e, rdU_n]
      have := b6 (j + v 5)
      rw [show q + 1 + 1 = q + 2 by omega, show (j + v 5 + 0) % 8 = (j + v 5) % 8 by omega] at this
      rw [this]
      exact perC_e hper (by omega)
    · intro b k r
      have h1 := r3 b k (by omega)
      have h2 := hf b k r
      simp (disch := omega) only [rdI_e, rdI_n, rdC_i, rdC_o, rdW, rdR, rdU_e, rdU_n]
      rw [h1]
      exact h2
end X3

