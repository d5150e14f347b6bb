/-! GuestView$State: steps of the hosted guest -/
/-- benches that differ in guests, log, tick, purse, seed alone -/
def eqM (v v' : Vw) : Prop := ∀ k, 0 ≤ k → ¬ (8 ≤ k ∧ k < 12) → ¬ (102 ≤ k ∧ k < 368) → v' k = v k
theorem eqB.m {v v' : Vw} (h : eqB v v') : eqM v v' := fun k a b c => h k (by omega)
theorem eqM_tell {v : Vw} {op what pc : Int} : eqM v (tellV v op what pc) := fun k a b c => tellV_o (by omega) (by omega)
theorem eqM.trans {v v' v'' : Vw} (h : eqM v v') (h' : eqM v' v'') : eqM v v'' := fun k a b c => (h' k a b c).trans (h k a b c)
theorem opD_eq {v v' : Vw} {p : Int} (h : okOp v p) (he : eqM v v') (hp : 0 ≤ p ∧ p < 8) : opD v' p = opD v p := funext fun m => by
  have h3 := h.1
  unfold opD
  rw [show opN v' p = opN v p from he _ (by omega) (by omega) (by omega)]
  exact doM_congr m fun i a b => ⟨he _ (by omega) (by omega) (by omega), he _ (by omega) (by omega) (by omega)⟩
theorem witV_eq {v v' : Vw} {p w : Int} (h : okOp v p) (he : eqM v v') (hp : 0 ≤ p ∧ p < 8) : witV v' p w = witV v p w := by
  have e1 := opD_eq h he hp
  have e2 : opG v' p = opG v p := he _ (by omega) (by omega) (by omega)
  unfold witV
  have e3 : isSo v' p w = isSo v p w := funext fun s => by
    unfold isSo isCtl isMdl isLoc isTim trapsV
    rw [e1, e2]
  rw [e3]
theorem runC_eq {v v' : Vw} {fc : Int → Int} (he : eqM v v') : ∀ (t : Nat) (i : Int) (st : List Int), 0 ≤ i → runC v' fc t i st = runC v fc t i st := by
  intro t
  induction t with
  | zero => intro i st _; rfl
  | succ t ih =>
    intro i st hi
    unfold runC
    rw [he (417 + 2 * i) (by omega) (by omega) (by omega), he (418 + 2 * i) (by omega) (by omega) (by omega)]
    exact ih _ _ (by omega)
theorem holdV_eq {v v' : Vw} {fc : Int → Int} {n : Int} (he : eqM v v') (hn : 0 ≤ n) (hi : 0 ≤ v (371 + 4 * n)) : holdV v' fc n ↔ holdV v fc n := by
  unfold holdV
  rw [he (372 + 4 * n) (by omega) (by omega) (by omega), he (371 + 4 * n) (by omega) (by omega) (by omega), runC_eq he _ _ _ hi]
theorem LawR.eqM {sh : Sh} {ci : Ci} {cr : Cr} {B T p : Int} {v v' : Vw} (h : LawR sh ci cr B T p v) (he : eqM v v') : LawR sh ci cr B T p v' := by
  unfold LawR
  rw [he 2 (by omega) (by omega) (by omega), he 368 (by omega) (by omega) (by omega)]
  rcases h with h | ⟨a, b, e, f⟩
  · exact Or.inl h
  · refine Or.inr ⟨a, b, e, fun n n0 n1 => ?_⟩
    obtain ⟨l, l1, l2, l3, l4, l5, l6⟩ := f n n0 n1
    rw [he (369 + 4 * n) (by omega) (by omega) (by omega)]
    refine ⟨l, l1, l2, l3, l4, ?_, ?_⟩
    · rw [he (370 + 4 * n) (by omega) (by omega) (by omega), he (371 + 4 * n) (by omega) (by omega) (by omega)]; exact l5
    · rcases l6 with ⟨a1, a2⟩ | ⟨c, P, a1, a2, a3⟩
      · exact Or.inl ⟨a1, fun fc => (holdV_eq he n0 l5.2.2.2).mpr (a2 fc)⟩
      · exact Or.inr ⟨c, P, a1, a2, fun fc hf => (a3 fc hf).trans (holdV_eq he n0 l5.2.2.2).symm⟩
theorem usesV_eq {v v' : Vw} {p : Int} (hv : okB v) (he : eqM v v') : usesV v' p = usesV v p := by
  have h3 := hv.2.2.2.1
  unfold usesV
  rw [he 3 (by omega) (by omega) (by omega)]
  have : ∀ t : Nat, t ≤ 10 → usesR v' p t = usesR v p t := by
    intro t
    induction t with
    | zero => intro _; rfl
    | succ t ih =>
      intro ht
      unfold usesR
      rw [ih (by omega), he (12 + t) (by omega) (by omega) (by omega)]
  exact this _ (by omega)
theorem factV_eq {v v' : Vw} {p : Int} (hv : okB v) (hp : 0 ≤ p ∧ p < v 0) (he : eqM v v') : factV v' p = factV v p := by
  have h8 := hv.n8
  have ho := hv.op p hp.1 hp.2
  have ew : ∀ w, witV v' p w = witV v p w := fun w => witV_eq ho he (by omega)
  have et : ∀ w, trtV v' p w = trtV v p w := fun w => by unfold trtV; rw [ew]
  have es : sensV v' p = sensV v p := by unfold sensV; rw [et, et, et]
  have eN : opN v' p = opN v p := he _ (by omega) (by omega) (by omega)
  have eG : opG v' p = opG v p := he _ (by omega) (by omega) (by omega)
  have eP : opP v' p = opP v p := he _ (by omega) (by omega) (by omega)
  unfold factV
  rw [et, et, et, et, es, eN, eG, eP, usesV_eq hv he]
theorem sumV_eq {sh : Sh} {ci : Ci} {cr : Cr} {B T q : Int} {v v' : Vw} {w p : Int} (hv : okB v) (hp : 0 ≤ p ∧ p < v 0) (he : eqM v v') (hL : LawR sh ci cr B T q v) : sumV v' w p = sumV v w p := by
  unfold sumV
  rw [he 2 (by omega) (by omega) (by omega), he 368 (by omega) (by omega) (by omega), factV_eq hv hp he]
  rcases hL with ⟨a, -⟩ | ⟨a, b, e, f⟩
  · rw [if_neg (by omega), if_neg (by omega)]
  · rw [if_pos a, if_pos a]
    have : ∀ t : Nat, (t : Int) ≤ v 368 → sumR v' (factV v p) w t = sumR v (factV v p) w t := by
      intro t
      induction t with
      | zero => intro _; rfl
      | succ t ih =>
        intro ht
        obtain ⟨l, l1, l2, l3, l4, l5, l6⟩ := f t (by omega) (by omega)
        unfold sumR
        rw [ih (by omega), he (369 + 4 * t) (by omega) (by omega) (by omega), he (370 + 4 * t) (by omega) (by omega) (by omega)]
        have := propext (@holdV_eq v v' (factV v p) t he (by omega) l5.2.2.2)
        rw [this]
    exact this _ (by omega)
theorem emuV_eq {sh : Sh} {ci : Ci} {cr : Cr} {B T q : Int} {v v' : Vw} {p : Int} (hv : okB v) (hp : 0 ≤ p ∧ p < v 0) (he : eqM v v') (hL : LawR sh ci cr B T q v) : emuV v' p = emuV v p := by
  unfold emuV
  rw [sumV_eq hv hp he hL, he 6 (by omega) (by omega) (by omega)]
theorem worV_eq {sh : Sh} {ci : Ci} {cr : Cr} {B T q : Int} {v v' : Vw} {p : Int} (hv : okB v) (hp : 0 ≤ p ∧ p < v 0) (he : eqM v v') (hL : LawR sh ci cr B T q v) : worV v' p = worV v p := by
  unfold worV
  rw [sumV_eq hv hp he hL]
theorem RelW.eqM {f : Ci} {p : Int} {v v' : Vw} (h : RelW f p v) (hv : okB v) (he : eqM v v') : RelW f p v' := fun k w a b c e => by
  have h8 := hv.n8
  rw [he 0 (by omega) (by omega) (by omega)] at b
  rw [witV_eq (hv.op k a b) he (by omega)]
  exact h k w a b c e
/-- the state at p is a bench, but for its guests -/
def RelS (sh : Sh) (f : Ci) (cr : Cr) (B T p : Int) (v : Vw) (N : Int) : Prop := RelB f p v N ∧ RelW f p v ∧ LawR sh f cr B T p v
theorem RelS.fr {sh : Sh} {f g : Ci} {cr : Cr} {B T p N : Int} {v : Vw} (h : RelS sh f cr B T p v N) (hv : okB v) (hg : ∀ b k, b ≠ p + 3 → ¬ (p + 7 ≤ b ∧ b ≤ p + 12) → (p ≤ b ∧ b ≤ p + 44 ∨ B ≤ b) → g b k = f b k) (hB : p + 44 < B) : RelS sh g cr B T p v N := by
  obtain ⟨h1, h2, h3⟩ := h
  have h8 := hv.n8
  refine ⟨h1.at (fun b k a c e => hg b k c e (Or.inl a)) h8, fun k w a b c e => ?_, h3.same (fun a a1 a2 => ⟨rfl, fun k => hg a k (by omega) (by omega) (Or.inr a1), fun k => rfl⟩) (Int.le_refl T) (hg _ _ (by omega) (by omega) (Or.inl (by omega))) fun n => rfl⟩
  rw [hg _ _ (by omega) (by omega) (Or.inl (by omega))]
  exact h2 k w a b c e
section XH
variable {G : GW} {d : Nat} {M : Mem} {B T p q N : Int} {v : Vw}
theorem s_X3_stepsHosted (hd : 41 ≤ d) (h : StS (msh M) (mcr M) p) (hq : GuS (msh M) (mcr M) q) (hp : GP p q) (hR : RelS (msh M) (mci M) (mcr M) B T p v N) (hv : okB v) (hG : RelG (mci M) q (v 5) v 1) (hg : okGu v 1) (hB : p + 44 < B ∧ q + 2 < B) : CS G d mX3_stepsHosted [dR p, dR q] M (postI fun x M1 => ∃ g, M1 = wI M g ∧ x = hostH v ∧ RelG g q (v 5) (hostV v) 1 ∧ ∀ b k, b ≠ p + 3 → ¬ (q ≤ b ∧ b ≤ q + 2) → g b k = mci M b k) := by
  have hh := h
  have hqq := hq
  have hRR := hR
  obtain ⟨hB1, hW1, hL1⟩ := hR
  obtain ⟨p0, p1, ⟨c0, c1, c2, c3, c4, c5, c6, c7⟩, ⟨t1, t2, t3, t4, t5, t6⟩, p5, p6, p7⟩ := h
  obtain ⟨q0, q1, q2, q3, q4, q5, q6⟩ := hq
  have e3 := hB1.2.1
  have e4 := hB1.2.2.2.1
  have hv8 := hv.n8
  have hg0 := hg.1
  have hv5 := hv.2.2.2.2.2.1
  have hpq := hp
  unfold GP at hpq
  by_cases hh3 : v 3 ≤ v (guA 1)
  · refine CS.mk (by decide) (Nat.le_of_ble_eq_true rfl) ?_
    refine x_aload_n dX3_stepsHosted_0 rfl rfl ?_
    refine x_aload_n dX3_stepsHosted_1 rfl rfl ?_
    refine g_callI (vs := [_, _]) (d' := d - 1) rfl (s_X3_opAt (by omega) hh hqq hB1 hv hG (by omega)) dX3_stepsHosted_2 kX3_141 (by omega) (by decide) rfl (Nat.le_of_ble_eq_true rfl) (rcv_o (by assumption) rfl) (fun x2 M2 h2 => ?_)
    obtain ⟨e2, f2⟩ := h2
    have f2' := f2.symm
    subst f2'
    rw [if_neg (by omega)] at e2
    subst e2
    refine x_istore_n (L' := [some _, some _, some _, none, none]) dX3_stepsHosted_5 rfl (by decide) rfl ?_
    refine x_iload_n dX3_stepsHosted_6 rfl rfl ?_
    refine x_iconst dX3_stepsHosted_7 rfl ?_
    refine x_icmp_ne (tgt := 14) dX3_stepsHosted_8 (by decide) (fun h8 => ?_) (fun h8 => ?_)
    · exact absurd rfl h8
    · refine x_bipush dX3_stepsHosted_11 rfl ?_
      refine x_ireturn rfl dX3_stepsHosted_13 ?_
      refine ⟨_, rfl, mci _, rfl, ?_, ?_, fun b k _ _ => rfl⟩
      · unfold hostH
        rw [if_pos hh3]
      · unfold hostV
        rw [if_pos hh3]
        exact hG
  · have ho := hv.pr (v (guA 1)) (by omega) (by omega)
    have ho' : 0 ≤ opAtV v 1 ∧ opAtV v 1 < v 0 := ho
    have hop := hv.op _ ho'.1 ho'.2
    have hRO := hB1.2.2.2.2.2.2.2.2.2.2.2.2.2.1 _ ho'.1 ho'.2
    have hOS := p7 (opAtV v 1) (by omega) (by omega)
    have hOO := hOS.2.1
    have hO6 := hOS.2.2.1
    have e3g : v (guA 1) < v 3 := by omega
    obtain ⟨a1, a2, a3, a4, a5, a6, a7, a8⟩ := hG
    have hG : RelG (mci M) q (v 5) v 1 := ⟨a1, a2, a3, a4, a5, a6, a7, a8⟩
    have hg4 : 0 ≤ v (guA 1 + 4) ∧ v (guA 1 + 4) < 8 := hg.2.2.2.2.1
    have oG := hRO.2.1
    have oP := hRO.2.2.1
    have kG := hop.2.1
    have kP := hop.2.2.1
    by_cases hT : opG v (opAtV v 1) = 1 ∧ v (guA 1 + 2) = 0
    · have hR1 : RelS (msh M) (up (up (mci M) (q + 1) 2 1) q 1 (mci M p 12)) (mcr M) B T p v N := hRR.fr hv (fun b k x1 x2 x3 => by simp (disch := omega) only [rdI_e, rdI_n, rdC_i, rdC_o, rdW, rdR, rdU_e, rdU_n]) hB.1
      refine CS.mk (by decide) (Nat.le_of_ble_eq_true rfl) ?_
      refine x_aload_n dX3_stepsHosted_0 rfl rfl ?_
      refine x_aload_n dX3_stepsHosted_1 rfl rfl ?_
      refine g_callI (vs := [_, _]) (d' := d - 1) rfl (s_X3_opAt (by omega) hh hqq hB1 hv hG (by omega)) dX3_stepsHosted_2 kX3_141 (by omega) (by decide) rfl (Nat.le_of_ble_eq_true rfl) (rcv_o (by assumption) rfl) (fun x2 M2 h2 => ?_)
      obtain ⟨e2, f2⟩ := h2
      have f2' := f2.symm
      subst f2'
      rw [if_pos e3g] at e2
      subst e2
      refine x_istore_n (L' := [some _, some _, some _, none, none]) dX3_stepsHosted_5 rfl (by decide) rfl ?_
      refine x_iload_n dX3_stepsHosted_6 rfl rfl ?_
      refine x_iconst dX3_stepsHosted_7 rfl ?_
      refine x_icmp_ne (tgt := 14) dX3_stepsHosted_8 (by decide) (fun h8 => ?_) (fun h8 => ?_)
      · refine x_aload_n dX3_stepsHosted_14 rfl rfl ?_
        refine g_getR (kI := 0) rfl dX3_stepsHosted_15 fX3_11_3 (by assumption) (by assumption) ?_
        refine x_iload_n dX3_stepsHosted_18 rfl rfl ?_
        refine x_aald (t := 126) rfl (by decide) dX3_stepsHosted_19 (by assumption) (by omega) (by omega) (by exact hOS.1) ?_
        refine x_astore_n (L' := [some _, some _, some _, some _, none]) dX3_stepsHosted_20 rfl (by decide) rfl ?_
        refine x_aload_n dX3_stepsHosted_21 rfl rfl ?_
        refine g_getZ (kI := 4) rfl dX3_stepsHosted_22 fX3_111_6 (by assumption) ?_
        rw [oG]
        refine x_if_eq (tgt := 59) dX3_stepsHosted_25 (by decide) (fun h25 => ?_) (fun h25 => ?_)
        · omega
        · refine x_aload_n dX3_stepsHosted_28 rfl rfl ?_
          refine g_getR (kI := 0) rfl dX3_stepsHosted_29 fX3_145_4 (by assumption) (by assumption) ?_
          refine g_getI (kI := 2) rfl dX3_stepsHosted_32 fX3_171_5 (by assumption) ?_
          rw [a5]
          refine x_if_ne (tgt := 59) dX3_stepsHosted_35 (by decide) (fun h35 => ?_) (fun h35 => ?_)
          · omega
          · refine x_aload_n dX3_stepsHosted_38 rfl rfl ?_
            refine x_aload_n dX3_stepsHosted_39 rfl rfl ?_
            refine g_getI (kI := 12) rfl dX3_stepsHosted_40 fX3_82_3 (by assumption) ?_
            refine g_callN (vs := [_, _]) (d' := d - 1) rfl (s_X4_jumps (by omega) hqq) dX3_stepsHosted_43 kX3_155 (by omega) (by decide) rfl (Nat.le_of_ble_eq_true rfl) (rcv_o (by assumption) rfl) (fun M43 h43 => ?_)
            subst h43
            refine x_aload_n dX3_stepsHosted_46 rfl rfl ?_
            refine x_iconst dX3_stepsHosted_47 rfl ?_
            refine x_aload_n dX3_stepsHosted_48 rfl rfl ?_
            refine x_iload_n dX3_stepsHosted_49 rfl rfl ?_
            refine g_callI (vs := [_, _]) (d' := d - 1) rfl (s_X3_emulation (M := wI M (up (up (mci M) (q + 1) 2 1) q 1 (mci M p 12))) (by omega) hh hR1.1 hv hR1.2.1 hR1.2.2 (by omega) ho') dX3_stepsHosted_50 kX3_178 (by omega) (by decide) rfl (Nat.le_of_ble_eq_true rfl) (rcv_o (by assumption) rfl) (fun x50 M50 h50 => ?_)
            obtain ⟨g1, hM50, hx, hf⟩ := h50
            subst hM50
            have hc1 : g1 (q + 1) 4 = v (guA 1 + 4) := by
              rw [hf _ _ (by omega), mci_wI]
              simp (disch := omega) only [rdI_e, rdI_n, rdC_i, rdC_o, rdW, rdR, rdU_e, rdU_n]
              exact a7
            first | refine x_iaddN dX3_stepsHosted_53 (by unfold i32; omega) ?_ | refine x_iadd dX3_stepsHosted_53 ?_
            refine g_callN (vs := [_, _]) (d' := d - 1) rfl (s_X4_ages (by omega) hqq (by rw [mci_wI, hc1]; exact hg4) (by omega)) dX3_stepsHosted_54 kX3_168 (by omega) (by decide) rfl (Nat.le_of_ble_eq_true rfl) (rcv_o (by assumption) rfl) (fun M54 h54 => ?_)
            subst h54
            refine x_iconst dX3_stepsHosted_57 rfl ?_
            refine x_ireturn rfl dX3_stepsHosted_58 ?_
            have hm : ∀ b k, b ≠ p + 3 → g1 b k = up (up (mci M) (q + 1) 2 1) q 1 (mci M p 12) b k := fun b k e => hf b k (by omega)
            refine ⟨_, rfl, exI rfl ⟨?_, ?_, ?_⟩⟩
            · unfold hostH
              rw [if_neg hh3, if_pos hT]
            · unfold hostV
              rw [if_neg hh3, if_pos hT]
              refine RelG.set ?_ ?_ ?_ ?_ ?_ ?_ ?_ fun k k1 k2 => ?_
              · simp (disch := omega) only [rdI_e, rdI_n, rdC_i, rdC_o, rdW, rdR, rdU_e, rdU_n]
                rw [hm _ _ (by omega)]; simp (disch := omega) only [rdI_e, rdI_n, rdC_i, rdC_o, rdW, rdR, rdU_e, rdU_n]; exact e4
              · simp (disch := omega) only [rdI_e, rdI_n, rdC_i, rdC_o, rdW, rdR, rdU_e, rdU_n]
                rw [hm _ _ (by omega)]; simp (disch := omega) only [rdI_e, rdI_n, rdC_i, rdC_o, rdW, rdR, rdU_e, rdU_n]; exact a2
              · simp (disch := omega) only [rdI_e, rdI_n, rdC_i, rdC_o, rdW, rdR, rdU_e, rdU_n]
                rw [hm _ _ (by omega)]; simp (disch := omega) only [rdI_e, rdI_n, rdC_i, rdC_o, rdW, rdR, rdU_e, rdU_n]; exact a3
              · simp (disch := omega) only [rdI_e, rdI_n, rdC_i, rdC_o, rdW, rdR, rdU_e, rdU_n]
                rw [hm _ _ (by omega)]; simp (disch := omega) only [rdI_e, rdI_n, rdC_i, rdC_o, rdW, rdR, rdU_e, rdU_n]; exact a4
              · simp (disch := omega) only [rdI_e, rdI_n, rdC_i, rdC_o, rdW, rdR, rdU_e, rdU_n]
                rw [hm _ _ (by omega)]; simp (disch := omega) only [rdI_e, rdI_n, rdC_i, rdC_o, rdW, rdR, rdU_e, rdU_n]; rfl
              · simp (disch := omega) only [rdI_e, rdI_n, rdC_i, rdC_o, rdW, rdR, rdU_e, rdU_n]
                rw [hm _ _ (by omega)]; simp (disch := omega) only [rdI_e, rdI_n, rdC_i, rdC_o, rdW, rdR, rdU_e, rdU_n]; exact a6
              · simp (disch := omega) only [rdI_e, rdI_n, rdC_i, rdC_o, rdW, rdR, rdU_e, rdU_n]
                rw [hc1, hx.1]
              · simp (disch := omega) only [rdI_e, rdI_n, rdC_i, rdC_o, rdW, rdR, rdU_e, rdU_n]
                rw [hm _ _ (by omega)]; simp (disch := omega) only [rdI_e, rdI_n, rdC_i, rdC_o, rdW, rdR, rdU_e, rdU_n]
                rw [a8 k k1 k2]
                show v (guA 1 + 5 + k) = v (guA 1 + 5 + k % 8)
                rw [show k % 8 = k by omega]
            · intro b k r1 r2
              have := hm b k r1
              simp (disch := omega) only [rdI_e, rdI_n, rdC_i, rdC_o, rdW, rdR, rdU_e, rdU_n]
              rw [this]
              simp (disch := omega) only [rdI_e, rdI_n, rdC_i, rdC_o, rdW, rdR, rdU_e, rdU_n]
      · omega
    · by_cases hE : opG v (opAtV v 1) = 1 ∨ opP v (opAtV v 1) = 1
      · have hG5 : RelG (up (mci M) (q + 1) 5 (v 5)) q (v 5) v 1 := hG.i5
        have hu5 : v 5 = up (mci M) (q + 1) 5 (v 5) (q + 1) 5 := by simp (disch := omega) only [rdI_e, rdI_n, rdC_i, rdC_o, rdW, rdR, rdU_e, rdU_n]
        have hR5 : RelS (msh M) (up (mci M) (q + 1) 5 (v 5)) (mcr M) B T p v N := hRR.fr hv (fun b k x1 x2 x3 => by simp (disch := omega) only [rdI_e, rdI_n, rdC_i, rdC_o, rdW, rdR, rdU_e, rdU_n]) hB.1
        have hRO5 := hR5.1.2.2.2.2.2.2.2.2.2.2.2.2.2.1 _ ho'.1 ho'.2
        by_cases hG1 : opG v (opAtV v 1) = 1
        · refine CS.mk (by decide) (Nat.le_of_ble_eq_true rfl) ?_
          refine x_aload_n dX3_stepsHosted_0 rfl rfl ?_
          refine x_aload_n dX3_stepsHosted_1 rfl rfl ?_
          refine g_callI (vs := [_, _]) (d' := d - 1) rfl (s_X3_opAt (by omega) hh hqq hB1 hv hG (by omega)) dX3_stepsHosted_2 kX3_141 (by omega) (by decide) rfl (Nat.le_of_ble_eq_true rfl) (rcv_o (by assumption) rfl) (fun x2 M2 h2 => ?_)
          obtain ⟨e2, f2⟩ := h2
          have f2' := f2.symm
          subst f2'
          rw [if_pos e3g] at e2
          subst e2
          refine x_istore_n (L' := [some _, some _, some _, none, none]) dX3_stepsHosted_5 rfl (by decide) rfl ?_
          refine x_iload_n dX3_stepsHosted_6 rfl rfl ?_
          refine x_iconst dX3_stepsHosted_7 rfl ?_
          refine x_icmp_ne (tgt := 14) dX3_stepsHosted_8 (by decide) (fun h8 => ?_) (fun h8 => ?_)
          · refine x_aload_n dX3_stepsHosted_14 rfl rfl ?_
            refine g_getR (kI := 0) rfl dX3_stepsHosted_15 fX3_11_3 (by assumption) (by assumption) ?_
            refine x_iload_n dX3_stepsHosted_18 rfl rfl ?_
            refine x_aald (t := 126) rfl (by decide) dX3_stepsHosted_19 (by assumption) (by omega) (by omega) (by exact hOS.1) ?_
            refine x_astore_n (L' := [some _, some _, some _, some _, none]) dX3_stepsHosted_20 rfl (by decide) rfl ?_
            refine x_aload_n dX3_stepsHosted_21 rfl rfl ?_
            refine g_getZ (kI := 4) rfl dX3_stepsHosted_22 fX3_111_6 (by assumption) ?_
            rw [oG]
            refine x_if_eq (tgt := 59) dX3_stepsHosted_25 (by decide) (fun h25 => ?_) (fun h25 => ?_)
            · omega
            · refine x_aload_n dX3_stepsHosted_28 rfl rfl ?_
              refine g_getR (kI := 0) rfl dX3_stepsHosted_29 fX3_145_4 (by assumption) (by assumption) ?_
              refine g_getI (kI := 2) rfl dX3_stepsHosted_32 fX3_171_5 (by assumption) ?_
              rw [a5]
              refine x_if_ne (tgt := 59) dX3_stepsHosted_35 (by decide) (fun h35 => ?_) (fun h35 => ?_)
              · refine x_aload_n dX3_stepsHosted_59 rfl rfl ?_
                refine g_getZ (kI := 4) rfl dX3_stepsHosted_60 fX3_111_6 (by assumption) ?_
                rw [oG]
                refine x_if_ne (tgt := 73) dX3_stepsHosted_63 (by decide) (fun h63 => ?_) (fun h63 => ?_)
                · refine x_aload_n dX3_stepsHosted_73 rfl rfl ?_
                  refine g_getR (kI := 0) rfl dX3_stepsHosted_74 fX3_145_4 (by assumption) (by assumption) ?_
                  refine x_aload_n dX3_stepsHosted_77 rfl rfl ?_
                  refine g_getI (kI := 2) rfl dX3_stepsHosted_78 fX3_177_4 (by assumption) ?_
                  rw [a2]
                  refine g_putI (kI := 5) rfl dX3_stepsHosted_81 fX3_159_5 (by assumption) ?_
                  refine WP.mem (M1 := wI M (up (mci M) (q + 1) 5 (v 5))) rfl ?_
                  refine x_aload_n dX3_stepsHosted_84 rfl rfl ?_
                  refine g_getR (kI := 0) rfl dX3_stepsHosted_85 fX3_145_4 (by assumption) (by assumption) ?_
                  refine x_aload_n dX3_stepsHosted_88 rfl rfl ?_
                  refine g_callN (vs := [_, _]) (d' := d - 1) rfl (s_X5_does (s := v 5) (by omega) ⟨q3, q4, q5, q6⟩ hOS.2 (by omega) hu5 (by omega) (hG5.okm hg) (hRO5.ok hop)) dX3_stepsHosted_89 kX3_162 (by omega) (by decide) rfl (Nat.le_of_ble_eq_true rfl) (rcv_o (by assumption) rfl) (fun M89 h89 => ?_)
                  obtain ⟨g1, hM89, r1, r2, r3⟩ := h89
                  subst hM89
                  have r1' : mvw g1 (q + 1) (v 5) = opD v (opAtV v 1) (guM v 1) := r1.trans ((hRO5.d _).trans hG5.opD)
                  obtain ⟨b1, b2, b3, b4, b5, b6⟩ := mvw_1 r1'
                  have hom := opD_ok (m := guM v 1) hop hg.2
                  have hgq : g1 q 1 = v (guA 1) := (r3 _ _ (by omega)).trans ((by simp (disch := omega) only [rdI_e, rdI_n, rdC_i, rdC_o, rdW, rdR, rdU_e, rdU_n] : up (mci M) (q + 1) 5 (v 5) q 1 = mci M q 1).trans a1)
                  have hgq2 : g1 q 2 = v 5 := (r3 _ _ (by omega)).trans ((by simp (disch := omega) only [rdI_e, rdI_n, rdC_i, rdC_o, rdW, rdR, rdU_e, rdU_n] : up (mci M) (q + 1) 5 (v 5) q 2 = mci M q 2).trans a2)
                  have hcl : (opD v (opAtV v 1) (guM v 1)).2.2.2.1 = v (guA 1 + 4) := doM_clock
                  rw [hcl] at b4
                  refine x_aload_n dX3_stepsHosted_92 rfl rfl ?_
                  refine g_callN (vs := [_]) (d' := d - 1) rfl (s_X4_goesOn (by omega) hqq (by rw [mci_wI, hgq]; exact hg0) (by rw [mci_wI, b5]; exact hom.2.2.2.2.1)) dX3_stepsHosted_93 kX3_165 (by omega) (by decide) rfl (Nat.le_of_ble_eq_true rfl) (rcv_o (by assumption) rfl) (fun M93 h93 => ?_)
                  subst h93
                  have hR6 : RelS (msh M) (up g1 q 1 (nextPc (g1 q 1) (g1 (q + 1) 6))) (mcr M) B T p v N := hR5.fr hv (fun b k x1 x2 x3 => by have h' := r3 b k (by omega); simp (disch := omega) only [rdI_e, rdI_n, rdC_i, rdC_o, rdW, rdR, rdU_e, rdU_n]; rw [h']; simp (disch := omega) only [rdI_e, rdI_n, rdC_i, rdC_o, rdW, rdR, rdU_e, rdU_n]) hB.1
                  refine x_aload_n dX3_stepsHosted_96 rfl rfl ?_
                  refine x_iconst dX3_stepsHosted_97 rfl ?_
                  refine x_aload_n dX3_stepsHosted_98 rfl rfl ?_
                  refine x_iload_n dX3_stepsHosted_99 rfl rfl ?_
                  refine g_callI (vs := [_, _]) (d' := d - 1) rfl (s_X3_emulation (M := wI M (up g1 q 1 (nextPc (g1 q 1) (g1 (q + 1) 6)))) (by omega) hh hR6.1 hv hR6.2.1 hR6.2.2 (by omega) ho') dX3_stepsHosted_100 kX3_178 (by omega) (by decide) rfl (Nat.le_of_ble_eq_true rfl) (rcv_o (by assumption) rfl) (fun x100 M100 h100 => ?_)
                  obtain ⟨g2, hM100, hx, hf⟩ := h100
                  subst hM100
                  have hc1 : g2 (q + 1) 4 = v (guA 1 + 4) := by
                    rw [hf _ _ (by omega), mci_wI]
                    simp (disch := omega) only [rdI_e, rdI_n, rdC_i, rdC_o, rdW, rdR, rdU_e, rdU_n]
                    exact b4
                  first | refine x_iaddN dX3_stepsHosted_103 (by unfold i32; omega) ?_ | refine x_iadd dX3_stepsHosted_103 ?_
                  refine g_callN (vs := [_, _]) (d' := d - 1) rfl (s_X4_ages (by omega) hqq (by rw [mci_wI, hc1]; exact hg4) (by omega)) dX3_stepsHosted_104 kX3_168 (by omega) (by decide) rfl (Nat.le_of_ble_eq_true rfl) (rcv_o (by assumption) rfl) (fun M104 h104 => ?_)
                  subst h104
                  refine x_iconst dX3_stepsHosted_107 rfl ?_
                  refine x_ireturn rfl dX3_stepsHosted_108 ?_
                  have hm : ∀ b k, b ≠ p + 3 → g2 b k = up g1 q 1 (nextPc (g1 q 1) (g1 (q + 1) 6)) b k := fun b k e => hf b k (by omega)
                  refine ⟨_, rfl, exI rfl ⟨?_, ?_, ?_⟩⟩
                  · unfold hostH
                    rw [if_neg hh3, if_neg hT, if_pos hE]
                  · unfold hostV
                    rw [if_neg hh3, if_neg hT, if_pos hE]
                    refine RelG.set ?_ ?_ ?_ ?_ ?_ ?_ ?_ fun k k1 k2 => ?_
                    · simp (disch := omega) only [rdI_e, rdI_n, rdC_i, rdC_o, rdW, rdR, rdU_e, rdU_n]
                      rw [hm _ _ (by omega)]; simp (disch := omega) only [rdI_e, rdI_n, rdC_i, rdC_o, rdW, rdR, rdU_e, rdU_n]; rw [hgq, b5]
                    · simp (disch := omega) only [rdI_e, rdI_n, rdC_i, rdC_o, rdW, rdR, rdU_e, rdU_n]
                      rw [hm _ _ (by omega)]; simp (disch := omega) only [rdI_e, rdI_n, rdC_i, rdC_o, rdW, rdR, rdU_e, rdU_n]; exact hgq2
                    · simp (disch := omega) only [rdI_e, rdI_n, rdC_i, rdC_o, rdW, rdR, rdU_e, rdU_n]
                      rw [hm _ _ (by omega)]; simp (disch := omega) only [rdI_e, rdI_n, rdC_i, rdC_o, rdW, rdR, rdU_e, rdU_n]; rw [b5]; exact hom.2.2.2.2.1
                    · simp (disch := omega) only [rdI_e, rdI_n, rdC_i, rdC_o, rdW, rdR, rdU_e, rdU_n]
                      rw [hm _ _ (by omega)]; simp (disch := omega) only [rdI_e, rdI_n, rdC_i, rdC_o, rdW, rdR, rdU_e, rdU_n]; exact b1
                    · simp (disch := omega) only [rdI_e, rdI_n, rdC_i, rdC_o, rdW, rdR, rdU_e, rdU_n]
                      rw [hm _ _ (by omega)]; simp (disch := omega) only [rdI_e, rdI_n, rdC_i, rdC_o, rdW, rdR, rdU_e, rdU_n]; exact b2
                    · simp (disch := omega) only [rdI_e, rdI_n, rdC_i, rdC_o, rdW, rdR, rdU_e, rdU_n]
                      rw [hm _ _ (by omega)]; simp (disch := omega) only [rdI_e, rdI_n, rdC_i, rdC_o, rdW, rdR, rdU_e, rdU_n]; exact b3
                    · simp (disch := omega) only [rdI_e, rdI_n, rdC_i, rdC_o, rdW, rdR, rdU_e, rdU_n]
                      rw [hc1, hx.1]
                    · simp (disch := omega) only [rdI_e, rdI_n, rdC_i, rdC_o, rdW, rdR, rdU_e, rdU_n]
                      rw [hm _ _ (by omega)]; simp (disch := omega) only [rdI_e, rdI_n, rdC_i, rdC_o, rdW, rdR, rdU_e, rdU_n]
                      rw [show q + 2 = q + 1 + 1 by omega]; exact b6 k
                  · intro b k r1 r2
                    have h1 := hm b k r1
                    have h2 := r3 b k (by omega)
                    simp (disch := omega) only [rdI_e, rdI_n, rdC_i, rdC_o, rdW, rdR, rdU_e, rdU_n]
                    rw [h1]
                    simp (disch := omega) only [rdI_e, rdI_n, rdC_i, rdC_o, rdW, rdR, rdU_e, rdU_n]
                    rw [h2]
                    simp (disch := omega) only [rdI_e, rdI_n, rdC_i, rdC_o, rdW, rdR, rdU_e, rdU_n]
                · omega
              · omega
          · omega
        · refine CS.mk (by decide) (Nat.le_of_ble_eq_true rfl) ?_
          refine x_aload_n dX3_stepsHosted_0 rfl rfl ?_
          refine x_aload_n dX3_stepsHosted_1 rfl rfl ?_
          refine g_callI (vs := [_, _]) (d' := d - 1) rfl (s_X3_opAt (by omega) hh hqq hB1 hv hG (by omega)) dX3_stepsHosted_2 kX3_141 (by omega) (by decide) rfl (Nat.le_of_ble_eq_true rfl) (rcv_o (by assumption) rfl) (fun x2 M2 h2 => ?_)
          obtain ⟨e2, f2⟩ := h2
          have f2' := f2.symm
          subst f2'
          rw [if_pos e3g] at e2
          subst e2
          refine x_istore_n (L' := [some _, some _, some _, none, none]) dX3_stepsHosted_5 rfl (by decide) rfl ?_
          refine x_iload_n dX3_stepsHosted_6 rfl rfl ?_
          refine x_iconst dX3_stepsHosted_7 rfl ?_
          refine x_icmp_ne (tgt := 14) dX3_stepsHosted_8 (by decide) (fun h8 => ?_) (fun h8 => ?_)
          · refine x_aload_n dX3_stepsHosted_14 rfl rfl ?_
            refine g_getR (kI := 0) rfl dX3_stepsHosted_15 fX3_11_3 (by assumption) (by assumption) ?_
            refine x_iload_n dX3_stepsHosted_18 rfl rfl ?_
            refine x_aald (t := 126) rfl (by decide) dX3_stepsHosted_19 (by assumption) (by omega) (by omega) (by exact hOS.1) ?_
            refine x_astore_n (L' := [some _, some _, some _, some _, none]) dX3_stepsHosted_20 rfl (by decide) rfl ?_
            refine x_aload_n dX3_stepsHosted_21 rfl rfl ?_
            refine g_getZ (kI := 4) rfl dX3_stepsHosted_22 fX3_111_6 (by assumption) ?_
            rw [oG]
            refine x_if_eq (tgt := 59) dX3_stepsHosted_25 (by decide) (fun h25 => ?_) (fun h25 => ?_)
            · refine x_aload_n dX3_stepsHosted_59 rfl rfl ?_
              refine g_getZ (kI := 4) rfl dX3_stepsHosted_60 fX3_111_6 (by assumption) ?_
              rw [oG]
              refine x_if_ne (tgt := 73) dX3_stepsHosted_63 (by decide) (fun h63 => ?_) (fun h63 => ?_)
              · omega
              · refine x_aload_n dX3_stepsHosted_66 rfl rfl ?_
                refine g_getZ (kI := 5) rfl dX3_stepsHosted_67 fX3_115_6 (by assumption) ?_
                rw [oP]
                refine x_if_eq (tgt := 109) dX3_stepsHosted_70 (by decide) (fun h70 => ?_) (fun h70 => ?_)
                · omega
                · refine x_aload_n dX3_stepsHosted_73 rfl rfl ?_
                  refine g_getR (kI := 0) rfl dX3_stepsHosted_74 fX3_145_4 (by assumption) (by assumption) ?_
                  refine x_aload_n dX3_stepsHosted_77 rfl rfl ?_
                  refine g_getI (kI := 2) rfl dX3_stepsHosted_78 fX3_177_4 (by assumption) ?_
                  rw [a2]
                  refine g_putI (kI := 5) rfl dX3_stepsHosted_81 fX3_159_5 (by assumption) ?_
                  refine WP.mem (M1 := wI M (up (mci M) (q + 1) 5 (v 5))) rfl ?_
                  refine x_aload_n dX3_stepsHosted_84 rfl rfl ?_
                  refine g_getR (kI := 0) rfl dX3_stepsHosted_85 fX3_145_4 (by assumption) (by assumption) ?_
                  refine x_aload_n dX3_stepsHosted_88 rfl rfl ?_
                  refine g_callN (vs := [_, _]) (d' := d - 1) rfl (s_X5_does (s := v 5) (by omega) ⟨q3, q4, q5, q6⟩ hOS.2 (by omega) hu5 (by omega) (hG5.okm hg) (hRO5.ok hop)) dX3_stepsHosted_89 kX3_162 (by omega) (by decide) rfl (Nat.le_of_ble_eq_true rfl) (rcv_o (by assumption) rfl) (fun M89 h89 => ?_)
                  obtain ⟨g1, hM89, r1, r2, r3⟩ := h89
                  subst hM89
                  have r1' : mvw g1 (q + 1) (v 5) = opD v (opAtV v 1) (guM v 1) := r1.trans ((hRO5.d _).trans hG5.opD)
                  obtain ⟨b1, b2, b3, b4, b5, b6⟩ := mvw_1 r1'
                  have hom := opD_ok (m := guM v 1) hop hg.2
                  have hgq : g1 q 1 = v (guA 1) := (r3 _ _ (by omega)).trans ((by simp (disch := omega) only [rdI_e, rdI_n, rdC_i, rdC_o, rdW, rdR, rdU_e, rdU_n] : up (mci M) (q + 1) 5 (v 5) q 1 = mci M q 1).trans a1)
                  have hgq2 : g1 q 2 = v 5 := (r3 _ _ (by omega)).trans ((by simp (disch := omega) only [rdI_e, rdI_n, rdC_i, rdC_o, rdW, rdR, rdU_e, rdU_n] : up (mci M) (q + 1) 5 (v 5) q 2 = mci M q 2).trans a2)
                  have hcl : (opD v (opAtV v 1) (guM v 1)).2.2.2.1 = v (guA 1 + 4) := doM_clock
                  rw [hcl] at b4
                  refine x_aload_n dX3_stepsHosted_92 rfl rfl ?_
                  refine g_callN (vs := [_]) (d' := d - 1) rfl (s_X4_goesOn (by omega) hqq (by rw [mci_wI, hgq]; exact hg0) (by rw [mci_wI, b5]; exact hom.2.2.2.2.1)) dX3_stepsHosted_93 kX3_165 (by omega) (by decide) rfl (Nat.le_of_ble_eq_true rfl) (rcv_o (by assumption) rfl) (fun M93 h93 => ?_)
                  subst h93
                  have hR6 : RelS (msh M) (up g1 q 1 (nextPc (g1 q 1) (g1 (q + 1) 6))) (mcr M) B T p v N := hR5.fr hv (fun b k x1 x2 x3 => by have h' := r3 b k (by omega); simp (disch := omega) only [rdI_e, rdI_n, rdC_i, rdC_o, rdW, rdR, rdU_e, rdU_n]; rw [h']; simp (disch := omega) only [rdI_e, rdI_n, rdC_i, rdC_o, rdW, rdR, rdU_e, rdU_n]) hB.1
                  refine x_aload_n dX3_stepsHosted_96 rfl rfl ?_
                  refine x_iconst dX3_stepsHosted_97 rfl ?_
                  refine x_aload_n dX3_stepsHosted_98 rfl rfl ?_
                  refine x_iload_n dX3_stepsHosted_99 rfl rfl ?_
                  refine g_callI (vs := [_, _]) (d' := d - 1) rfl (s_X3_emulation (M := wI M (up g1 q 1 (nextPc (g1 q 1) (g1 (q + 1) 6)))) (by omega) hh hR6.1 hv hR6.2.1 hR6.2.2 (by omega) ho') dX3_stepsHosted_100 kX3_178 (by omega) (by decide) rfl (Nat.le_of_ble_eq_true rfl) (rcv_o (by assumption) rfl) (fun x100 M100 h100 => ?_)
                  obtain ⟨g2, hM100, hx, hf⟩ := h100
                  subst hM100
                  have hc1 : g2 (q + 1) 4 = v (guA 1 + 4) := by
                    rw [hf _ _ (by omega), mci_wI]
                    simp (disch := omega) only [rdI_e, rdI_n, rdC_i, rdC_o, rdW, rdR, rdU_e, rdU_n]
                    exact b4
                  first | refine x_iaddN dX3_stepsHosted_103 (by unfold i32; omega) ?_ | refine x_iadd dX3_stepsHosted_103 ?_
                  refine g_callN (vs := [_, _]) (d' := d - 1) rfl (s_X4_ages (by omega) hqq (by rw [mci_wI, hc1]; exact hg4) (by omega)) dX3_stepsHosted_104 kX3_168 (by omega) (by decide) rfl (Nat.le_of_ble_eq_true rfl) (rcv_o (by assumption) rfl) (fun M104 h104 => ?_)
                  subst h104
                  refine x_iconst dX3_stepsHosted_107 rfl ?_
                  refine x_ireturn rfl dX3_stepsHosted_108 ?_
                  have hm : ∀ b k, b ≠ p + 3 → g2 b k = up g1 q 1 (nextPc (g1 q 1) (g1 (q + 1) 6)) b k := fun b k e => hf b k (by omega)
                  refine ⟨_, rfl, exI rfl ⟨?_, ?_, ?_⟩⟩
                  · unfold hostH
                    rw [if_neg hh3, if_neg hT, if_pos hE]
                  · unfold hostV
                    rw [if_neg hh3, if_neg hT, if_pos hE]
                    refine RelG.set ?_ ?_ ?_ ?_ ?_ ?_ ?_ fun k k1 k2 => ?_
                    · simp (disch := omega) only [rdI_e, rdI_n, rdC_i, rdC_o, rdW, rdR, rdU_e, rdU_n]
                      rw [hm _ _ (by omega)]; simp (disch := omega) only [rdI_e, rdI_n, rdC_i, rdC_o, rdW, rdR, rdU_e, rdU_n]; rw [hgq, b5]
                    · simp (disch := omega) only [rdI_e, rdI_n, rdC_i, rdC_o, rdW, rdR, rdU_e, rdU_n]
                      rw [hm _ _ (by omega)]; simp (disch := omega) only [rdI_e, rdI_n, rdC_i, rdC_o, rdW, rdR, rdU_e, rdU_n]; exact hgq2
                    · simp (disch := omega) only [rdI_e, rdI_n, rdC_i, rdC_o, rdW, rdR, rdU_e, rdU_n]
                      rw [hm _ _ (by omega)]; simp (disch := omega) only [rdI_e, rdI_n, rdC_i, rdC_o, rdW, rdR, rdU_e, rdU_n]; rw [b5]; exact hom.2.2.2.2.1
                    · simp (disch := omega) only [rdI_e, rdI_n, rdC_i, rdC_o, rdW, rdR, rdU_e, rdU_n]
                      rw [hm _ _ (by omega)]; simp (disch := omega) only [rdI_e, rdI_n, rdC_i, rdC_o, rdW, rdR, rdU_e, rdU_n]; exact b1
                    · simp (disch := omega) only [rdI_e, rdI_n, rdC_i, rdC_o, rdW, rdR, rdU_e, rdU_n]
                      rw [hm _ _ (by omega)]; simp (disch := omega) only [rdI_e, rdI_n, rdC_i, rdC_o, rdW, rdR, rdU_e, rdU_n]; exact b2
                    · simp (disch := omega) only [rdI_e, rdI_n, rdC_i, rdC_o, rdW, rdR, rdU_e, rdU_n]
                      rw [hm _ _ (by omega)]; simp (disch := omega) only [rdI_e, rdI_n, rdC_i, rdC_o, rdW, rdR, rdU_e, rdU_n]; exact b3
                    · simp (disch := omega) only [rdI_e, rdI_n, rdC_i, rdC_o, rdW, rdR, rdU_e, rdU_n]
                      rw [hc1, hx.1]
                    · simp (disch := omega) only [rdI_e, rdI_n, rdC_i, rdC_o, rdW, rdR, rdU_e, rdU_n]
                      rw [hm _ _ (by omega)]; simp (disch := omega) only [rdI_e, rdI_n, rdC_i, rdC_o, rdW, rdR, rdU_e, rdU_n]
                      rw [show q + 2 = q + 1 + 1 by omega]; exact b6 k
                  · intro b k r1 r2
                    have h1 := hm b k r1
                    have h2 := r3 b k (by omega)
                    simp (disch := omega) only [rdI_e, rdI_n, rdC_i, rdC_o, rdW, rdR, rdU_e, rdU_n]
                    rw [h1]
                    simp (disch := omega) only [rdI_e, rdI_n, rdC_i, rdC_o, rdW, rdR, rdU_e, rdU_n]
                    rw [h2]
                    simp (disch := omega) only [rdI_e, rdI_n, rdC_i, rdC_o, rdW, rdR, rdU_e, rdU_n]
            · omega
          · omega
      · have hlo : okM (letM v (opAtV v 1) (v 5) (guM v 1)) := opD_ok hop (trM_ok (mdM_ok (Or.inl rfl) hg.2))
        refine CS.mk (by decide) (Nat.le_of_ble_eq_true rfl) ?_
        refine x_aload_n dX3_stepsHosted_0 rfl rfl ?_
        refine x_aload_n dX3_stepsHosted_1 rfl rfl ?_
        refine g_callI (vs := [_, _]) (d' := d - 1) rfl (s_X3_opAt (by omega) hh hqq hB1 hv hG (by omega)) dX3_stepsHosted_2 kX3_141 (by omega) (by decide) rfl (Nat.le_of_ble_eq_true rfl) (rcv_o (by assumption) rfl) (fun x2 M2 h2 => ?_)
        obtain ⟨e2, f2⟩ := h2
        have f2' := f2.symm
        subst f2'
        rw [if_pos e3g] at e2
        subst e2
        refine x_istore_n (L' := [some _, some _, some _, none, none]) dX3_stepsHosted_5 rfl (by decide) rfl ?_
        refine x_iload_n dX3_stepsHosted_6 rfl rfl ?_
        refine x_iconst dX3_stepsHosted_7 rfl ?_
        refine x_icmp_ne (tgt := 14) dX3_stepsHosted_8 (by decide) (fun h8 => ?_) (fun h8 => ?_)
        · refine x_aload_n dX3_stepsHosted_14 rfl rfl ?_
          refine g_getR (kI := 0) rfl dX3_stepsHosted_15 fX3_11_3 (by assumption) (by assumption) ?_
          refine x_iload_n dX3_stepsHosted_18 rfl rfl ?_
          refine x_aald (t := 126) rfl (by decide) dX3_stepsHosted_19 (by assumption) (by omega) (by omega) (by exact hOS.1) ?_
          refine x_astore_n (L' := [some _, some _, some _, some _, none]) dX3_stepsHosted_20 rfl (by decide) rfl ?_
          refine x_aload_n dX3_stepsHosted_21 rfl rfl ?_
          refine g_getZ (kI := 4) rfl dX3_stepsHosted_22 fX3_111_6 (by assumption) ?_
          rw [oG]
          refine x_if_eq (tgt := 59) dX3_stepsHosted_25 (by decide) (fun h25 => ?_) (fun h25 => ?_)
          · refine x_aload_n dX3_stepsHosted_59 rfl rfl ?_
            refine g_getZ (kI := 4) rfl dX3_stepsHosted_60 fX3_111_6 (by assumption) ?_
            rw [oG]
            refine x_if_ne (tgt := 73) dX3_stepsHosted_63 (by decide) (fun h63 => ?_) (fun h63 => ?_)
            · omega
            · refine x_aload_n dX3_stepsHosted_66 rfl rfl ?_
              refine g_getZ (kI := 5) rfl dX3_stepsHosted_67 fX3_115_6 (by assumption) ?_
              rw [oP]
              refine x_if_eq (tgt := 109) dX3_stepsHosted_70 (by decide) (fun h70 => ?_) (fun h70 => ?_)
              · refine x_aload_n dX3_stepsHosted_109 rfl rfl ?_
                refine x_aload_n dX3_stepsHosted_110 rfl rfl ?_
                refine x_aload_n dX3_stepsHosted_111 rfl rfl ?_
                refine g_callI (vs := [_, _, _]) (d' := d - 1) rfl (s_X3_letsThrough (by omega) hh hqq hOS.2 (by omega) hG hg hv5 hRO hop) dX3_stepsHosted_112 kX3_181 (by omega) (by decide) rfl (Nat.le_of_ble_eq_true rfl) (rcv_o (by assumption) rfl) (fun x112 M112 h112 => ?_)
                obtain ⟨g1, hM112, r0, ⟨r1, r2, r3, r4, r5, r6, r7, r8⟩, r9⟩ := h112
                subst hM112
                refine x_istore (L' := [some _, some _, some _, some _, some _]) dX3_stepsHosted_115 (by decide) rfl ?_
                refine x_aload_n dX3_stepsHosted_117 rfl rfl ?_
                refine g_callN (vs := [_]) (d' := d - 1) rfl (s_X4_goesOn (by omega) hqq (by rw [mci_wI, r1]; exact hg0) (by rw [mci_wI, r3]; exact hlo.2.2.2.2.1)) dX3_stepsHosted_118 kX3_165 (by omega) (by decide) rfl (Nat.le_of_ble_eq_true rfl) (rcv_o (by assumption) rfl) (fun M118 h118 => ?_)
                subst h118
                have hc1 : up g1 q 1 (nextPc (g1 q 1) (g1 (q + 1) 6)) (q + 1) 4 = v (guA 1 + 4) := by
                  simp (disch := omega) only [rdI_e, rdI_n, rdC_i, rdC_o, rdW, rdR, rdU_e, rdU_n]
                  exact r7
                refine x_aload_n dX3_stepsHosted_121 rfl rfl ?_
                refine x_iconst dX3_stepsHosted_122 rfl ?_
                refine g_callN (vs := [_, _]) (d' := d - 1) rfl (s_X4_ages (by omega) hqq (by rw [mci_wI, mci_wI, hc1]; exact hg4) (by omega)) dX3_stepsHosted_123 kX3_168 (by omega) (by decide) rfl (Nat.le_of_ble_eq_true rfl) (rcv_o (by assumption) rfl) (fun M123 h123 => ?_)
                subst h123
                refine x_iload dX3_stepsHosted_126 rfl ?_
                refine x_if_eq (tgt := 135) dX3_stepsHosted_128 (by decide) (fun h128 => ?_) (fun h128 => ?_)
                · refine x_iconst dX3_stepsHosted_135 rfl ?_
                  refine x_ireturn rfl dX3_stepsHosted_136 ?_
                  refine ⟨_, rfl, exI rfl ⟨?_, ?_, ?_⟩⟩
                  · unfold hostH
                    rw [if_neg hh3, if_neg hT, if_neg hE]
                    rw [r0] at h128
                    first
                    | exact (if_neg (vP_0.mp h128)).symm
                    | exact (if_pos (vP_1.mp (by have := vP_r ((letM v (opAtV v 1) (v 5) (guM v 1)).2.1 = 1); omega))).symm
                  · unfold hostV
                    rw [if_neg hh3, if_neg hT, if_neg hE]
                    refine RelG.set ?_ ?_ ?_ ?_ ?_ ?_ ?_ fun k k1 k2 => ?_
                    · simp (disch := omega) only [rdI_e, rdI_n, rdC_i, rdC_o, rdW, rdR, rdU_e, rdU_n]
                      rw [r1, r3]
                    · simp (disch := omega) only [rdI_e, rdI_n, rdC_i, rdC_o, rdW, rdR, rdU_e, rdU_n]
                      exact r2
                    · simp (disch := omega) only [rdI_e, rdI_n, rdC_i, rdC_o, rdW, rdR, rdU_e, rdU_n]
                      rw [r3]; exact hlo.2.2.2.2.1
                    · simp (disch := omega) only [rdI_e, rdI_n, rdC_i, rdC_o, rdW, rdR, rdU_e, rdU_n]
                      exact r4
                    · simp (disch := omega) only [rdI_e, rdI_n, rdC_i, rdC_o, rdW, rdR, rdU_e, rdU_n]
                      exact r5
                    · simp (disch := omega) only [rdI_e, rdI_n, rdC_i, rdC_o, rdW, rdR, rdU_e, rdU_n]
                      exact r6
                    · simp (disch := omega) only [rdI_e, rdI_n, rdC_i, rdC_o, rdW, rdR, rdU_e, rdU_n]
                      rw [r7]
                    · simp (disch := omega) only [rdI_e, rdI_n, rdC_i, rdC_o, rdW, rdR, rdU_e, rdU_n]
                      exact r8 k k1 k2
                  · intro b k r1' r2'
                    have := r9 b k r2'
                    simp (disch := omega) only [rdI_e, rdI_n, rdC_i, rdC_o, rdW, rdR, rdU_e, rdU_n]
                    exact this
                · refine x_iconst dX3_stepsHosted_131 rfl ?_
                  refine x_goto (tgt := 136) dX3_stepsHosted_132 (by decide) ?_
                  refine x_ireturn rfl dX3_stepsHosted_136 ?_
                  refine ⟨_, rfl, exI rfl ⟨?_, ?_, ?_⟩⟩
                  · unfold hostH
                    rw [if_neg hh3, if_neg hT, if_neg hE]
                    rw [r0] at h128
                    first
                    | exact (if_neg (vP_0.mp h128)).symm
                    | exact (if_pos (vP_1.mp (by have := vP_r ((letM v (opAtV v 1) (v 5) (guM v 1)).2.1 = 1); omega))).symm
                  · unfold hostV
                    rw [if_neg hh3, if_neg hT, if_neg hE]
                    refine RelG.set ?_ ?_ ?_ ?_ ?_ ?_ ?_ fun k k1 k2 => ?_
                    · simp (disch := omega) only [rdI_e, rdI_n, rdC_i, rdC_o, rdW, rdR, rdU_e, rdU_n]
                      rw [r1, r3]
                    · simp (disch := omega) only [rdI_e, rdI_n, rdC_i, rdC_o, rdW, rdR, rdU_e, rdU_n]
                      exact r2
                    · simp (disch := omega) only [rdI_e, rdI_n, rdC_i, rdC_o, rdW, rdR, rdU_e, rdU_n]
                      rw [r3]; exact hlo.2.2.2.2.1
                    · simp (disch := omega) only [rdI_e, rdI_n, rdC_i, rdC_o, rdW, rdR, rdU_e, rdU_n]
                      exact r4
                    · simp (disch := omega) only [rdI_e, rdI_n, rdC_i, rdC_o, rdW, rdR, rdU_e, rdU_n]
                      exact r5
                    · simp (disch := omega) only [rdI_e, rdI_n, rdC_i, rdC_o, rdW, rdR, rdU_e, rdU_n]
                      exact r6
                    · simp (disch := omega) only [rdI_e, rdI_n, rdC_i, rdC_o, rdW, rdR, rdU_e, rdU_n]
                      rw [r7]
                    · simp (disch := omega) only [rdI_e, rdI_n, rdC_i, rdC_o, rdW, rdR, rdU_e, rdU_n]
                      exact r8 k k1 k2
                  · intro b k r1' r2'
                    have := r9 b k r2'
                    simp (disch := omega) only [rdI_e, rdI_n, rdC_i, rdC_o, rdW, rdR, rdU_e, rdU_n]
                    exact this
              · omega
          · omega
        · omega
end XH

