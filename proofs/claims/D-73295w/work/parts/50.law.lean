/-! LINES of the law, its sums -/
def LineD (sh : Sh) (ci : Ci) (cr : Cr) (B T l : Int) (v : Vw) (n : Int) : Prop :=
  (B ≤ l ∧ l < T) ∧ (ci l 0 = v (370 + 4 * n) ∧ 0 ≤ v (370 + 4 * n) ∧ v (370 + 4 * n) ≤ 40 ∧ 0 ≤ v (371 + 4 * n)) ∧
  ((cr l 1 = none ∧ ∀ fc, holdV v fc n) ∨ (∃ c P, cr l 1 = some c ∧ CD sh ci cr B T 20 c P ∧ ∀ fc, FcOk fc → (P fc ↔ holdV v fc n)))
/-- the law of the state at p is that of a bench -/
def LawR (sh : Sh) (ci : Ci) (cr : Cr) (B T p : Int) (v : Vw) : Prop :=
  (v 2 = 0 ∧ ci p 10 = -1) ∨ (v 2 = 1 ∧ ci p 10 = v 368 ∧ (0 ≤ v 368 ∧ v 368 ≤ 12) ∧ ∀ n, 0 ≤ n → n < v 368 → ∃ l, cr (p + 2) n = some l ∧ (0 ≤ v (369 + 4 * n) ∧ v (369 + 4 * n) ≤ 2) ∧ sh l = some (15 + (v (369 + 4 * n)).toNat, 0) ∧ LineD sh ci cr B T l v n)
theorem CD.pos {sh : Sh} {ci : Ci} {cr : Cr} {B T : Int} (hB : 0 ≤ B) : ∀ {n : Nat} {c : Int} {P : Pf}, CD sh ci cr B T n c P → 0 ≤ c := by
  intro n
  induction n with
  | zero => rintro c P ⟨h, -⟩; omega
  | succ n ih =>
    intro c P h
    rcases h with h | ⟨o, R, hb, -⟩ | ⟨al, m, -, h⟩
    · exact ih h
    · omega
    · cases m with
      | zero => obtain ⟨o, q, -⟩ := h; have := q.1.1; omega
      | succ m => obtain ⟨o, c2, P1, Q1, q, -⟩ := h; have := q.1.1; omega
theorem sumP_dep {ci : Ci} {a : Int} {fc fc' : Int → Int} (h : ∀ k, 0 ≤ k → k < 10 → fc k = fc' k) : ∀ n : Nat, n ≤ 7 → sumP ci a fc n = sumP ci a fc' n := by
  intro n
  induction n with
  | zero => intro _; rfl
  | succ n ih => intro hn; unfold sumP; rw [ih (by omega), h n (by omega) (by omega)]
/-- a condition hangs on the ten facts alone -/
theorem CD.dep {sh : Sh} {ci : Ci} {cr : Cr} {B T : Int} {fc fc' : Int → Int} : ∀ (n : Nat) (c : Int) (P : Pf), CD sh ci cr B T n c P → (∀ k, 0 ≤ k → k < 10 → fc k = fc' k) → (P fc ↔ P fc') := by
  intro n
  induction n with
  | zero =>
    rintro c P ⟨hb, h⟩ hf
    rcases h with ⟨h1, h2, h3⟩ | ⟨h1, a, b, h2, h3, h4, h5, h6⟩
    · subst h3
      show fc (ci c 0) ≠ 0 ↔ fc' (ci c 0) ≠ 0
      rw [hf _ (by omega) (by omega)]
    · subst h6
      show sumL ci a fc < sumL ci b fc ↔ sumL ci a fc' < sumL ci b fc'
      unfold sumL
      rw [sumP_dep hf 7 (by omega), sumP_dep hf 7 (by omega)]
  | succ n ih =>
    intro c P h hf
    rcases h with h | ⟨o, R, hb, h1, h2, h3, h4⟩ | ⟨al, m, ha, h⟩
    · exact ih c P h hf
    · subst h4
      exact not_congr (ih _ _ h3 hf)
    · have go : ∀ (m : Nat) (c : Int) (P : Pf), ChD sh ci cr B T (CD sh ci cr B T n) al m c P → (P fc ↔ P fc') := by
        intro m
        induction m with
        | zero => rintro c P ⟨o, h1, h2, h3⟩; exact ih _ _ h3 hf
        | succ m ihm =>
          rintro c P ⟨o, c2, P1, Q1, h1, h2, h3, h4, h5⟩
          subst h5
          have a1 := ih _ _ h3 hf
          have a2 := ihm _ _ h4
          unfold comb
          rw [a1, a2]
      exact go m c P h
theorem LineD.same {sh sh' : Sh} {ci ci' : Ci} {cr cr' : Cr} {B T T' l n : Int} {v : Vw} (h : LineD sh ci cr B T l v n) (hs : Same B T sh ci cr sh' ci' cr') (hT : T ≤ T') : LineD sh' ci' cr' B T' l v n := by
  obtain ⟨hb, h1, h2⟩ := h
  obtain ⟨s1, s2, s3⟩ := hs l hb.1 hb.2
  refine ⟨⟨hb.1, by omega⟩, by rw [s2]; exact h1, ?_⟩
  rcases h2 with ⟨a, b⟩ | ⟨c, P, a, b, e⟩
  · exact Or.inl ⟨(s3 1).trans a, b⟩
  · exact Or.inr ⟨c, P, (s3 1).trans a, CD.same hs hT _ _ _ b, e⟩
theorem LawR.same {sh sh' : Sh} {ci ci' : Ci} {cr cr' : Cr} {B T T' p : Int} {v : Vw} (h : LawR sh ci cr B T p v) (hs : Same B T sh ci cr sh' ci' cr') (hT : T ≤ T') (hp : ci' p 10 = ci p 10) (hr : ∀ n, cr' (p + 2) n = cr (p + 2) n) : LawR sh' ci' cr' B T' p v := by
  rcases h with ⟨a, b⟩ | ⟨a, b, e, f⟩
  · exact Or.inl ⟨a, hp.trans b⟩
  · refine Or.inr ⟨a, hp.trans b, e, fun n n0 n1 => ?_⟩
    obtain ⟨l, l1, l2, l3, l4⟩ := f n n0 n1
    exact ⟨l, (hr n).trans l1, l2, (hs l l4.1.1 l4.1.2).1.trans l3, l4.same hs hT⟩
theorem uses_r (v : Vw) (p : Int) : ∀ t : Nat, 0 ≤ usesR v p t ∧ usesR v p t ≤ t := by
  intro t
  induction t with
  | zero => exact ⟨by show (0:Int) ≤ 0; omega, by show (0:Int) ≤ 0; omega⟩
  | succ t ih => unfold usesR; split <;> omega
theorem factOk {v : Vw} {p : Int} (h : okB v) (hp : 0 ≤ p ∧ p < v 0) : FcOk (factV v p) := by
  have h8 := h.n8
  have ho := h.op p hp.1 hp.2
  have h3 := h.2.2.2.1
  have hu := uses_r v p (v 3).toNat
  have t : ∀ w, 0 ≤ trtV v p w ∧ trtV v p w ≤ 10 := fun w => by
    rcases vP_r (witV v p w ≠ -1) with e | e <;> unfold trtV <;> omega
  have ss : 0 ≤ sensV v p ∧ sensV v p ≤ 1 := by
    rcases vP_r (trtV v p 0 = 1 ∨ trtV v p 1 = 1 ∨ trtV v p 2 = 1) with e | e <;> unfold sensV <;> omega
  have hg := ho.2.1
  have hq := ho.2.2.1
  have hn := ho.1
  intro k k0 k1
  unfold factV
  rcases (show k = 0 ∨ k = 1 ∨ k = 2 ∨ k = 3 ∨ k = 4 ∨ k = 5 ∨ k = 6 ∨ k = 7 ∨ k = 8 ∨ k = 9 by omega) with e | e | e | e | e | e | e | e | e | e <;> subst e
  · show 0 ≤ p ∧ p ≤ 10 ∧ _; omega
  · show 0 ≤ opN v p ∧ opN v p ≤ 10 ∧ _; omega
  · exact ⟨(t 0).1, (t 0).2, fun q => by omega⟩
  · exact ⟨(t 1).1, (t 1).2, fun q => by omega⟩
  · exact ⟨(t 2).1, (t 2).2, fun q => by omega⟩
  · exact ⟨(t 3).1, (t 3).2, fun q => by omega⟩
  · show 0 ≤ usesV v p ∧ usesV v p ≤ 10 ∧ _; unfold usesV; omega
  · show 0 ≤ opG v p ∧ opG v p ≤ 10 ∧ (_ → opG v p ≤ 1); omega
  · show 0 ≤ opP v p ∧ opP v p ≤ 10 ∧ (_ → opP v p ≤ 1); omega
  · exact ⟨ss.1, by have := ss.2; show sensV v p ≤ 10; omega, fun _ => ss.2⟩
section XL
variable {G : GW} {d : Nat} {M : Mem} {B T F : Int} {fc : Int → Int}
theorem s_X14_adds_15 {l : Int} {v : Vw} {n : Int} (hd : 34 ≤ d) (hB : 0 ≤ B) (hF : msh M F = some (100, 10)) (hf : FcOk (mci M F)) (hp : ∀ k, 0 ≤ k → k < 10 → mci M F k = fc k) (h : LineD (msh M) (mci M) (mcr M) B T l v n) (ht : msh M l = some (15, 0)) : CS G d mX14_adds [dR l, dR F] M (postI fun x M1 => ((holdV v fc n → x = v (370 + 4 * n)) ∧ (¬ holdV v fc n → x = 0)) ∧ M1 = M) := by
  obtain ⟨hb, hn, h⟩ := h
  have l0 : 0 ≤ l := by omega
  rcases h with ⟨h1, h2⟩ | ⟨c, P, h1, h2, h3⟩
  · refine CS.mk (by decide) (Nat.le_of_ble_eq_true rfl) ?_
    refine x_aload_n dX14_adds_0 rfl rfl ?_
    refine g_getR (kI := 1) rfl dX14_adds_1 fX14_13_15 (by assumption) (by assumption) ?_
    refine x_ifnull_n (tgt := 20) dX14_adds_4 (by decide) ?_
    refine x_aload_n dX14_adds_20 rfl rfl ?_
    refine g_getI (kI := 0) rfl dX14_adds_21 fX14_7_15 (by assumption) ?_
    refine x_goto (tgt := 28) dX14_adds_24 (by decide) ?_
    refine x_ireturn rfl dX14_adds_28 ?_
    exact ⟨_, rfl, ⟨fun _ => hn.1, fun q => absurd (h2 fc) q⟩, rfl⟩
  · have hr := s_holds (G := G) hB hF hf 20 (d - 1) c P (by omega) h2
    have c0 : 0 ≤ c := CD.pos hB h2
    have hP : P (mci M F) ↔ holdV v fc n := (CD.dep 20 c P h2 (fun k a b => hp k a b)).trans (h3 fc (fun k a b => by rw [← hp k a b]; exact hf k a b))
    refine CS.mk (by decide) (Nat.le_of_ble_eq_true rfl) ?_
    refine x_aload_n dX14_adds_0 rfl rfl ?_
    refine g_getR (kI := 1) rfl dX14_adds_1 fX14_13_15 (by assumption) (by assumption) ?_
    refine x_ifnull_r (by omega) dX14_adds_4 ?_
    refine x_aload_n dX14_adds_7 rfl rfl ?_
    refine g_getR (kI := 1) rfl dX14_adds_8 fX14_13_15 (by assumption) (by assumption) ?_
    refine x_aload_n dX14_adds_11 rfl rfl ?_
    refine g_holds hr kX14_17_X9_holds kX14_17_X10_holds kX14_17_X12_holds kX14_17_X13_holds (by omega) dX14_adds_12 (Nat.le_of_ble_eq_true rfl) ?_
    intro x12 h12
    refine x_if_eq (tgt := 27) dX14_adds_17 (by decide) (fun h17 => ?_) (fun h17 => ?_)
    · refine x_iconst dX14_adds_27 rfl ?_
      refine x_ireturn rfl dX14_adds_28 ?_
      refine ⟨_, rfl, ?_, rfl⟩
      first
      | exact ⟨fun q => absurd (vP_t (hP.mpr q)) (by omega), fun _ => rfl⟩
      | exact ⟨fun _ => hn.1, fun q => absurd (vP_f (fun w => q (hP.mp w))) (by omega)⟩
    · refine x_aload_n dX14_adds_20 rfl rfl ?_
      refine g_getI (kI := 0) rfl dX14_adds_21 fX14_7_15 (by assumption) ?_
      refine x_goto (tgt := 28) dX14_adds_24 (by decide) ?_
      refine x_ireturn rfl dX14_adds_28 ?_
      refine ⟨_, rfl, ?_, rfl⟩
      first
      | exact ⟨fun q => absurd (vP_t (hP.mpr q)) (by omega), fun _ => rfl⟩
      | exact ⟨fun _ => hn.1, fun q => absurd (vP_f (fun w => q (hP.mp w))) (by omega)⟩
theorem s_X15_to {l : Int} {v : Vw} {n w : Int} (hd : 35 ≤ d) (hB : 0 ≤ B) (hF : msh M F = some (100, 10)) (hf : FcOk (mci M F)) (hp : ∀ k, 0 ≤ k → k < 10 → mci M F k = fc k) (h : LineD (msh M) (mci M) (mcr M) B T l v n) (ht : msh M l = some (15, 0)) : CS G d mX15_to [dR l, dI w, dR F] M (postI fun x M1 => ((w = 0 ∧ holdV v fc n → x = v (370 + 4 * n)) ∧ (¬ (w = 0 ∧ holdV v fc n) → x = 0)) ∧ M1 = M) := by
  have hh := h
  obtain ⟨hb, hn, h⟩ := h
  have l0 : 0 ≤ l := by omega
  refine CS.mk (by decide) (Nat.le_of_ble_eq_true rfl) ?_
  refine x_iload_n dX15_to_0 rfl rfl ?_
  refine x_if_ne (tgt := 12) dX15_to_1 (by decide) (fun h1 => ?_) (fun h1 => ?_)
  · refine x_iconst dX15_to_12 rfl ?_
    refine x_ireturn rfl dX15_to_13 ?_
    refine ⟨_, rfl, ?_, rfl⟩
    first
    | exact ⟨fun q => e6.1 q.2, fun q => e6.2 (fun r => q ⟨by omega, r⟩)⟩
    | exact ⟨fun q => absurd q.1 (by omega), fun _ => rfl⟩
  · refine x_aload_n dX15_to_4 rfl rfl ?_
    refine x_aload_n dX15_to_5 rfl rfl ?_
    refine g_callI (vs := [_, _]) (d' := d - 1) rfl (s_X14_adds_15 (by omega) hB hF hf hp hh ht) dX15_to_6 kX15_7_X14_adds (by omega) (by decide) rfl (Nat.le_of_ble_eq_true rfl) (rcv_o (by assumption) rfl) (fun x6 M6 h6 => ?_)
    obtain ⟨e6, f6⟩ := h6
    have f6' := f6.symm
    subst f6'
    refine x_goto (tgt := 13) dX15_to_9 (by decide) ?_
    refine x_ireturn rfl dX15_to_13 ?_
    refine ⟨_, rfl, ?_, rfl⟩
    first
    | exact ⟨fun q => e6.1 q.2, fun q => e6.2 (fun r => q ⟨by omega, r⟩)⟩
    | exact ⟨fun q => absurd q.1 (by omega), fun _ => rfl⟩
theorem s_X14_adds_16 {l : Int} {v : Vw} {n : Int} (hd : 34 ≤ d) (hB : 0 ≤ B) (hF : msh M F = some (100, 10)) (hf : FcOk (mci M F)) (hp : ∀ k, 0 ≤ k → k < 10 → mci M F k = fc k) (h : LineD (msh M) (mci M) (mcr M) B T l v n) (ht : msh M l = some (16, 0)) : CS G d mX14_adds [dR l, dR F] M (postI fun x M1 => ((holdV v fc n → x = v (370 + 4 * n)) ∧ (¬ holdV v fc n → x = 0)) ∧ M1 = M) := by
  obtain ⟨hb, hn, h⟩ := h
  have l0 : 0 ≤ l := by omega
  rcases h with ⟨h1, h2⟩ | ⟨c, P, h1, h2, h3⟩
  · refine CS.mk (by decide) (Nat.le_of_ble_eq_true rfl) ?_
    refine x_aload_n dX14_adds_0 rfl rfl ?_
    refine g_getR (kI := 1) rfl dX14_adds_1 fX14_13_16 (by assumption) (by assumption) ?_
    refine x_ifnull_n (tgt := 20) dX14_adds_4 (by decide) ?_
    refine x_aload_n dX14_adds_20 rfl rfl ?_
    refine g_getI (kI := 0) rfl dX14_adds_21 fX14_7_16 (by assumption) ?_
    refine x_goto (tgt := 28) dX14_adds_24 (by decide) ?_
    refine x_ireturn rfl dX14_adds_28 ?_
    exact ⟨_, rfl, ⟨fun _ => hn.1, fun q => absurd (h2 fc) q⟩, rfl⟩
  · have hr := s_holds (G := G) hB hF hf 20 (d - 1) c P (by omega) h2
    have c0 : 0 ≤ c := CD.pos hB h2
    have hP : P (mci M F) ↔ holdV v fc n := (CD.dep 20 c P h2 (fun k a b => hp k a b)).trans (h3 fc (fun k a b => by rw [← hp k a b]; exact hf k a b))
    refine CS.mk (by decide) (Nat.le_of_ble_eq_true rfl) ?_
    refine x_aload_n dX14_adds_0 rfl rfl ?_
    refine g_getR (kI := 1) rfl dX14_adds_1 fX14_13_16 (by assumption) (by assumption) ?_
    refine x_ifnull_r (by omega) dX14_adds_4 ?_
    refine x_aload_n dX14_adds_7 rfl rfl ?_
    refine g_getR (kI := 1) rfl dX14_adds_8 fX14_13_16 (by assumption) (by assumption) ?_
    refine x_aload_n dX14_adds_11 rfl rfl ?_
    refine g_holds hr kX14_17_X9_holds kX14_17_X10_holds kX14_17_X12_holds kX14_17_X13_holds (by omega) dX14_adds_12 (Nat.le_of_ble_eq_true rfl) ?_
    intro x12 h12
    refine x_if_eq (tgt := 27) dX14_adds_17 (by decide) (fun h17 => ?_) (fun h17 => ?_)
    · refine x_iconst dX14_adds_27 rfl ?_
      refine x_ireturn rfl dX14_adds_28 ?_
      refine ⟨_, rfl, ?_, rfl⟩
      first
      | exact ⟨fun q => absurd (vP_t (hP.mpr q)) (by omega), fun _ => rfl⟩
      | exact ⟨fun _ => hn.1, fun q => absurd (vP_f (fun w => q (hP.mp w))) (by omega)⟩
    · refine x_aload_n dX14_adds_20 rfl rfl ?_
      refine g_getI (kI := 0) rfl dX14_adds_21 fX14_7_16 (by assumption) ?_
      refine x_goto (tgt := 28) dX14_adds_24 (by decide) ?_
      refine x_ireturn rfl dX14_adds_28 ?_
      refine ⟨_, rfl, ?_, rfl⟩
      first
      | exact ⟨fun q => absurd (vP_t (hP.mpr q)) (by omega), fun _ => rfl⟩
      | exact ⟨fun _ => hn.1, fun q => absurd (vP_f (fun w => q (hP.mp w))) (by omega)⟩
theorem s_X16_to {l : Int} {v : Vw} {n w : Int} (hd : 35 ≤ d) (hB : 0 ≤ B) (hF : msh M F = some (100, 10)) (hf : FcOk (mci M F)) (hp : ∀ k, 0 ≤ k → k < 10 → mci M F k = fc k) (h : LineD (msh M) (mci M) (mcr M) B T l v n) (ht : msh M l = some (16, 0)) : CS G d mX16_to [dR l, dI w, dR F] M (postI fun x M1 => ((w = 1 ∧ holdV v fc n → x = v (370 + 4 * n)) ∧ (¬ (w = 1 ∧ holdV v fc n) → x = 0)) ∧ M1 = M) := by
  have hh := h
  obtain ⟨hb, hn, h⟩ := h
  have l0 : 0 ≤ l := by omega
  refine CS.mk (by decide) (Nat.le_of_ble_eq_true rfl) ?_
  refine x_iload_n dX16_to_0 rfl rfl ?_
  refine x_iconst dX16_to_1 rfl ?_
  refine x_icmp_ne (tgt := 13) dX16_to_2 (by decide) (fun h1 => ?_) (fun h1 => ?_)
  · refine x_iconst dX16_to_13 rfl ?_
    refine x_ireturn rfl dX16_to_14 ?_
    refine ⟨_, rfl, ?_, rfl⟩
    first
    | exact ⟨fun q => e7.1 q.2, fun q => e7.2 (fun r => q ⟨by omega, r⟩)⟩
    | exact ⟨fun q => absurd q.1 (by omega), fun _ => rfl⟩
  · refine x_aload_n dX16_to_5 rfl rfl ?_
    refine x_aload_n dX16_to_6 rfl rfl ?_
    refine g_callI (vs := [_, _]) (d' := d - 1) rfl (s_X14_adds_16 (by omega) hB hF hf hp hh ht) dX16_to_7 kX16_7_X14_adds (by omega) (by decide) rfl (Nat.le_of_ble_eq_true rfl) (rcv_o (by assumption) rfl) (fun x7 M7 h7 => ?_)
    obtain ⟨e7, f7⟩ := h7
    have f7' := f7.symm
    subst f7'
    refine x_goto (tgt := 14) dX16_to_10 (by decide) ?_
    refine x_ireturn rfl dX16_to_14 ?_
    refine ⟨_, rfl, ?_, rfl⟩
    first
    | exact ⟨fun q => e7.1 q.2, fun q => e7.2 (fun r => q ⟨by omega, r⟩)⟩
    | exact ⟨fun q => absurd q.1 (by omega), fun _ => rfl⟩
theorem s_X14_adds_17 {l : Int} {v : Vw} {n : Int} (hd : 34 ≤ d) (hB : 0 ≤ B) (hF : msh M F = some (100, 10)) (hf : FcOk (mci M F)) (hp : ∀ k, 0 ≤ k → k < 10 → mci M F k = fc k) (h : LineD (msh M) (mci M) (mcr M) B T l v n) (ht : msh M l = some (17, 0)) : CS G d mX14_adds [dR l, dR F] M (postI fun x M1 => ((holdV v fc n → x = v (370 + 4 * n)) ∧ (¬ holdV v fc n → x = 0)) ∧ M1 = M) := by
  obtain ⟨hb, hn, h⟩ := h
  have l0 : 0 ≤ l := by omega
  rcases h with ⟨h1, h2⟩ | ⟨c, P, h1, h2, h3⟩
  · refine CS.mk (by decide) (Nat.le_of_ble_eq_true rfl) ?_
    refine x_aload_n dX14_adds_0 rfl rfl ?_
    refine g_getR (kI := 1) rfl dX14_adds_1 fX14_13_17 (by assumption) (by assumption) ?_
    refine x_ifnull_n (tgt := 20) dX14_adds_4 (by decide) ?_
    refine x_aload_n dX14_adds_20 rfl rfl ?_
    refine g_getI (kI := 0) rfl dX14_adds_21 fX14_7_17 (by assumption) ?_
    refine x_goto (tgt := 28) dX14_adds_24 (by decide) ?_
    refine x_ireturn rfl dX14_adds_28 ?_
    exact ⟨_, rfl, ⟨fun _ => hn.1, fun q => absurd (h2 fc) q⟩, rfl⟩
  · have hr := s_holds (G := G) hB hF hf 20 (d - 1) c P (by omega) h2
    have c0 : 0 ≤ c := CD.pos hB h2
    have hP : P (mci M F) ↔ holdV v fc n := (CD.dep 20 c P h2 (fun k a b => hp k a b)).trans (h3 fc (fun k a b => by rw [← hp k a b]; exact hf k a b))
    refine CS.mk (by decide) (Nat.le_of_ble_eq_true rfl) ?_
    refine x_aload_n dX14_adds_0 rfl rfl ?_
    refine g_getR (kI := 1) rfl dX14_adds_1 fX14_13_17 (by assumption) (by assumption) ?_
    refine x_ifnull_r (by omega) dX14_adds_4 ?_
    refine x_aload_n dX14_adds_7 rfl rfl ?_
    refine g_getR (kI := 1) rfl dX14_adds_8 fX14_13_17 (by assumption) (by assumption) ?_
    refine x_aload_n dX14_adds_11 rfl rfl ?_
    refine g_holds hr kX14_17_X9_holds kX14_17_X10_holds kX14_17_X12_holds kX14_17_X13_holds (by omega) dX14_adds_12 (Nat.le_of_ble_eq_true rfl) ?_
    intro x12 h12
    refine x_if_eq (tgt := 27) dX14_adds_17 (by decide) (fun h17 => ?_) (fun h17 => ?_)
    · refine x_iconst dX14_adds_27 rfl ?_
      refine x_ireturn rfl dX14_adds_28 ?_
      refine ⟨_, rfl, ?_, rfl⟩
      first
      | exact ⟨fun q => absurd (vP_t (hP.mpr q)) (by omega), fun _ => rfl⟩
      | exact ⟨fun _ => hn.1, fun q => absurd (vP_f (fun w => q (hP.mp w))) (by omega)⟩
    · refine x_aload_n dX14_adds_20 rfl rfl ?_
      refine g_getI (kI := 0) rfl dX14_adds_21 fX14_7_17 (by assumption) ?_
      refine x_goto (tgt := 28) dX14_adds_24 (by decide) ?_
      refine x_ireturn rfl dX14_adds_28 ?_
      refine ⟨_, rfl, ?_, rfl⟩
      first
      | exact ⟨fun q => absurd (vP_t (hP.mpr q)) (by omega), fun _ => rfl⟩
      | exact ⟨fun _ => hn.1, fun q => absurd (vP_f (fun w => q (hP.mp w))) (by omega)⟩
theorem s_X17_to {l : Int} {v : Vw} {n w : Int} (hd : 35 ≤ d) (hB : 0 ≤ B) (hF : msh M F = some (100, 10)) (hf : FcOk (mci M F)) (hp : ∀ k, 0 ≤ k → k < 10 → mci M F k = fc k) (h : LineD (msh M) (mci M) (mcr M) B T l v n) (ht : msh M l = some (17, 0)) : CS G d mX17_to [dR l, dI w, dR F] M (postI fun x M1 => ((w = 2 ∧ holdV v fc n → x = v (370 + 4 * n)) ∧ (¬ (w = 2 ∧ holdV v fc n) → x = 0)) ∧ M1 = M) := by
  have hh := h
  obtain ⟨hb, hn, h⟩ := h
  have l0 : 0 ≤ l := by omega
  refine CS.mk (by decide) (Nat.le_of_ble_eq_true rfl) ?_
  refine x_iload_n dX17_to_0 rfl rfl ?_
  refine x_iconst dX17_to_1 rfl ?_
  refine x_icmp_ne (tgt := 13) dX17_to_2 (by decide) (fun h1 => ?_) (fun h1 => ?_)
  · refine x_iconst dX17_to_13 rfl ?_
    refine x_ireturn rfl dX17_to_14 ?_
    refine ⟨_, rfl, ?_, rfl⟩
    first
    | exact ⟨fun q => e7.1 q.2, fun q => e7.2 (fun r => q ⟨by omega, r⟩)⟩
    | exact ⟨fun q => absurd q.1 (by omega), fun _ => rfl⟩
  · refine x_aload_n dX17_to_5 rfl rfl ?_
    refine x_aload_n dX17_to_6 rfl rfl ?_
    refine g_callI (vs := [_, _]) (d' := d - 1) rfl (s_X14_adds_17 (by omega) hB hF hf hp hh ht) dX17_to_7 kX17_7_X14_adds (by omega) (by decide) rfl (Nat.le_of_ble_eq_true rfl) (rcv_o (by assumption) rfl) (fun x7 M7 h7 => ?_)
    obtain ⟨e7, f7⟩ := h7
    have f7' := f7.symm
    subst f7'
    refine x_goto (tgt := 14) dX17_to_10 (by decide) ?_
    refine x_ireturn rfl dX17_to_14 ?_
    refine ⟨_, rfl, ?_, rfl⟩
    first
    | exact ⟨fun q => e7.1 q.2, fun q => e7.2 (fun r => q ⟨by omega, r⟩)⟩
    | exact ⟨fun q => absurd q.1 (by omega), fun _ => rfl⟩

/-- a call of 'to' on a line, whichever it is -/
theorem g_to {j : MI} {pc len : Nat} {L : LV} {S : List DV} {Q : Res → Mem → Prop} {ins : Instr} {d' : Nat} {l w n : Int} {v : Vw} (hdd : 35 ≤ d') (hB : 0 ≤ B) (hF : msh M F = some (100, 10)) (hf : FcOk (mci M F)) (hp : ∀ k, 0 ≤ k → k < 10 → mci M F k = fc k) (h : LineD (msh M) (mci M) (mcr M) B T l v n) (hk : 0 ≤ v (369 + 4 * n) ∧ v (369 + 4 * n) ≤ 2) (ht : msh M l = some (15 + (v (369 + 4 * n)).toNat, 0))
    (l15 : LKs G ins len j.1.cls mX15_to 3 (some RX15)) (l16 : LKs G ins len j.1.cls mX16_to 3 (some RX16)) (l17 : LKs G ins len j.1.cls mX17_to 3 (some RX17)) (hdp : d' + 1 ≤ d) (hd : decode j.2.1 pc = .ok (ins, len)) (hS0 : S.length ≤ 4)
    (kk : ∀ x, ((v (369 + 4 * n) = w ∧ holdV v fc n → x = v (370 + 4 * n)) ∧ (¬ (v (369 + 4 * n) = w ∧ holdV v fc n) → x = 0)) → WP G d j (pc + len) L (dI x :: S) M Q) : WP G d j pc L (dR F :: dI w :: dR l :: S) M Q := by
  rcases (show v (369 + 4 * n) = 0 ∨ v (369 + 4 * n) = 1 ∨ v (369 + 4 * n) = 2 by omega) with e | e | e
  · have h1 : msh M l = some (15, 0) := by rw [ht, e]; rfl
    exact g_callI (vs := [_, _, _]) rfl (s_X15_to hdd hB hF hf hp h h1) hd l15 hdp (by decide) rfl hS0 (rcv_o h1 rfl) (fun x M1 q => by rw [q.2]; exact kk x ⟨fun r => q.1.1 ⟨r.1.symm.trans e, r.2⟩, fun r => q.1.2 (fun u => r ⟨e.trans u.1.symm, u.2⟩)⟩)
  · have h1 : msh M l = some (16, 0) := by rw [ht, e]; rfl
    exact g_callI (vs := [_, _, _]) rfl (s_X16_to hdd hB hF hf hp h h1) hd l16 hdp (by decide) rfl hS0 (rcv_o h1 rfl) (fun x M1 q => by rw [q.2]; exact kk x ⟨fun r => q.1.1 ⟨r.1.symm.trans e, r.2⟩, fun r => q.1.2 (fun u => r ⟨e.trans u.1.symm, u.2⟩)⟩)
  · have h1 : msh M l = some (17, 0) := by rw [ht, e]; rfl
    exact g_callI (vs := [_, _, _]) rfl (s_X17_to hdd hB hF hf hp h h1) hd l17 hdp (by decide) rfl hS0 (rcv_o h1 rfl) (fun x M1 q => by rw [q.2]; exact kk x ⟨fun r => q.1.1 ⟨r.1.symm.trans e, r.2⟩, fun r => q.1.2 (fun u => r ⟨e.trans u.1.symm, u.2⟩)⟩)
end XL


