/-! java.lang.Math, GuestView$Guest -/
section J12
variable {G : GW} {d : Nat} {M : Mem} {a b : Int}
theorem s_min (hd : 10 ≤ d) : CS G d mJ12_min [dI a, dI b] M (postI fun x M1 => ((a ≤ b → x = a) ∧ (b < a → x = b)) ∧ M1 = M) := by
  refine CS.mkF (by decide +kernel) rfl (Nat.le_of_ble_eq_true rfl) ?_
  refine x_iload_n dJ12_min_0 rfl rfl ?_
  refine x_iload_n dJ12_min_1 rfl rfl ?_
  refine x_icmp_gt (tgt := 9) dJ12_min_2 (by decide) (fun h2 => ?_) (fun h2 => ?_)
  · refine x_iload_n dJ12_min_9 rfl rfl ?_
    refine x_ireturn rfl dJ12_min_10 ?_
    exact ⟨_, rfl, ⟨fun _ => by omega, fun _ => by omega⟩, rfl⟩
  · refine x_iload_n dJ12_min_5 rfl rfl ?_
    refine x_goto (tgt := 10) dJ12_min_6 (by decide) ?_
    refine x_ireturn rfl dJ12_min_10 ?_
    exact ⟨_, rfl, ⟨fun _ => by omega, fun _ => by omega⟩, rfl⟩
theorem s_max (hd : 10 ≤ d) : CS G d mJ12_max [dI a, dI b] M (postI fun x M1 => ((a ≤ b → x = b) ∧ (b < a → x = a)) ∧ M1 = M) := by
  refine CS.mkF (by decide +kernel) rfl (Nat.le_of_ble_eq_true rfl) ?_
  refine x_iload_n dJ12_max_0 rfl rfl ?_
  refine x_iload_n dJ12_max_1 rfl rfl ?_
  refine x_icmp_lt (tgt := 9) dJ12_max_2 (by decide) (fun h2 => ?_) (fun h2 => ?_)
  · refine x_iload_n dJ12_max_9 rfl rfl ?_
    refine x_ireturn rfl dJ12_max_10 ?_
    exact ⟨_, rfl, ⟨fun _ => by omega, fun _ => by omega⟩, rfl⟩
  · refine x_iload_n dJ12_max_5 rfl rfl ?_
    refine x_goto (tgt := 10) dJ12_max_6 (by decide) ?_
    refine x_ireturn rfl dJ12_max_10 ?_
    exact ⟨_, rfl, ⟨fun _ => by omega, fun _ => by omega⟩, rfl⟩
end J12
def GuS (sh : Int → Option (Nat × Int)) (cr : Int → Int → Option Int) (q : Int) : Prop := 0 ≤ q ∧ sh q = some (4, 0) ∧ cr q 0 = some (q + 1) ∧ MacS sh cr (q + 1)
/-- the guest at q, its cells s on, is the guest i of a bench -/
def RelG (f : Int → Int → Int) (q s : Int) (v : Vw) (i : Int) : Prop :=
  f q 1 = v (guA i) ∧ f q 2 = s ∧ (f (q + 1) 6 = 0 ∨ f (q + 1) 6 = 1) ∧ f (q + 1) 1 = v (guA i + 1) ∧ f (q + 1) 2 = v (guA i + 2) ∧ f (q + 1) 3 = v (guA i + 3) ∧ f (q + 1) 4 = v (guA i + 4) ∧ ∀ k, 0 ≤ k → k < 8 → f (q + 2) ((k + s) % 8) = v (guA i + 5 + k)
theorem RelG.fo {f g : Int → Int → Int} {lo hi q s i : Int} {v : Vw} (h : RelG f q s v i) (hf : Fo lo hi f g) (hq : q + 2 < lo ∨ hi < q) : RelG g q s v i := by
  obtain ⟨h1, h2, h3, h4, h5, h6, h7, h8⟩ := h
  exact ⟨by rw [hf _ _ (by omega)]; exact h1, by rw [hf _ _ (by omega)]; exact h2, by rw [hf _ _ (by omega)]; exact h3, by rw [hf _ _ (by omega)]; exact h4, by rw [hf _ _ (by omega)]; exact h5, by rw [hf _ _ (by omega)]; exact h6, by rw [hf _ _ (by omega)]; exact h7, fun k a b => by rw [hf _ _ (by omega)]; exact h8 k a b⟩
theorem RelG.view {f : Int → Int → Int} {q s i : Int} {v : Vw} (h : RelG f q s v i) : mvw f (q + 1) s = ((guM v i).1, (guM v i).2.1, (guM v i).2.2.1, (guM v i).2.2.2.1, f (q + 1) 6, (guM v i).2.2.2.2.2) := by
  obtain ⟨h1, h2, h3, h4, h5, h6, h7, h8⟩ := h
  have e : (fun k => f (q + 1 + 1) ((k + s) % 8)) = (guM v i).2.2.2.2.2 := funext fun k => by
    have := h8 (k % 8) (by omega) (by omega)
    rw [show (k % 8 + s) % 8 = (k + s) % 8 by omega] at this
    rw [show q + 1 + 1 = q + 2 by omega]
    exact this
  unfold mvw
  rw [e, h4, h5, h6, h7]
  rfl
/-- the cells where they lie -/
theorem RelG.view0 {f : Int → Int → Int} {q s i : Int} {v : Vw} (h : RelG f q s v i) : mvw f (q + 1) 0 = ((guM v i).1, (guM v i).2.1, (guM v i).2.2.1, (guM v i).2.2.2.1, f (q + 1) 6, (trM (guM v i) s).2.2.2.2.2) := by
  obtain ⟨h1, h2, h3, h4, h5, h6, h7, h8⟩ := h
  have e : (fun k => f (q + 1 + 1) ((k + 0) % 8)) = (trM (guM v i) s).2.2.2.2.2 := funext fun k => by
    have := h8 ((k - s) % 8) (by omega) (by omega)
    rw [show ((k - s) % 8 + s) % 8 = (k + 0) % 8 by omega] at this
    rw [show q + 1 + 1 = q + 2 by omega]
    exact this
  unfold mvw
  rw [e, h4, h5, h6, h7]
  rfl
theorem RelG.okm {f : Int → Int → Int} {q s i : Int} {v : Vw} (h : RelG f q s v i) (hv : okGu v i) : okM (mvw f (q + 1) s) := by
  rw [h.view]
  have := hv.2
  exact ⟨this.1, this.2.1, this.2.2.1, this.2.2.2.1, h.2.2.1, this.2.2.2.2.2⟩
section X4
variable {G : GW} {d : Nat} {M : Mem} {q o n : Int}
theorem s_X4_cellAt {k : Int} (hd : 10 ≤ d) (h : GuS (msh M) (mcr M) q) (hk : 0 ≤ k ∧ k < 8) (hs : 0 ≤ mci M q 2 ∧ mci M q 2 < 8) : CS G d mX4_cellAt [dR q, dI k] M (postI fun x M1 => x = mci M (q + 2) ((k + mci M q 2) % 8) ∧ M1 = M) := by
  obtain ⟨p0, p1, p2, p3, p4, p5, p6⟩ := h
  have e : q + 1 + 1 = q + 2 := by omega
  rw [e] at p5 p6
  refine CS.mk (by decide) (Nat.le_of_ble_eq_true rfl) ?_
  refine x_aload_n dX4_cellAt_0 rfl rfl ?_
  refine g_getR (kI := 0) rfl dX4_cellAt_1 fX4_12_4 (by assumption) (by assumption) ?_
  refine g_getR (kI := 0) rfl dX4_cellAt_4 fX4_41_5 (by assumption) (by assumption) ?_
  refine x_iload_n dX4_cellAt_7 rfl rfl ?_
  refine x_aload_n dX4_cellAt_8 rfl rfl ?_
  refine g_getI (kI := 2) rfl dX4_cellAt_9 fX4_26_4 (by assumption) ?_
  first | refine x_iaddN dX4_cellAt_12 (by unfold i32; omega) ?_ | refine x_iadd dX4_cellAt_12 ?_
  refine x_bipush dX4_cellAt_13 rfl ?_
  first | refine x_iremN dX4_cellAt_15 (by omega) (by omega) ?_ | refine x_irem dX4_cellAt_15 (by omega) ?_
  refine x_iald dX4_cellAt_16 (by assumption) (by omega) (by omega) ?_
  refine x_ireturn rfl dX4_cellAt_17 ?_
  exact ⟨_, rfl, rfl, rfl⟩
theorem s_X4_goesOn (hd : 11 ≤ d) (h : GuS (msh M) (mcr M) q) (hp : 0 ≤ mci M q 1 ∧ mci M q 1 ≤ 12) (hs : mci M (q + 1) 6 = 0 ∨ mci M (q + 1) 6 = 1) : CS G d mX4_goesOn [dR q] M (postN fun M1 => M1 = wI M (up (mci M) q 1 (nextPc (mci M q 1) (mci M (q + 1) 6)))) := by
  obtain ⟨p0, p1, p2, p3, p4, p5, p6⟩ := h
  refine CS.mk (by decide) (Nat.le_of_ble_eq_true rfl) ?_
  refine x_aload_n dX4_goesOn_0 rfl rfl ?_
  refine x_bipush dX4_goesOn_1 rfl ?_
  refine x_aload_n dX4_goesOn_3 rfl rfl ?_
  refine g_getI (kI := 1) rfl dX4_goesOn_4 fX4_22_4 (by assumption) ?_
  refine x_aload_n dX4_goesOn_7 rfl rfl ?_
  refine g_getR (kI := 0) rfl dX4_goesOn_8 fX4_12_4 (by assumption) (by assumption) ?_
  refine g_getZ (kI := 6) rfl dX4_goesOn_11 fX4_45_5 (by assumption) ?_
  refine x_if_eq (tgt := 21) dX4_goesOn_14 (by decide) (fun h14 => ?_) (fun h14 => ?_)
  · refine x_iconst dX4_goesOn_21 rfl ?_
    first | refine x_iaddN dX4_goesOn_22 (by unfold i32; omega) ?_ | refine x_iadd dX4_goesOn_22 ?_
    refine g_callI (vs := [_, _]) (d' := d - 1) rfl (s_min (by omega)) dX4_goesOn_23 kX4_49 (by omega) (by decide) rfl (Nat.le_of_ble_eq_true rfl) (rcv_n) (fun x23 M23 h23 => ?_)
    obtain ⟨hm, rfl⟩ := h23
    refine g_putI (kI := 1) rfl dX4_goesOn_26 fX4_22_4 (by assumption) ?_
    refine x_vreturn rfl dX4_goesOn_29 ?_
    refine ⟨rfl, ?_⟩
    rw [mI_wI]
    refine congrArg (fun x => wI _ (up _ q 1 x)) ?_
    unfold nextPc
    rcases hs with e | e <;> rw [e] <;> simp only [Int.reduceEq, if_true, if_false] <;> split <;> omega
  · refine x_iconst dX4_goesOn_17 rfl ?_
    refine x_goto (tgt := 22) dX4_goesOn_18 (by decide) ?_
    first | refine x_iaddN dX4_goesOn_22 (by unfold i32; omega) ?_ | refine x_iadd dX4_goesOn_22 ?_
    refine g_callI (vs := [_, _]) (d' := d - 1) rfl (s_min (by omega)) dX4_goesOn_23 kX4_49 (by omega) (by decide) rfl (Nat.le_of_ble_eq_true rfl) (rcv_n) (fun x23 M23 h23 => ?_)
    obtain ⟨hm, rfl⟩ := h23
    refine g_putI (kI := 1) rfl dX4_goesOn_26 fX4_22_4 (by assumption) ?_
    refine x_vreturn rfl dX4_goesOn_29 ?_
    refine ⟨rfl, ?_⟩
    rw [mI_wI]
    refine congrArg (fun x => wI _ (up _ q 1 x)) ?_
    unfold nextPc
    rcases hs with e | e <;> rw [e] <;> simp only [Int.reduceEq, if_true, if_false] <;> split <;> omega
theorem s_X4_jumps (hd : 10 ≤ d) (h : GuS (msh M) (mcr M) q) : CS G d mX4_jumps [dR q, dI n] M (postN fun M1 => M1 = wI M (up (up (mci M) (q + 1) 2 1) q 1 n)) := by
  obtain ⟨p0, p1, p2, p3, p4, p5, p6⟩ := h
  refine CS.mk (by decide) (Nat.le_of_ble_eq_true rfl) ?_
  refine x_aload_n dX4_jumps_0 rfl rfl ?_
  refine g_getR (kI := 0) rfl dX4_jumps_1 fX4_12_4 (by assumption) (by assumption) ?_
  refine x_iconst dX4_jumps_4 rfl ?_
  refine g_putI (kI := 2) rfl dX4_jumps_5 fX4_32_5 (by assumption) ?_
  refine x_aload_n dX4_jumps_8 rfl rfl ?_
  refine x_iload_n dX4_jumps_9 rfl rfl ?_
  refine g_putI (kI := 1) rfl dX4_jumps_10 fX4_22_4 (by assumption) ?_
  refine x_vreturn rfl dX4_jumps_13 ?_
  exact ⟨rfl, rfl⟩
theorem s_X4_ages (hd : 10 ≤ d) (h : GuS (msh M) (mcr M) q) (hc : 0 ≤ mci M (q + 1) 4 ∧ mci M (q + 1) 4 < 8) (hn : 0 ≤ n ∧ n < 1000000) : CS G d mX4_ages [dR q, dI n] M (postN fun M1 => M1 = wI M (up (mci M) (q + 1) 4 ((mci M (q + 1) 4 + n) % 8))) := by
  obtain ⟨p0, p1, p2, p3, p4, p5, p6⟩ := h
  refine CS.mk (by decide) (Nat.le_of_ble_eq_true rfl) ?_
  refine x_aload_n dX4_ages_0 rfl rfl ?_
  refine g_getR (kI := 0) rfl dX4_ages_1 fX4_12_4 (by assumption) (by assumption) ?_
  refine x_aload_n dX4_ages_4 rfl rfl ?_
  refine g_getR (kI := 0) rfl dX4_ages_5 fX4_12_4 (by assumption) (by assumption) ?_
  refine g_getI (kI := 4) rfl dX4_ages_8 fX4_38_5 (by assumption) ?_
  refine x_iload_n dX4_ages_11 rfl rfl ?_
  first | refine x_iaddN dX4_ages_12 (by unfold i32; omega) ?_ | refine x_iadd dX4_ages_12 ?_
  refine x_bipush dX4_ages_13 rfl ?_
  first | refine x_iremN dX4_ages_15 (by omega) (by omega) ?_ | refine x_irem dX4_ages_15 (by omega) ?_
  refine g_putI (kI := 4) rfl dX4_ages_16 fX4_38_5 (by assumption) ?_
  refine x_vreturn rfl dX4_ages_19 ?_
  exact ⟨rfl, rfl⟩
theorem s_X4_be (hd : 11 ≤ d) (h : GuS (msh M) (mcr M) q) (h' : GuS (msh M) (mcr M) o) (hqo : o + 2 < q ∨ q + 2 < o) : CS G d mX4_be [dR q, dR o] M (postN fun M1 => ∃ g, M1 = wI M g ∧ (∀ v s i, RelG (mci M) o s v i → (mci M (q + 1) 6 = 0 ∨ mci M (q + 1) 6 = 1) → RelG g q s v i) ∧ Fo q (q + 2) (mci M) g) := by
  obtain ⟨p0, p1, p2, p3, p4, p5, p6⟩ := h
  obtain ⟨r0, r1, r2, r3, r4, r5, r6⟩ := h'
  refine CS.mk (by decide) (Nat.le_of_ble_eq_true rfl) ?_
  refine x_aload_n dX4_be_0 rfl rfl ?_
  refine g_getR (kI := 0) rfl dX4_be_1 fX4_12_4 (by assumption) (by assumption) ?_
  refine x_aload_n dX4_be_4 rfl rfl ?_
  refine g_getR (kI := 0) rfl dX4_be_5 fX4_12_4 (by assumption) (by assumption) ?_
  refine g_callN (vs := [_, _]) (d' := d - 1) rfl (s_X5_be (by omega) ⟨p3, p4, p5, p6⟩ ⟨r3, r4, r5, r6⟩ (by omega)) dX4_be_8 kX4_18 (by omega) (by decide) rfl (Nat.le_of_ble_eq_true rfl) (rcv_o (by assumption) rfl) (fun M8 h8 => ?_)
  obtain ⟨g1, rfl, q1, q2, q3⟩ := h8
  refine x_aload_n dX4_be_11 rfl rfl ?_
  refine x_aload_n dX4_be_12 rfl rfl ?_
  refine g_getI (kI := 1) rfl dX4_be_13 fX4_22_4 (by assumption) ?_
  refine g_putI (kI := 1) rfl dX4_be_16 fX4_22_4 (by assumption) ?_
  refine x_aload_n dX4_be_19 rfl rfl ?_
  refine x_aload_n dX4_be_20 rfl rfl ?_
  refine g_getI (kI := 2) rfl dX4_be_21 fX4_26_4 (by assumption) ?_
  refine g_putI (kI := 2) rfl dX4_be_24 fX4_26_4 (by assumption) ?_
  refine x_vreturn rfl dX4_be_27 ?_
  refine ⟨rfl, exI rfl ⟨?_, ?_⟩⟩
  · intro v s i hr hb
    obtain ⟨h1, h2, h3, h4, h5, h6, h7, h8⟩ := hr
    have w0 := q1 0
    have w : ∀ k, 0 ≤ k → k < 8 → g1 (q + 1 + 1) ((k + s) % 8) = mci M (o + 1 + 1) ((k + s) % 8) := fun k a b => congrFun (congrArg (fun m : Ms => m.2.2.2.2.2) (q1 s)) k
    have eo1 : g1 o 1 = mci M o 1 := q3 _ _ (by omega)
    have eo2 : g1 o 2 = mci M o 2 := q3 _ _ (by omega)
    have u1 : g1 (q + 1) 1 = mci M (o + 1) 1 := congrArg (fun m : Ms => m.1) w0
    have u2 : g1 (q + 1) 2 = mci M (o + 1) 2 := congrArg (fun m : Ms => m.2.1) w0
    have u3 : g1 (q + 1) 3 = mci M (o + 1) 3 := congrArg (fun m : Ms => m.2.2.1) w0
    have u4 : g1 (q + 1) 4 = mci M (o + 1) 4 := congrArg (fun m : Ms => m.2.2.2.1) w0
    have u6 : g1 (q + 1) 6 = mci M (q + 1) 6 := congrArg (fun m : Ms => m.2.2.2.2.1) w0
    refine ⟨?_, ?_, ?_, ?_, ?_, ?_, ?_, fun k a b => ?_⟩
    · simp (disch := omega) only [rdI_e, rdI_n, rdC_i, rdC_o, rdW, rdR, rdU_e, rdU_n]
      rw [eo1]; exact h1
    · simp (disch := omega) only [rdI_e, rdI_n, rdC_i, rdC_o, rdW, rdR, rdU_e, rdU_n]
      rw [eo2]; exact h2
    · simp (disch := omega) only [rdI_e, rdI_n, rdC_i, rdC_o, rdW, rdR, rdU_e, rdU_n]
      rw [u6]; exact hb
    · simp (disch := omega) only [rdI_e, rdI_n, rdC_i, rdC_o, rdW, rdR, rdU_e, rdU_n]
      rw [u1]; exact h4
    · simp (disch := omega) only [rdI_e, rdI_n, rdC_i, rdC_o, rdW, rdR, rdU_e, rdU_n]
      rw [u2]; exact h5
    · simp (disch := omega) only [rdI_e, rdI_n, rdC_i, rdC_o, rdW, rdR, rdU_e, rdU_n]
      rw [u3]; exact h6
    · simp (disch := omega) only [rdI_e, rdI_n, rdC_i, rdC_o, rdW, rdR, rdU_e, rdU_n]
      rw [u4]; exact h7
    · simp (disch := omega) only [rdI_e, rdI_n, rdC_i, rdC_o, rdW, rdR, rdU_e, rdU_n]
      rw [show q + 2 = q + 1 + 1 by omega, w k a b, show o + 1 + 1 = o + 2 by omega]; exact h8 k a b
  · intro b k r
    simp (disch := omega) only [rdI_e, rdI_n, rdC_i, rdC_o, rdW, rdR, rdU_e, rdU_n]
    exact q3 _ _ (by omega)
theorem s_X4_boots {b far : Int} (hd : 10 ≤ d) (h : GuS (msh M) (mcr M) q) (hb : msh M b = some (100, 8)) (hbq : b < q ∨ q + 2 < b) (hf : 0 ≤ far ∧ far < 8) : CS G d mX4_boots [dR q, dR b, dI far] M (postN fun M1 => ∃ g, M1 = wI M g ∧ (g q 1 = 0 ∧ g q 2 = far ∧ g (q + 1) 6 = mci M (q + 1) 6 ∧ g (q + 1) 1 = 0 ∧ g (q + 1) 2 = 1 ∧ g (q + 1) 3 = 0 ∧ g (q + 1) 4 = 0 ∧ ∀ k, 0 ≤ k → k < 8 → g (q + 2) ((k + far) % 8) = mci M b k) ∧ Fo q (q + 2) (mci M) g) := by
  obtain ⟨p0, p1, p2, p3, p4, p5, p6⟩ := h
  have e12 : q + 1 + 1 = q + 2 := by omega
  rw [e12] at p5 p6
  have loop : ∀ (t : Nat) (k : Int) (g : Int → Int → Int), (8 - k).toNat = t → 0 ≤ k → k ≤ 8 → Fo q (q + 2) (mci M) g → (g q 1 = 0 ∧ g q 2 = far ∧ g (q + 1) 6 = mci M (q + 1) 6 ∧ g (q + 1) 1 = 0 ∧ g (q + 1) 2 = 1 ∧ g (q + 1) 3 = 0 ∧ g (q + 1) 4 = 0 ∧ ∀ i, 0 ≤ i → i < k → g (q + 2) ((i + far) % 8) = mci M b i) → WP G d mX4_boots 44 [some (dR q), some (dR b), some (dI far), some (dI k)] [] (wI M g) (postN fun M1 => ∃ g, M1 = wI M g ∧ (g q 1 = 0 ∧ g q 2 = far ∧ g (q + 1) 6 = mci M (q + 1) 6 ∧ g (q + 1) 1 = 0 ∧ g (q + 1) 2 = 1 ∧ g (q + 1) 3 = 0 ∧ g (q + 1) 4 = 0 ∧ ∀ k, 0 ≤ k → k < 8 → g (q + 2) ((k + far) % 8) = mci M b k) ∧ Fo q (q + 2) (mci M) g) := by
    intro t
    induction t using Nat.strongRecOn with
    | _ t ih =>
      intro k g ht hk hk2 hfo hg
      obtain ⟨g1, g2, g3, g4, g5, g6, g7, g8⟩ := hg
      have e3 : mci (wI M g) q 2 = far := g2
      have eb : mci (wI M g) b k = mci M b k := hfo _ _ (by omega)
      refine x_iload_n dX4_boots_44 rfl rfl ?_
      refine x_bipush dX4_boots_45 rfl ?_
      refine x_icmp_ge (tgt := 76) dX4_boots_47 (by decide) (fun h47 => ?_) (fun h47 => ?_)
      · refine x_vreturn rfl dX4_boots_76 ?_
        exact ⟨rfl, g, rfl, ⟨g1, g2, g3, g4, g5, g6, g7, fun i r1 r2 => g8 i r1 (by omega)⟩, hfo⟩
      · refine x_aload_n dX4_boots_50 rfl rfl ?_
        refine g_getR (kI := 0) rfl dX4_boots_51 fX4_12_4 (by assumption) (by assumption) ?_
        refine g_getR (kI := 0) rfl dX4_boots_54 fX4_41_5 (by assumption) (by assumption) ?_
        refine x_iload_n dX4_boots_57 rfl rfl ?_
        refine x_aload_n dX4_boots_58 rfl rfl ?_
        refine g_getI (kI := 2) rfl dX4_boots_59 fX4_26_4 (by assumption) ?_
        rw [e3]
        first | refine x_iaddN dX4_boots_62 (by unfold i32; omega) ?_ | refine x_iadd dX4_boots_62 ?_
        refine x_bipush dX4_boots_63 rfl ?_
        first | refine x_iremN dX4_boots_65 (by omega) (by omega) ?_ | refine x_irem dX4_boots_65 (by omega) ?_
        refine x_aload_n dX4_boots_66 rfl rfl ?_
        refine x_iload_n dX4_boots_67 rfl rfl ?_
        refine x_iald dX4_boots_68 (by assumption) (by omega) (by omega) ?_
        rw [eb]
        refine x_iast (by omega) dX4_boots_69 (by assumption) (by omega) (by omega) ?_
        first | refine x_iincN (L' := [some _, some _, some _, some _]) dX4_boots_70 rfl (by decide) (by unfold i32; omega) rfl ?_ | refine x_iinc (L' := [some _, some _, some _, some _]) dX4_boots_70 rfl (by decide) rfl ?_
        refine x_goto (tgt := 44) dX4_boots_73 (by decide) ?_
        refine ih _ (by omega) (k + 1) (up g (q + 2) ((k + far) % 8) (mci M b k)) rfl (by omega) (by omega) (fun b' i r => ?_) ⟨?_, ?_, ?_, ?_, ?_, ?_, ?_, fun i r1 r2 => ?_⟩
        · have := hfo b' i r
          simp (disch := omega) only [rdI_e, rdI_n, rdC_i, rdC_o, rdW, rdR, rdU_e, rdU_n]
          exact this
        · simp (disch := omega) only [rdI_e, rdI_n, rdC_i, rdC_o, rdW, rdR, rdU_e, rdU_n]
          exact g1
        · simp (disch := omega) only [rdI_e, rdI_n, rdC_i, rdC_o, rdW, rdR, rdU_e, rdU_n]
          exact g2
        · simp (disch := omega) only [rdI_e, rdI_n, rdC_i, rdC_o, rdW, rdR, rdU_e, rdU_n]
          exact g3
        · simp (disch := omega) only [rdI_e, rdI_n, rdC_i, rdC_o, rdW, rdR, rdU_e, rdU_n]
          exact g4
        · simp (disch := omega) only [rdI_e, rdI_n, rdC_i, rdC_o, rdW, rdR, rdU_e, rdU_n]
          exact g5
        · simp (disch := omega) only [rdI_e, rdI_n, rdC_i, rdC_o, rdW, rdR, rdU_e, rdU_n]
          exact g6
        · simp (disch := omega) only [rdI_e, rdI_n, rdC_i, rdC_o, rdW, rdR, rdU_e, rdU_n]
          exact g7
        · by_cases e : i = k
          · subst e; simp (disch := omega) only [rdI_e, rdI_n, rdC_i, rdC_o, rdW, rdR, rdU_e, rdU_n]
          · have := g8 i r1 (by omega)
            simp (disch := omega) only [rdI_e, rdI_n, rdC_i, rdC_o, rdW, rdR, rdU_e, rdU_n]
            exact this
  refine CS.mk (by decide) (Nat.le_of_ble_eq_true rfl) ?_
  refine x_aload_n dX4_boots_0 rfl rfl ?_
  refine x_iconst dX4_boots_1 rfl ?_
  refine g_putI (kI := 1) rfl dX4_boots_2 fX4_22_4 (by assumption) ?_
  refine x_aload_n dX4_boots_5 rfl rfl ?_
  refine x_iload_n dX4_boots_6 rfl rfl ?_
  refine g_putI (kI := 2) rfl dX4_boots_7 fX4_26_4 (by assumption) ?_
  refine x_aload_n dX4_boots_10 rfl rfl ?_
  refine g_getR (kI := 0) rfl dX4_boots_11 fX4_12_4 (by assumption) (by assumption) ?_
  refine x_iconst dX4_boots_14 rfl ?_
  refine g_putI (kI := 1) rfl dX4_boots_15 fX4_29_5 (by assumption) ?_
  refine x_aload_n dX4_boots_18 rfl rfl ?_
  refine g_getR (kI := 0) rfl dX4_boots_19 fX4_12_4 (by assumption) (by assumption) ?_
  refine x_iconst dX4_boots_22 rfl ?_
  refine g_putI (kI := 2) rfl dX4_boots_23 fX4_32_5 (by assumption) ?_
  refine x_aload_n dX4_boots_26 rfl rfl ?_
  refine g_getR (kI := 0) rfl dX4_boots_27 fX4_12_4 (by assumption) (by assumption) ?_
  refine x_iconst dX4_boots_30 rfl ?_
  refine g_putI (kI := 3) rfl dX4_boots_31 fX4_35_5 (by assumption) ?_
  refine x_aload_n dX4_boots_34 rfl rfl ?_
  refine g_getR (kI := 0) rfl dX4_boots_35 fX4_12_4 (by assumption) (by assumption) ?_
  refine x_iconst dX4_boots_38 rfl ?_
  refine g_putI (kI := 4) rfl dX4_boots_39 fX4_38_5 (by assumption) ?_
  refine x_iconst dX4_boots_42 rfl ?_
  refine x_istore_n (L' := [some _, some _, some _, some _]) dX4_boots_43 rfl (by decide) rfl ?_
  refine loop _ 0 (up (up (up (up (up (up (mci M) q 1 0) q 2 far) (q + 1) 1 0) (q + 1) 2 1) (q + 1) 3 0) (q + 1) 4 0) rfl (by omega) (by omega) (fun b' i r => ?_) ⟨?_, ?_, ?_, ?_, ?_, ?_, ?_, fun i r1 r2 => ?_⟩
  all_goals first | omega | (simp (disch := omega) only [rdI_e, rdI_n, rdC_i, rdC_o, rdW, rdR, rdU_e, rdU_n])
/-- two guests are seen alike -/
def likeG (v : Vw) : Prop := v (guA 0) = v (guA 1) ∧ v (guA 0 + 1) = v (guA 1 + 1) ∧ v (guA 0 + 2) = v (guA 1 + 2) ∧ v (guA 0 + 3) = v (guA 1 + 3) ∧ ∀ k, 0 ≤ k → k < 8 → v (guA 0 + 5 + k) = v (guA 1 + 5 + k)
theorem s_X4_isLike {v : Vw} {s : Int} (hd : 11 ≤ d) (h : GuS (msh M) (mcr M) q) (h' : GuS (msh M) (mcr M) o) (hr : RelG (mci M) q 0 v 0) (hr' : RelG (mci M) o s v 1) (hs : 0 ≤ s ∧ s < 8) : CS G d mX4_isLike [dR q, dR o] M (postI fun x M1 => x = vP (likeG v) ∧ M1 = M) := by
  have hh := h
  have hh' := h'
  obtain ⟨p0, p1, p2, p3, p4, p5, p6⟩ := h
  obtain ⟨r0, r1, r2, r3, r4, r5, r6⟩ := h'
  obtain ⟨a1, a2, a3, a4, a5, a6, a7, a8⟩ := hr
  obtain ⟨b1, b2, b3, b4, b5, b6, b7, b8⟩ := hr'
  have loop : ∀ (t : Nat) (k x : Int), (8 - k).toNat = t → 0 ≤ k → k ≤ 8 → x = vP (v (guA 0) = v (guA 1) ∧ v (guA 0 + 1) = v (guA 1 + 1) ∧ v (guA 0 + 2) = v (guA 1 + 2) ∧ v (guA 0 + 3) = v (guA 1 + 3) ∧ ∀ i, 0 ≤ i → i < k → v (guA 0 + 5 + i) = v (guA 1 + 5 + i)) → WP G d mX4_isLike 70 [some (dR q), some (dR o), some (dI x), some (dI k)] [] M (postI fun x M1 => x = vP (likeG v) ∧ M1 = M) := by
    intro t
    induction t using Nat.strongRecOn with
    | _ t ih =>
      intro k x ht hk hk2 hx
      have ha : x = 0 ∨ x = 1 := by rw [hx]; exact vP_r _
      have ek1 : 0 ≤ k → k < 8 → mci M (q + 2) ((k + mci M q 2) % 8) = v (guA 0 + 5 + k) := fun c1 c2 => by rw [a2]; exact a8 k c1 c2
      have ek2 : 0 ≤ k → k < 8 → mci M (o + 2) ((k + mci M o 2) % 8) = v (guA 1 + 5 + k) := fun c1 c2 => by rw [b2]; exact b8 k c1 c2
      refine x_iload_n dX4_isLike_70 rfl rfl ?_
      refine x_bipush dX4_isLike_71 rfl ?_
      refine x_icmp_ge (tgt := 103) dX4_isLike_73 (by decide) (fun h73 => ?_) (fun h73 => ?_)
      · refine x_iload_n dX4_isLike_103 rfl rfl ?_
        refine x_zreturn (by exact ha) rfl dX4_isLike_104 ?_
        refine ⟨_, rfl, ?_, rfl⟩
        rw [hx]
        exact vP_c ⟨fun c => ⟨c.1, c.2.1, c.2.2.1, c.2.2.2.1, fun i c1 c2 => c.2.2.2.2 i c1 (by omega)⟩, fun c => ⟨c.1, c.2.1, c.2.2.1, c.2.2.2.1, fun i c1 c2 => c.2.2.2.2 i c1 (by omega)⟩⟩
      · refine x_iload_n dX4_isLike_76 rfl rfl ?_
        refine x_aload_n dX4_isLike_77 rfl rfl ?_
        refine x_iload_n dX4_isLike_78 rfl rfl ?_
        refine g_callI (vs := [_, _]) (d' := d - 1) rfl (s_X4_cellAt (M := M) (by omega) hh (by omega) (by omega)) dX4_isLike_79 kX4_55 (by omega) (by decide) rfl (Nat.le_of_ble_eq_true rfl) (rcv_o (by assumption) rfl) (fun x79 M79 h79 => ?_)
        obtain ⟨rfl, eM79⟩ := h79
        subst eM79
        refine x_aload_n dX4_isLike_82 rfl rfl ?_
        refine x_iload_n dX4_isLike_83 rfl rfl ?_
        refine g_callI (vs := [_, _]) (d' := d - 1) rfl (s_X4_cellAt (by omega) hh' (by omega) (by omega)) dX4_isLike_84 kX4_55 (by omega) (by decide) rfl (Nat.le_of_ble_eq_true rfl) (rcv_o (by assumption) rfl) (fun x84 M84 h84 => ?_)
        obtain ⟨rfl, eM84⟩ := h84
        subst eM84
        refine x_icmp_ne (tgt := 94) dX4_isLike_87 (by decide) (fun h87 => ?_) (fun h87 => ?_)
        · refine x_iconst dX4_isLike_94 rfl ?_
          refine x_iand dX4_isLike_95 ?_
          refine x_istore_n (L' := [some _, some _, some _, some _]) dX4_isLike_96 rfl (by decide) rfl ?_
          first | refine x_iincN (L' := [some _, some _, some _, some _]) dX4_isLike_97 rfl (by decide) (by unfold i32; omega) rfl ?_ | refine x_iinc (L' := [some _, some _, some _, some _]) dX4_isLike_97 rfl (by decide) rfl ?_
          refine x_goto (tgt := 70) dX4_isLike_100 (by decide) ?_
          have e1 := ek1 (by omega) (by omega)
          have e2 := ek2 (by omega) (by omega)
          rw [e1, e2] at h87
          refine ih _ (by omega) (k + 1) _ rfl (by omega) (by omega) ?_
          first
          | (rw [jand_1 ha, hx]
             refine vP_c ⟨fun c => ⟨c.1, c.2.1, c.2.2.1, c.2.2.2.1, fun i c1 c2 => ?_⟩, fun c => ⟨c.1, c.2.1, c.2.2.1, c.2.2.2.1, fun i c1 c2 => c.2.2.2.2 i c1 (by omega)⟩⟩
             by_cases e : i = k
             · rw [e]; exact h87
             · exact c.2.2.2.2 i c1 (by omega))
          | (rw [jand_0 ha]
             exact (vP_f fun c => h87 (c.2.2.2.2 k hk (by omega))).symm)
        · refine x_iconst dX4_isLike_90 rfl ?_
          refine x_goto (tgt := 95) dX4_isLike_91 (by decide) ?_
          refine x_iand dX4_isLike_95 ?_
          refine x_istore_n (L' := [some _, some _, some _, some _]) dX4_isLike_96 rfl (by decide) rfl ?_
          first | refine x_iincN (L' := [some _, some _, some _, some _]) dX4_isLike_97 rfl (by decide) (by unfold i32; omega) rfl ?_ | refine x_iinc (L' := [some _, some _, some _, some _]) dX4_isLike_97 rfl (by decide) rfl ?_
          refine x_goto (tgt := 70) dX4_isLike_100 (by decide) ?_
          have e1 := ek1 (by omega) (by omega)
          have e2 := ek2 (by omega) (by omega)
          rw [e1, e2] at h87
          refine ih _ (by omega) (k + 1) _ rfl (by omega) (by omega) ?_
          first
          | (rw [jand_1 ha, hx]
             refine vP_c ⟨fun c => ⟨c.1, c.2.1, c.2.2.1, c.2.2.2.1, fun i c1 c2 => ?_⟩, fun c => ⟨c.1, c.2.1, c.2.2.1, c.2.2.2.1, fun i c1 c2 => c.2.2.2.2 i c1 (by omega)⟩⟩
             by_cases e : i = k
             · rw [e]; exact h87
             · exact c.2.2.2.2 i c1 (by omega))
          | (rw [jand_0 ha]
             exact (vP_f fun c => h87 (c.2.2.2.2 k hk (by omega))).symm)
  rw [← a1, ← a4, ← a5, ← a6, ← b1, ← b4, ← b5, ← b6] at loop
  refine CS.mk (by decide) (Nat.le_of_ble_eq_true rfl) ?_
  refine x_aload_n dX4_isLike_0 rfl rfl ?_
  refine g_getI (kI := 1) rfl dX4_isLike_1 fX4_22_4 (by assumption) ?_
  refine x_aload_n dX4_isLike_4 rfl rfl ?_
  refine g_getI (kI := 1) rfl dX4_isLike_5 fX4_22_4 (by assumption) ?_
  refine x_icmp_ne (tgt := 66) dX4_isLike_8 (by decide) (fun h8 => ?_) (fun h8 => ?_)
  · refine x_iconst dX4_isLike_66 rfl ?_
    refine x_istore_n (L' := [some _, some _, some _, none]) dX4_isLike_67 rfl (by decide) rfl ?_
    refine x_iconst dX4_isLike_68 rfl ?_
    refine x_istore_n (L' := [some _, some _, some _, some _]) dX4_isLike_69 rfl (by decide) rfl ?_
    refine loop _ 0 _ rfl (by omega) (by omega) ?_
    first
    | exact (vP_t ⟨h8, h25, h42, h59, fun i c1 c2 => by omega⟩).symm
    | exact (vP_f (fun c => h8 c.1)).symm
    | exact (vP_f (fun c => h25 c.2.1)).symm
    | exact (vP_f (fun c => h42 c.2.2.1)).symm
    | exact (vP_f (fun c => h59 c.2.2.2.1)).symm
  · refine x_aload_n dX4_isLike_11 rfl rfl ?_
    refine g_getR (kI := 0) rfl dX4_isLike_12 fX4_12_4 (by assumption) (by assumption) ?_
    refine g_getI (kI := 1) rfl dX4_isLike_15 fX4_29_5 (by assumption) ?_
    refine x_aload_n dX4_isLike_18 rfl rfl ?_
    refine g_getR (kI := 0) rfl dX4_isLike_19 fX4_12_4 (by assumption) (by assumption) ?_
    refine g_getI (kI := 1) rfl dX4_isLike_22 fX4_29_5 (by assumption) ?_
    refine x_icmp_ne (tgt := 66) dX4_isLike_25 (by decide) (fun h25 => ?_) (fun h25 => ?_)
    · refine x_iconst dX4_isLike_66 rfl ?_
      refine x_istore_n (L' := [some _, some _, some _, none]) dX4_isLike_67 rfl (by decide) rfl ?_
      refine x_iconst dX4_isLike_68 rfl ?_
      refine x_istore_n (L' := [some _, some _, some _, some _]) dX4_isLike_69 rfl (by decide) rfl ?_
      refine loop _ 0 _ rfl (by omega) (by omega) ?_
      first
      | exact (vP_t ⟨h8, h25, h42, h59, fun i c1 c2 => by omega⟩).symm
      | exact (vP_f (fun c => h8 c.1)).symm
      | exact (vP_f (fun c => h25 c.2.1)).symm
      | exact (vP_f (fun c => h42 c.2.2.1)).symm
      | exact (vP_f (fun c => h59 c.2.2.2.1)).symm
    · refine x_aload_n dX4_isLike_28 rfl rfl ?_
      refine g_getR (kI := 0) rfl dX4_isLike_29 fX4_12_4 (by assumption) (by assumption) ?_
      refine g_getI (kI := 2) rfl dX4_isLike_32 fX4_32_5 (by assumption) ?_
      refine x_aload_n dX4_isLike_35 rfl rfl ?_
      refine g_getR (kI := 0) rfl dX4_isLike_36 fX4_12_4 (by assumption) (by assumption) ?_
      refine g_getI (kI := 2) rfl dX4_isLike_39 fX4_32_5 (by assumption) ?_
      refine x_icmp_ne (tgt := 66) dX4_isLike_42 (by decide) (fun h42 => ?_) (fun h42 => ?_)
      · refine x_iconst dX4_isLike_66 rfl ?_
        refine x_istore_n (L' := [some _, some _, some _, none]) dX4_isLike_67 rfl (by decide) rfl ?_
        refine x_iconst dX4_isLike_68 rfl ?_
        refine x_istore_n (L' := [some _, some _, some _, some _]) dX4_isLike_69 rfl (by decide) rfl ?_
        refine loop _ 0 _ rfl (by omega) (by omega) ?_
        first
        | exact (vP_t ⟨h8, h25, h42, h59, fun i c1 c2 => by omega⟩).symm
        | exact (vP_f (fun c => h8 c.1)).symm
        | exact (vP_f (fun c => h25 c.2.1)).symm
        | exact (vP_f (fun c => h42 c.2.2.1)).symm
        | exact (vP_f (fun c => h59 c.2.2.2.1)).symm
      · refine x_aload_n dX4_isLike_45 rfl rfl ?_
        refine g_getR (kI := 0) rfl dX4_isLike_46 fX4_12_4 (by assumption) (by assumption) ?_
        refine g_getI (kI := 3) rfl dX4_isLike_49 fX4_35_5 (by assumption) ?_
        refine x_aload_n dX4_isLike_52 rfl rfl ?_
        refine g_getR (kI := 0) rfl dX4_isLike_53 fX4_12_4 (by assumption) (by assumption) ?_
        refine g_getI (kI := 3) rfl dX4_isLike_56 fX4_35_5 (by assumption) ?_
        refine x_icmp_ne (tgt := 66) dX4_isLike_59 (by decide) (fun h59 => ?_) (fun h59 => ?_)
        · refine x_iconst dX4_isLike_66 rfl ?_
          refine x_istore_n (L' := [some _, some _, some _, none]) dX4_isLike_67 rfl (by decide) rfl ?_
          refine x_iconst dX4_isLike_68 rfl ?_
          refine x_istore_n (L' := [some _, some _, some _, some _]) dX4_isLike_69 rfl (by decide) rfl ?_
          refine loop _ 0 _ rfl (by omega) (by omega) ?_
          first
          | exact (vP_t ⟨h8, h25, h42, h59, fun i c1 c2 => by omega⟩).symm
          | exact (vP_f (fun c => h8 c.1)).symm
          | exact (vP_f (fun c => h25 c.2.1)).symm
          | exact (vP_f (fun c => h42 c.2.2.1)).symm
          | exact (vP_f (fun c => h59 c.2.2.2.1)).symm
        · refine x_iconst dX4_isLike_62 rfl ?_
          refine x_goto (tgt := 67) dX4_isLike_63 (by decide) ?_
          refine x_istore_n (L' := [some _, some _, some _, none]) dX4_isLike_67 rfl (by decide) rfl ?_
          refine x_iconst dX4_isLike_68 rfl ?_
          refine x_istore_n (L' := [some _, some _, some _, some _]) dX4_isLike_69 rfl (by decide) rfl ?_
          refine loop _ 0 _ rfl (by omega) (by omega) ?_
          first
          | exact (vP_t ⟨h8, h25, h42, h59, fun i c1 c2 => by omega⟩).symm
          | exact (vP_f (fun c => h8 c.1)).symm
          | exact (vP_f (fun c => h25 c.2.1)).symm
          | exact (vP_f (fun c => h42 c.2.2.1)).symm
          | exact (vP_f (fun c => h59 c.2.2.2.1)).symm
end X4

