/-! GuestView$Op -/
/-- an operation lies at o: its cells -/
def OpS (sh : Int → Option (Nat × Int)) (cr : Int → Int → Option Int) (o : Int) : Prop :=
  0 ≤ o ∧ sh o = some (6, 0) ∧ cr o 0 = some (o + 1) ∧ cr o 1 = some (o + 2) ∧ cr o 2 = some (o + 3) ∧ sh (o + 1) = some (100, 3) ∧ sh (o + 2) = some (100, 3) ∧ sh (o + 3) = some (100, 4)
/-- the operation at o is as the one at p was -/
def OpBe (f g : Int → Int → Int) (o p : Int) : Prop := (∀ i, 0 ≤ i → i < 3 → g (o + 1) i = f (p + 1) i ∧ g (o + 2) i = f (p + 2) i) ∧ (∀ i, 0 ≤ i → i < 4 → g (o + 3) i = f (p + 3) i) ∧ g o 3 = f p 3 ∧ g o 4 = f p 4 ∧ g o 5 = f p 5
section X6
variable {G : GW} {d : Nat} {M : Mem} {o w : Int}
theorem s_X6_is (hd : 10 ≤ d) (h : OpS (msh M) (mcr M) o) (h0 : 0 ≤ w) (h1 : w < 4) : CS G d mX6_is [dR o, dI w] M (postI fun x M1 => x = vP (mci M (o + 3) w ≠ -1) ∧ M1 = M) := by
  obtain ⟨p0, p1, p2, p3, p4, p5, p6, p7⟩ := h
  refine CS.mk (by decide) (Nat.le_of_ble_eq_true rfl) ?_
  refine x_aload_n dX6_is_0 rfl rfl ?_
  refine g_getR (kI := 2) rfl dX6_is_1 fX6_18_6 (by assumption) (by assumption) ?_
  refine x_iload_n dX6_is_4 rfl rfl ?_
  refine x_iald dX6_is_5 (by assumption) (by omega) (by omega) ?_
  refine x_iconst dX6_is_6 rfl ?_
  refine x_icmp_eq (tgt := 14) dX6_is_7 (by decide) (fun h7 => ?_) (fun h7 => ?_)
  · refine x_iconst dX6_is_14 rfl ?_
    refine x_zreturn (by first | exact Or.inl rfl | exact Or.inr rfl | exact vB_r _ | assumption | omega) rfl dX6_is_15 ?_
    exact ⟨_, rfl, (by first | exact (vP_t h7).symm | exact (vP_f (fun q => q h7)).symm), rfl⟩
  · refine x_iconst dX6_is_10 rfl ?_
    refine x_goto (tgt := 15) dX6_is_11 (by decide) ?_
    refine x_zreturn (by first | exact Or.inl rfl | exact Or.inr rfl | exact vB_r _ | assumption | omega) rfl dX6_is_15 ?_
    exact ⟨_, rfl, (by first | exact (vP_t h7).symm | exact (vP_f (fun q => q h7)).symm), rfl⟩
theorem s_X6_isSensitive (hd : 11 ≤ d) (h : OpS (msh M) (mcr M) o) : CS G d mX6_isSensitive [dR o] M (postI fun x M1 => x = vP (mci M (o + 3) 0 ≠ -1 ∨ mci M (o + 3) 1 ≠ -1 ∨ mci M (o + 3) 2 ≠ -1) ∧ M1 = M) := by
  have hh := h
  obtain ⟨p0, p1, p2, p3, p4, p5, p6, p7⟩ := h
  refine CS.mk (by decide) (Nat.le_of_ble_eq_true rfl) ?_
  refine x_aload_n dX6_isSensitive_0 rfl rfl ?_
  refine x_iconst dX6_isSensitive_1 rfl ?_
  refine g_callI (vs := [_, _]) (d' := d - 1) rfl (s_X6_is (by omega) hh (by omega) (by omega)) dX6_isSensitive_2 kX6_38 (by omega) (by decide) rfl (Nat.le_of_ble_eq_true rfl) (rcv_o (by assumption) rfl) (fun x2 M2 h2 => ?_)
  obtain ⟨rfl, rfl⟩ := h2
  refine x_if_ne (tgt := 24) dX6_isSensitive_5 (by decide) (fun h5 => ?_) (fun h5 => ?_)
  · refine x_iconst dX6_isSensitive_24 rfl ?_
    refine x_goto (tgt := 29) dX6_isSensitive_25 (by decide) ?_
    refine x_zreturn (by first | exact Or.inl rfl | exact Or.inr rfl | exact vB_r _ | assumption | omega) rfl dX6_isSensitive_29 ?_
    refine ⟨_, rfl, ?_, rfl⟩
    simp only [vP_0] at *
    first | exact (vP_t (by simp_all)).symm | exact (vP_f (by simp_all)).symm
  · refine x_aload_n dX6_isSensitive_8 rfl rfl ?_
    refine x_iconst dX6_isSensitive_9 rfl ?_
    refine g_callI (vs := [_, _]) (d' := d - 1) rfl (s_X6_is (by omega) hh (by omega) (by omega)) dX6_isSensitive_10 kX6_38 (by omega) (by decide) rfl (Nat.le_of_ble_eq_true rfl) (rcv_o (by assumption) rfl) (fun x10 M10 h10 => ?_)
    obtain ⟨rfl, rfl⟩ := h10
    refine x_if_ne (tgt := 24) dX6_isSensitive_13 (by decide) (fun h13 => ?_) (fun h13 => ?_)
    · refine x_iconst dX6_isSensitive_24 rfl ?_
      refine x_goto (tgt := 29) dX6_isSensitive_25 (by decide) ?_
      refine x_zreturn (by first | exact Or.inl rfl | exact Or.inr rfl | exact vB_r _ | assumption | omega) rfl dX6_isSensitive_29 ?_
      refine ⟨_, rfl, ?_, rfl⟩
      simp only [vP_0] at *
      first | exact (vP_t (by simp_all)).symm | exact (vP_f (by simp_all)).symm
    · refine x_aload_n dX6_isSensitive_16 rfl rfl ?_
      refine x_iconst dX6_isSensitive_17 rfl ?_
      refine g_callI (vs := [_, _]) (d' := d - 1) rfl (s_X6_is (by omega) hh (by omega) (by omega)) dX6_isSensitive_18 kX6_38 (by omega) (by decide) rfl (Nat.le_of_ble_eq_true rfl) (rcv_o (by assumption) rfl) (fun x18 M18 h18 => ?_)
      obtain ⟨rfl, rfl⟩ := h18
      refine x_if_eq (tgt := 28) dX6_isSensitive_21 (by decide) (fun h21 => ?_) (fun h21 => ?_)
      · refine x_iconst dX6_isSensitive_28 rfl ?_
        refine x_zreturn (by first | exact Or.inl rfl | exact Or.inr rfl | exact vB_r _ | assumption | omega) rfl dX6_isSensitive_29 ?_
        refine ⟨_, rfl, ?_, rfl⟩
        simp only [vP_0] at *
        first | exact (vP_t (by simp_all)).symm | exact (vP_f (by simp_all)).symm
      · refine x_iconst dX6_isSensitive_24 rfl ?_
        refine x_goto (tgt := 29) dX6_isSensitive_25 (by decide) ?_
        refine x_zreturn (by first | exact Or.inl rfl | exact Or.inr rfl | exact vB_r _ | assumption | omega) rfl dX6_isSensitive_29 ?_
        refine ⟨_, rfl, ?_, rfl⟩
        simp only [vP_0] at *
        first | exact (vP_t (by simp_all)).symm | exact (vP_f (by simp_all)).symm
theorem s_X6_begins {t : Int} (hd : 10 ≤ d) (ht : t = 0 ∨ t = 1) (h : OpS (msh M) (mcr M) o) : CS G d mX6_begins [dR o, dI t] M (postN fun M1 => M1 = wI M (up (up (up (mci M) o 3 0) o 4 t) o 5 0)) := by
  obtain ⟨p0, p1, p2, p3, p4, p5, p6, p7⟩ := h
  refine CS.mk (by decide) (Nat.le_of_ble_eq_true rfl) ?_
  refine x_aload_n dX6_begins_0 rfl rfl ?_
  refine x_iconst dX6_begins_1 rfl ?_
  refine g_putI (kI := 3) rfl dX6_begins_2 fX6_27_6 (by assumption) ?_
  refine x_aload_n dX6_begins_5 rfl rfl ?_
  refine x_iload_n dX6_begins_6 rfl rfl ?_
  refine g_putZ (by first | exact Or.inl rfl | exact Or.inr rfl | exact vB_r _ | omega) (kI := 4) rfl dX6_begins_7 fX6_31_6 (by assumption) ?_
  refine x_aload_n dX6_begins_10 rfl rfl ?_
  refine x_iconst dX6_begins_11 rfl ?_
  refine g_putZ (by first | exact Or.inl rfl | exact Or.inr rfl | exact vB_r _ | omega) (kI := 5) rfl dX6_begins_12 fX6_35_6 (by assumption) ?_
  refine x_vreturn rfl dX6_begins_15 ?_
  exact ⟨rfl, rfl⟩
theorem s_X6_adds {kind n : Int} (hd : 10 ≤ d) (h : OpS (msh M) (mcr M) o) (hm : 0 ≤ mci M o 3 ∧ mci M o 3 < 3) : CS G d mX6_adds [dR o, dI kind, dI n] M (postN fun M1 => M1 = wI M (up (up (up (mci M) (o + 1) (mci M o 3) kind) (o + 2) (mci M o 3) n) o 3 (mci M o 3 + 1))) := by
  obtain ⟨p0, p1, p2, p3, p4, p5, p6, p7⟩ := h
  have e1 : ∀ v, mci (mI M (o + 1) (mci M o 3) v) o 3 = mci M o 3 := fun v => if_neg (by omega)
  have e2 : ∀ v u, mci (mI (mI M (o + 1) (mci M o 3) v) (o + 2) (mci M o 3) u) o 3 = mci M o 3 := fun v u => (if_neg (by omega)).trans (e1 v)
  refine CS.mk (by decide) (Nat.le_of_ble_eq_true rfl) ?_
  refine x_aload_n dX6_adds_0 rfl rfl ?_
  refine g_getR (kI := 0) rfl dX6_adds_1 fX6_9_6 (by assumption) (by assumption) ?_
  refine x_aload_n dX6_adds_4 rfl rfl ?_
  refine g_getI (kI := 3) rfl dX6_adds_5 fX6_27_6 (by assumption) ?_
  refine x_iload_n dX6_adds_8 rfl rfl ?_
  refine x_iast (by omega) dX6_adds_9 (by assumption) (by omega) (by omega) ?_
  refine x_aload_n dX6_adds_10 rfl rfl ?_
  refine g_getR (kI := 1) rfl dX6_adds_11 fX6_15_6 (by assumption) (by assumption) ?_
  refine x_aload_n dX6_adds_14 rfl rfl ?_
  refine g_getI (kI := 3) rfl dX6_adds_15 fX6_27_6 (by assumption) ?_
  rw [e1]
  refine x_iload_n dX6_adds_18 rfl rfl ?_
  refine x_iast (by omega) dX6_adds_19 (by assumption) (by omega) (by omega) ?_
  refine x_aload_n dX6_adds_20 rfl rfl ?_
  refine x_dup dX6_adds_21 rfl ?_
  refine g_getI (kI := 3) rfl dX6_adds_22 fX6_27_6 (by assumption) ?_
  rw [e2]
  refine x_iconst dX6_adds_25 rfl ?_
  first | refine x_iaddN dX6_adds_26 (by unfold i32; omega) ?_ | refine x_iadd dX6_adds_26 ?_
  refine g_putI (kI := 3) rfl dX6_adds_27 fX6_27_6 (by assumption) ?_
  refine x_vreturn rfl dX6_adds_30 ?_
  exact ⟨rfl, rfl⟩
theorem s_X6_touches {kind n : Int} (hd : 10 ≤ d) (h : OpS (msh M) (mcr M) o) (hm : 0 ≤ mci M o 3 ∧ mci M o 3 ≤ 3) : CS G d mX6_touches [dR o, dI kind, dI n] M (postI fun x M1 => x = vP (tch (mci M o 3) (mci M (o + 1)) (mci M (o + 2)) kind n) ∧ M1 = M) := by
  obtain ⟨p0, p1, p2, p3, p4, p5, p6, p7⟩ := h
  have loop : ∀ (t : Nat) (k any : Int), (mci M o 3 - k).toNat = t → 0 ≤ k → k ≤ mci M o 3 → any = vP (tch k (mci M (o + 1)) (mci M (o + 2)) kind n) → WP G d mX6_touches 5 [some (dR o), some (dI kind), some (dI n), some (dI any), some (dI k)] [] M (postI fun x M1 => x = vP (tch (mci M o 3) (mci M (o + 1)) (mci M (o + 2)) kind n) ∧ M1 = M) := by
    intro t
    induction t using Nat.strongRecOn with
    | _ t ih =>
      intro k any ht hk hk2 hany
      have ha : any = 0 ∨ any = 1 := by rw [hany]; exact vP_r _
      refine x_iload dX6_touches_5 rfl ?_
      refine x_aload_n dX6_touches_7 rfl rfl ?_
      refine g_getI (kI := 3) rfl dX6_touches_8 fX6_27_6 (by assumption) ?_
      refine x_icmp_ge (tgt := 50) dX6_touches_11 (by decide) (fun h11 => ?_) (fun h11 => ?_)
      · refine x_iload_n dX6_touches_50 rfl rfl ?_
        refine x_zreturn (by first | exact ha) rfl dX6_touches_51 ?_
        have : k = mci M o 3 := by omega
        exact ⟨_, rfl, by rw [hany, this], rfl⟩
      · refine x_iload_n dX6_touches_14 rfl rfl ?_
        refine x_aload_n dX6_touches_15 rfl rfl ?_
        refine g_getR (kI := 0) rfl dX6_touches_16 fX6_9_6 (by assumption) (by assumption) ?_
        refine x_iload dX6_touches_19 rfl ?_
        refine x_iald dX6_touches_21 (by assumption) (by omega) (by omega) ?_
        refine x_iload_n dX6_touches_22 rfl rfl ?_
        refine x_icmp_ne (tgt := 41) dX6_touches_23 (by decide) (fun h23 => ?_) (fun h23 => ?_)
        · refine x_iconst dX6_touches_41 rfl ?_
          refine x_ior dX6_touches_42 ?_
          refine x_istore_n (L' := [some _, some _, some _, some _, some _]) dX6_touches_43 rfl (by decide) rfl ?_
          first | refine x_iincN (L' := [some _, some _, some _, some _, some _]) dX6_touches_44 rfl (by decide) (by unfold i32; omega) rfl ?_ | refine x_iinc (L' := [some _, some _, some _, some _, some _]) dX6_touches_44 rfl (by decide) rfl ?_
          refine x_goto (tgt := 5) dX6_touches_47 (by decide) ?_
          exact ih _ (by omega) (k + 1) _ rfl (by omega) (by omega) (by first | rw [jor_1 ha, vP_t ((tch_s hk).mpr (Or.inr ⟨h23, h34⟩))] | rw [jor_0 ha, hany, vP_c (tch_s hk)]; exact vP_c (by simp_all))
        · refine x_aload_n dX6_touches_26 rfl rfl ?_
          refine g_getR (kI := 1) rfl dX6_touches_27 fX6_15_6 (by assumption) (by assumption) ?_
          refine x_iload dX6_touches_30 rfl ?_
          refine x_iald dX6_touches_32 (by assumption) (by omega) (by omega) ?_
          refine x_iload_n dX6_touches_33 rfl rfl ?_
          refine x_icmp_ne (tgt := 41) dX6_touches_34 (by decide) (fun h34 => ?_) (fun h34 => ?_)
          · refine x_iconst dX6_touches_41 rfl ?_
            refine x_ior dX6_touches_42 ?_
            refine x_istore_n (L' := [some _, some _, some _, some _, some _]) dX6_touches_43 rfl (by decide) rfl ?_
            first | refine x_iincN (L' := [some _, some _, some _, some _, some _]) dX6_touches_44 rfl (by decide) (by unfold i32; omega) rfl ?_ | refine x_iinc (L' := [some _, some _, some _, some _, some _]) dX6_touches_44 rfl (by decide) rfl ?_
            refine x_goto (tgt := 5) dX6_touches_47 (by decide) ?_
            exact ih _ (by omega) (k + 1) _ rfl (by omega) (by omega) (by first | rw [jor_1 ha, vP_t ((tch_s hk).mpr (Or.inr ⟨h23, h34⟩))] | rw [jor_0 ha, hany, vP_c (tch_s hk)]; exact vP_c (by simp_all))
          · refine x_iconst dX6_touches_37 rfl ?_
            refine x_goto (tgt := 42) dX6_touches_38 (by decide) ?_
            refine x_ior dX6_touches_42 ?_
            refine x_istore_n (L' := [some _, some _, some _, some _, some _]) dX6_touches_43 rfl (by decide) rfl ?_
            first | refine x_iincN (L' := [some _, some _, some _, some _, some _]) dX6_touches_44 rfl (by decide) (by unfold i32; omega) rfl ?_ | refine x_iinc (L' := [some _, some _, some _, some _, some _]) dX6_touches_44 rfl (by decide) rfl ?_
            refine x_goto (tgt := 5) dX6_touches_47 (by decide) ?_
            exact ih _ (by omega) (k + 1) _ rfl (by omega) (by omega) (by first | rw [jor_1 ha, vP_t ((tch_s hk).mpr (Or.inr ⟨h23, h34⟩))] | rw [jor_0 ha, hany, vP_c (tch_s hk)]; exact vP_c (by simp_all))
  refine CS.mk (by decide) (Nat.le_of_ble_eq_true rfl) ?_
  refine x_iconst dX6_touches_0 rfl ?_
  refine x_istore_n (L' := [some _, some _, some _, some _, none]) dX6_touches_1 rfl (by decide) rfl ?_
  refine x_iconst dX6_touches_2 rfl ?_
  refine x_istore (L' := [some _, some _, some _, some _, some _]) dX6_touches_3 (by decide) rfl ?_
  exact loop _ 0 0 rfl (by omega) (by omega) (vP_f tch_0).symm
theorem s_X6_isLike {p : Int} (hd : 10 ≤ d) (h : OpS (msh M) (mcr M) o) (h' : OpS (msh M) (mcr M) p) (hm : 0 ≤ mci M o 3 ∧ mci M o 3 ≤ 3) : CS G d mX6_isLike [dR o, dR p] M (postI fun x M1 => x = vP (likeO (mci M o 3) (mci M p 3) (mci M o 4) (mci M p 4) (mci M (o + 1)) (mci M (o + 2)) (mci M (p + 1)) (mci M (p + 2)) (mci M o 3)) ∧ M1 = M) := by
  obtain ⟨p0, p1, p2, p3, p4, p5, p6, p7⟩ := h
  obtain ⟨r0, r1, r2, r3, r4, r5, r6, r7⟩ := h'
  have loop : ∀ (t : Nat) (k like : Int), (mci M o 3 - k).toNat = t → 0 ≤ k → k ≤ mci M o 3 → like = vP (likeO (mci M o 3) (mci M p 3) (mci M o 4) (mci M p 4) (mci M (o + 1)) (mci M (o + 2)) (mci M (p + 1)) (mci M (p + 2)) k) → WP G d mX6_isLike 30 [some (dR o), some (dR p), some (dI like), some (dI k)] [] M (postI fun x M1 => x = vP (likeO (mci M o 3) (mci M p 3) (mci M o 4) (mci M p 4) (mci M (o + 1)) (mci M (o + 2)) (mci M (p + 1)) (mci M (p + 2)) (mci M o 3)) ∧ M1 = M) := by
    intro t
    induction t using Nat.strongRecOn with
    | _ t ih =>
      intro k like ht hk hk2 hl
      have ha : like = 0 ∨ like = 1 := by rw [hl]; exact vP_r _
      refine x_iload_n dX6_isLike_30 rfl rfl ?_
      refine x_aload_n dX6_isLike_31 rfl rfl ?_
      refine g_getI (kI := 3) rfl dX6_isLike_32 fX6_27_6 (by assumption) ?_
      refine x_icmp_ge (tgt := 84) dX6_isLike_35 (by decide) (fun h35 => ?_) (fun h35 => ?_)
      · refine x_iload_n dX6_isLike_84 rfl rfl ?_
        refine x_zreturn (by exact ha) rfl dX6_isLike_85 ?_
        refine ⟨_, rfl, ?_, rfl⟩
        by_cases e : k = mci M o 3
        · rw [hl, e]
        · have hz : like = 0 := by omega
          rw [hz]
          refine (vP_f fun q => ?_).symm
          have := vP_0.mp (hl.symm.trans hz)
          exact this ⟨q.1, q.2.1, fun i a b => q.2.2 i a (by omega)⟩
      · refine x_iload_n dX6_isLike_38 rfl rfl ?_
        refine x_if_eq (tgt := 84) dX6_isLike_39 (by decide) (fun h39 => ?_) (fun h39 => ?_)
        · refine x_iload_n dX6_isLike_84 rfl rfl ?_
          refine x_zreturn (by exact ha) rfl dX6_isLike_85 ?_
          refine ⟨_, rfl, ?_, rfl⟩
          by_cases e : k = mci M o 3
          · rw [hl, e]
          · have hz : like = 0 := by omega
            rw [hz]
            refine (vP_f fun q => ?_).symm
            have := vP_0.mp (hl.symm.trans hz)
            exact this ⟨q.1, q.2.1, fun i a b => q.2.2 i a (by omega)⟩
        · refine x_aload_n dX6_isLike_42 rfl rfl ?_
          refine g_getR (kI := 0) rfl dX6_isLike_43 fX6_9_6 (by assumption) (by assumption) ?_
          refine x_iload_n dX6_isLike_46 rfl rfl ?_
          refine x_iald dX6_isLike_47 (by assumption) (by omega) (by omega) ?_
          refine x_aload_n dX6_isLike_48 rfl rfl ?_
          refine g_getR (kI := 0) rfl dX6_isLike_49 fX6_9_6 (by assumption) (by assumption) ?_
          refine x_iload_n dX6_isLike_52 rfl rfl ?_
          refine x_iald dX6_isLike_53 (by assumption) (by omega) (by omega) ?_
          refine x_icmp_ne (tgt := 76) dX6_isLike_54 (by decide) (fun h54 => ?_) (fun h54 => ?_)
          · refine x_iconst dX6_isLike_76 rfl ?_
            refine x_istore_n (L' := [some _, some _, some _, some _]) dX6_isLike_77 rfl (by decide) rfl ?_
            first | refine x_iincN (L' := [some _, some _, some _, some _]) dX6_isLike_78 rfl (by decide) (by unfold i32; omega) rfl ?_ | refine x_iinc (L' := [some _, some _, some _, some _]) dX6_isLike_78 rfl (by decide) rfl ?_
            refine x_goto (tgt := 30) dX6_isLike_81 (by decide) ?_
            refine ih _ (by omega) (k + 1) _ rfl (by omega) (by omega) (vP_e (by omega) ?_)
            have hl1 : likeO (mci M o 3) (mci M p 3) (mci M o 4) (mci M p 4) (mci M (o + 1)) (mci M (o + 2)) (mci M (p + 1)) (mci M (p + 2)) k := vP_1.mp (by omega)
            first | exact ⟨fun _ => ⟨hl1.1, hl1.2.1, fun i a b => if e : i = k then by subst e; exact ⟨h54, h69⟩ else hl1.2.2 i a (by omega)⟩, fun _ => rfl⟩ | exact ⟨fun q => by omega, fun q => by have := q.2.2 k hk (by omega); omega⟩
          · refine x_aload_n dX6_isLike_57 rfl rfl ?_
            refine g_getR (kI := 1) rfl dX6_isLike_58 fX6_15_6 (by assumption) (by assumption) ?_
            refine x_iload_n dX6_isLike_61 rfl rfl ?_
            refine x_iald dX6_isLike_62 (by assumption) (by omega) (by omega) ?_
            refine x_aload_n dX6_isLike_63 rfl rfl ?_
            refine g_getR (kI := 1) rfl dX6_isLike_64 fX6_15_6 (by assumption) (by assumption) ?_
            refine x_iload_n dX6_isLike_67 rfl rfl ?_
            refine x_iald dX6_isLike_68 (by assumption) (by omega) (by omega) ?_
            refine x_icmp_ne (tgt := 76) dX6_isLike_69 (by decide) (fun h69 => ?_) (fun h69 => ?_)
            · refine x_iconst dX6_isLike_76 rfl ?_
              refine x_istore_n (L' := [some _, some _, some _, some _]) dX6_isLike_77 rfl (by decide) rfl ?_
              first | refine x_iincN (L' := [some _, some _, some _, some _]) dX6_isLike_78 rfl (by decide) (by unfold i32; omega) rfl ?_ | refine x_iinc (L' := [some _, some _, some _, some _]) dX6_isLike_78 rfl (by decide) rfl ?_
              refine x_goto (tgt := 30) dX6_isLike_81 (by decide) ?_
              refine ih _ (by omega) (k + 1) _ rfl (by omega) (by omega) (vP_e (by omega) ?_)
              have hl1 : likeO (mci M o 3) (mci M p 3) (mci M o 4) (mci M p 4) (mci M (o + 1)) (mci M (o + 2)) (mci M (p + 1)) (mci M (p + 2)) k := vP_1.mp (by omega)
              first | exact ⟨fun _ => ⟨hl1.1, hl1.2.1, fun i a b => if e : i = k then by subst e; exact ⟨h54, h69⟩ else hl1.2.2 i a (by omega)⟩, fun _ => rfl⟩ | exact ⟨fun q => by omega, fun q => by have := q.2.2 k hk (by omega); omega⟩
            · refine x_iconst dX6_isLike_72 rfl ?_
              refine x_goto (tgt := 77) dX6_isLike_73 (by decide) ?_
              refine x_istore_n (L' := [some _, some _, some _, some _]) dX6_isLike_77 rfl (by decide) rfl ?_
              first | refine x_iincN (L' := [some _, some _, some _, some _]) dX6_isLike_78 rfl (by decide) (by unfold i32; omega) rfl ?_ | refine x_iinc (L' := [some _, some _, some _, some _]) dX6_isLike_78 rfl (by decide) rfl ?_
              refine x_goto (tgt := 30) dX6_isLike_81 (by decide) ?_
              refine ih _ (by omega) (k + 1) _ rfl (by omega) (by omega) (vP_e (by omega) ?_)
              have hl1 : likeO (mci M o 3) (mci M p 3) (mci M o 4) (mci M p 4) (mci M (o + 1)) (mci M (o + 2)) (mci M (p + 1)) (mci M (p + 2)) k := vP_1.mp (by omega)
              first | exact ⟨fun _ => ⟨hl1.1, hl1.2.1, fun i a b => if e : i = k then by subst e; exact ⟨h54, h69⟩ else hl1.2.2 i a (by omega)⟩, fun _ => rfl⟩ | exact ⟨fun q => by omega, fun q => by have := q.2.2 k hk (by omega); omega⟩
  refine CS.mk (by decide) (Nat.le_of_ble_eq_true rfl) ?_
  refine x_aload_n dX6_isLike_0 rfl rfl ?_
  refine g_getI (kI := 3) rfl dX6_isLike_1 fX6_27_6 (by assumption) ?_
  refine x_aload_n dX6_isLike_4 rfl rfl ?_
  refine g_getI (kI := 3) rfl dX6_isLike_5 fX6_27_6 (by assumption) ?_
  refine x_icmp_ne (tgt := 26) dX6_isLike_8 (by decide) (fun h8 => ?_) (fun h8 => ?_)
  · refine x_iconst dX6_isLike_26 rfl ?_
    refine x_istore_n (L' := [some _, some _, some _, none]) dX6_isLike_27 rfl (by decide) rfl ?_
    refine x_iconst dX6_isLike_28 rfl ?_
    refine x_istore_n (L' := [some _, some _, some _, some _]) dX6_isLike_29 rfl (by decide) rfl ?_
    refine loop _ 0 _ rfl (by omega) (by omega) (vP_e (by omega) ?_)
    unfold likeO
    first | exact ⟨fun _ => ⟨h8, h19, fun i a b => by omega⟩, fun _ => rfl⟩ | exact ⟨fun q => by omega, fun q => by have := q.1; have := q.2.1; omega⟩
  · refine x_aload_n dX6_isLike_11 rfl rfl ?_
    refine g_getZ (kI := 4) rfl dX6_isLike_12 fX6_31_6 (by assumption) ?_
    refine x_aload_n dX6_isLike_15 rfl rfl ?_
    refine g_getZ (kI := 4) rfl dX6_isLike_16 fX6_31_6 (by assumption) ?_
    refine x_icmp_ne (tgt := 26) dX6_isLike_19 (by decide) (fun h19 => ?_) (fun h19 => ?_)
    · refine x_iconst dX6_isLike_26 rfl ?_
      refine x_istore_n (L' := [some _, some _, some _, none]) dX6_isLike_27 rfl (by decide) rfl ?_
      refine x_iconst dX6_isLike_28 rfl ?_
      refine x_istore_n (L' := [some _, some _, some _, some _]) dX6_isLike_29 rfl (by decide) rfl ?_
      refine loop _ 0 _ rfl (by omega) (by omega) (vP_e (by omega) ?_)
      unfold likeO
      first | exact ⟨fun _ => ⟨h8, h19, fun i a b => by omega⟩, fun _ => rfl⟩ | exact ⟨fun q => by omega, fun q => by have := q.1; have := q.2.1; omega⟩
    · refine x_iconst dX6_isLike_22 rfl ?_
      refine x_goto (tgt := 27) dX6_isLike_23 (by decide) ?_
      refine x_istore_n (L' := [some _, some _, some _, none]) dX6_isLike_27 rfl (by decide) rfl ?_
      refine x_iconst dX6_isLike_28 rfl ?_
      refine x_istore_n (L' := [some _, some _, some _, some _]) dX6_isLike_29 rfl (by decide) rfl ?_
      refine loop _ 0 _ rfl (by omega) (by omega) (vP_e (by omega) ?_)
      unfold likeO
      first | exact ⟨fun _ => ⟨h8, h19, fun i a b => by omega⟩, fun _ => rfl⟩ | exact ⟨fun q => by omega, fun q => by have := q.1; have := q.2.1; omega⟩
theorem s_X6_be {p : Int} (hd : 10 ≤ d) (h : OpS (msh M) (mcr M) o) (h' : OpS (msh M) (mcr M) p) (hap : p + 3 < o ∨ o + 3 < p) (hb : (mci M p 4 = 0 ∨ mci M p 4 = 1) ∧ (mci M p 5 = 0 ∨ mci M p 5 = 1)) : CS G d mX6_be [dR o, dR p] M (postN fun M1 => ∃ g, M1 = wI M g ∧ OpBe (mci M) g o p ∧ ∀ b k, ¬ (o ≤ b ∧ b ≤ o + 3) → g b k = mci M b k) := by
  obtain ⟨p0, p1, p2, p3, p4, p5, p6, p7⟩ := h
  obtain ⟨r0, r1, r2, r3, r4, r5, r6, r7⟩ := h'
  refine CS.mk (by decide) (Nat.le_of_ble_eq_true rfl) ?_
  refine x_aload_n dX6_be_0 rfl rfl ?_
  refine g_getR (kI := 0) rfl dX6_be_1 fX6_9_6 (by assumption) (by assumption) ?_
  refine x_iconst dX6_be_4 rfl ?_
  refine x_aload_n dX6_be_5 rfl rfl ?_
  refine g_getR (kI := 0) rfl dX6_be_6 fX6_9_6 (by assumption) (by assumption) ?_
  refine x_iconst dX6_be_9 rfl ?_
  refine x_iconst dX6_be_10 rfl ?_
  refine x_copyI kX6_21 (by omega) dX6_be_11 (by assumption) (by omega) (by assumption) (by omega) (by omega) (by omega) (by omega) (by omega) (Nat.le_of_ble_eq_true rfl) ?_
  refine x_aload_n dX6_be_14 rfl rfl ?_
  refine g_getR (kI := 1) rfl dX6_be_15 fX6_15_6 (by assumption) (by assumption) ?_
  refine x_iconst dX6_be_18 rfl ?_
  refine x_aload_n dX6_be_19 rfl rfl ?_
  refine g_getR (kI := 1) rfl dX6_be_20 fX6_15_6 (by assumption) (by assumption) ?_
  refine x_iconst dX6_be_23 rfl ?_
  refine x_iconst dX6_be_24 rfl ?_
  refine x_copyI kX6_21 (by omega) dX6_be_25 (by assumption) (by omega) (by assumption) (by omega) (by omega) (by omega) (by omega) (by omega) (Nat.le_of_ble_eq_true rfl) ?_
  refine x_aload_n dX6_be_28 rfl rfl ?_
  refine g_getR (kI := 2) rfl dX6_be_29 fX6_18_6 (by assumption) (by assumption) ?_
  refine x_iconst dX6_be_32 rfl ?_
  refine x_aload_n dX6_be_33 rfl rfl ?_
  refine g_getR (kI := 2) rfl dX6_be_34 fX6_18_6 (by assumption) (by assumption) ?_
  refine x_iconst dX6_be_37 rfl ?_
  refine x_iconst dX6_be_38 rfl ?_
  refine x_copyI kX6_21 (by omega) dX6_be_39 (by assumption) (by omega) (by assumption) (by omega) (by omega) (by omega) (by omega) (by omega) (Nat.le_of_ble_eq_true rfl) ?_
  refine x_aload_n dX6_be_42 rfl rfl ?_
  refine x_aload_n dX6_be_43 rfl rfl ?_
  refine g_getI (kI := 3) rfl dX6_be_44 fX6_27_6 (by assumption) ?_
  refine g_putI (kI := 3) rfl dX6_be_47 fX6_27_6 (by assumption) ?_
  refine x_aload_n dX6_be_50 rfl rfl ?_
  refine x_aload_n dX6_be_51 rfl rfl ?_
  refine g_getZ (kI := 4) rfl dX6_be_52 fX6_31_6 (by assumption) ?_
  refine g_putZ (by simp only [mI, mC]; grind) (kI := 4) rfl dX6_be_55 fX6_31_6 (by assumption) ?_
  refine x_aload_n dX6_be_58 rfl rfl ?_
  refine x_aload_n dX6_be_59 rfl rfl ?_
  refine g_getZ (kI := 5) rfl dX6_be_60 fX6_35_6 (by assumption) ?_
  refine g_putZ (by simp only [mI, mC]; grind) (kI := 5) rfl dX6_be_63 fX6_35_6 (by assumption) ?_
  refine x_vreturn rfl dX6_be_66 ?_
  refine ⟨rfl, _, rfl, ?_, ?_⟩
  · simp only [mI, mC, OpBe]
    grind
  · simp only [mI, mC]
    grind
end X6

