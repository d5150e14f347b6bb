/-! GuestView$State: steps without the law -/
def StS (sh : Int → Option (Nat × Int)) (cr : Int → Int → Option Int) (p : Int) : Prop :=
  0 ≤ p ∧ sh p = some (3, 0) ∧ (cr p 0 = some (p + 1) ∧ cr p 1 = some (p + 2) ∧ cr p 2 = some (p + 3) ∧ cr p 3 = some (p + 4) ∧ cr p 4 = some (p + 5) ∧ cr p 5 = some (p + 6) ∧ cr p 6 = some (p + 7) ∧ cr p 7 = some (p + 10)) ∧
  (sh (p + 1) = some (126, 8) ∧ sh (p + 2) = some (134, 12) ∧ sh (p + 3) = some (100, 10) ∧ sh (p + 4) = some (100, 240) ∧ sh (p + 5) = some (100, 10) ∧ sh (p + 6) = some (100, 8)) ∧
  GuS sh cr (p + 7) ∧ GuS sh cr (p + 10) ∧ ∀ k, 0 ≤ k → k < 8 → cr (p + 1) k = some (p + 13 + 4 * k) ∧ OpS sh cr (p + 13 + 4 * k)
/-- the operation at o is the operation k of a bench -/
def RelO (f : Int → Int → Int) (o : Int) (v : Vw) (k : Int) : Prop := f o 3 = opN v k ∧ f o 4 = opG v k ∧ f o 5 = opP v k ∧ ∀ i, 0 ≤ i → i < opN v k → f (o + 1) i = opK v k i ∧ f (o + 2) i = opX v k i
/-- the state at p is a bench, but for its guests, its law and its witnesses; so many rows at the most -/
def RelB (f : Int → Int → Int) (p : Int) (v : Vw) (N : Int) : Prop :=
  f p 8 = v 0 ∧ f p 9 = v 3 ∧ f p 11 = v 1 ∧ f p 12 = v 4 ∧ 2 * f p 13 = v 5 ∧ f p 14 = v 6 ∧ f p 15 = v 7 ∧ f p 16 = v 8 ∧ f p 17 = v 9 ∧ f p 18 = v 11 ∧
  (0 ≤ f p 19 ∧ f p 19 ≤ N ∧ (f p 19 ≤ 60 → v 10 = f p 19) ∧ (60 < f p 19 → v 10 = 60)) ∧
  (∀ k, 0 ≤ k → k < 10 → f (p + 5) k = v (12 + k)) ∧ (∀ k, 0 ≤ k → k < 8 → f (p + 6) k = v (22 + k)) ∧
  (∀ k, 0 ≤ k → k < v 0 → RelO f (p + 13 + 4 * k) v k) ∧
  ∀ ago j, 0 ≤ ago → ago < v 10 → 0 ≤ j → j < 4 → f (p + 4) ((f p 19 - 1 - ago) % 60 * 4 + j) = v (128 + 4 * ago + j)
/-- its witnesses are right -/
def RelW (f : Int → Int → Int) (p : Int) (v : Vw) : Prop := ∀ k w, 0 ≤ k → k < v 0 → 0 ≤ w → w < 4 → f (p + 13 + 4 * k + 3) w = witV v k w
/-- where a guest of use to the state at p lies -/
def GP (p q : Int) : Prop := q = p + 7 ∨ q = p + 10 ∨ q + 2 < p ∨ p + 44 < q
theorem RelO.d {f : Int → Int → Int} {o k : Int} {v : Vw} (h : RelO f o v k) (m : Ms) : doM (f o 3) (f (o + 1)) (f (o + 2)) m = opD v k m := by
  obtain ⟨h1, h2, h3, h4⟩ := h
  rw [h1]
  exact doM_congr m h4
theorem RelO.ok {f : Int → Int → Int} {o k : Int} {v : Vw} (h : RelO f o v k) (hv : okOp v k) : OpOk f o := by
  obtain ⟨h1, h2, h3, h4⟩ := h
  refine ⟨by rw [h1]; exact hv.1, by rw [h2]; exact hv.2.1, by rw [h3]; exact hv.2.2.1, fun i a b => ?_⟩
  rw [h1] at b
  rw [(h4 i a b).1, (h4 i a b).2]
  exact hv.2.2.2 i a b
/-- a bench told by the same cells -/
theorem RelB.at {f g : Int → Int → Int} {p N : Int} {v : Vw} (h : RelB f p v N) (hg : ∀ b k, (p ≤ b ∧ b ≤ p + 44) → ¬ (b = p + 3) → ¬ (p + 7 ≤ b ∧ b ≤ p + 12) → g b k = f b k) (hv : v 0 ≤ 8) : RelB g p v N := by
  obtain ⟨h1, h2, h3, h4, h5, h6, h7, h8, h9, h10, h11, h12, h13, h14, h15⟩ := h
  have e : ∀ k, g p k = f p k := fun k => hg _ _ (by omega) (by omega) (by omega)
  refine ⟨by rw [e]; exact h1, by rw [e]; exact h2, by rw [e]; exact h3, by rw [e]; exact h4, by rw [e]; exact h5, by rw [e]; exact h6, by rw [e]; exact h7, by rw [e]; exact h8, by rw [e]; exact h9, by rw [e]; exact h10, by rw [e]; exact h11, fun k a b => ?_, fun k a b => ?_, fun k a b => ?_, fun ago j a b c d => ?_⟩
  · rw [hg _ _ (by omega) (by omega) (by omega)]; exact h12 k a b
  · rw [hg _ _ (by omega) (by omega) (by omega)]; exact h13 k a b
  · obtain ⟨k1, k2, k3, k4⟩ := h14 k a b
    refine ⟨?_, ?_, ?_, fun i c1 c2 => ?_⟩
    · rw [hg _ _ (by omega) (by omega) (by omega)]; exact k1
    · rw [hg _ _ (by omega) (by omega) (by omega)]; exact k2
    · rw [hg _ _ (by omega) (by omega) (by omega)]; exact k3
    · rw [hg _ _ (by omega) (by omega) (by omega), hg _ _ (by omega) (by omega) (by omega)]; exact k4 i c1 c2
  · rw [e, hg _ _ (by omega) (by omega) (by omega)]; exact h15 ago j a b c d
theorem RelB.fo {f g : Int → Int → Int} {p N lo hi : Int} {v : Vw} (h : RelB f p v N) (hg : Fo lo hi f g) (hv : v 0 ≤ 8) (hq : lo ≤ hi → hi < p ∨ p + 44 < lo ∨ (p + 7 ≤ lo ∧ hi ≤ p + 12) ∨ (lo = p + 3 ∧ hi = p + 3)) : RelB g p v N :=
  h.at (fun b k a c e => hg b k (fun r => by have := hq (by omega); omega)) hv
theorem RelB.fg {f g : Int → Int → Int} {p N q : Int} {v : Vw} (h : RelB f p v N) (hg : Fo q (q + 2) f g) (hv : v 0 ≤ 8) (hq : GP p q) : RelB g p v N :=
  h.fo hg hv (fun _ => by unfold GP at hq; omega)
/-- a bench whose guests alone are others -/
def eqB (v v' : Vw) : Prop := ∀ k, ¬ (102 ≤ k ∧ k < 128) → v' k = v k
theorem eqB_set {v : Vw} {i pc cl : Int} {m : Ms} (hi : i = 0 ∨ i = 1) : eqB v (setG v i pc m cl) := fun k hk => setG_o (by unfold guA; omega)
theorem okB.op {v : Vw} (h : okB v) : ∀ p, 0 ≤ p → p < v 0 → okOp v p := h.2.2.2.2.2.2.2.2.2.2.2.2.2
theorem okB.n8 {v : Vw} (h : okB v) : v 0 ≤ 8 := h.1.2
theorem okB.l60 {v : Vw} (h : okB v) : 0 ≤ v 10 ∧ v 10 ≤ 60 := h.2.2.2.2.2.2.2.2.2.2.1
theorem okB.pr {v : Vw} (h : okB v) : ∀ k, 0 ≤ k → k < v 3 → 0 ≤ v (12 + k) ∧ v (12 + k) < v 0 := h.2.2.2.2.2.2.2.2.2.2.2.1
theorem okB.ce {v : Vw} (h : okB v) : ∀ k, 0 ≤ k → k < 8 → 0 ≤ v (22 + k) ∧ v (22 + k) < 4 := h.2.2.2.2.2.2.2.2.2.2.2.2.1
theorem RelB.eqB {f : Int → Int → Int} {p N : Int} {v v' : Vw} (h : RelB f p v N) (hv : okB v) (he : eqB v v') : RelB f p v' N := by
  obtain ⟨h1, h2, h3, h4, h5, h6, h7, h8, h9, h10, h11, h12, h13, h14, h15⟩ := h
  have hv8 := hv.n8
  have hv10 := hv.l60
  have e0 : v' 0 = v 0 := he 0 (by omega)
  have e10 : v' 10 = v 10 := he 10 (by omega)
  rw [← e0] at h1
  refine ⟨h1, by rw [he 3 (by omega)]; exact h2, by rw [he 1 (by omega)]; exact h3, by rw [he 4 (by omega)]; exact h4, by rw [he 5 (by omega)]; exact h5, by rw [he 6 (by omega)]; exact h6, by rw [he 7 (by omega)]; exact h7, by rw [he 8 (by omega)]; exact h8, by rw [he 9 (by omega)]; exact h9, by rw [he 11 (by omega)]; exact h10, by rw [e10]; exact h11, fun k a b => ?_, fun k a b => ?_, fun k a b => ?_, fun ago j a b c d => ?_⟩
  · rw [he _ (by omega)]; exact h12 k a b
  · rw [he _ (by omega)]; exact h13 k a b
  · rw [e0] at b
    obtain ⟨k1, k2, k3, k4⟩ := h14 k a b
    have eN : opN v' k = opN v k := he _ (by omega)
    refine ⟨by rw [eN]; exact k1, k2.trans (he _ (by omega)).symm, k3.trans (he _ (by omega)).symm, fun i c1 c2 => ?_⟩
    rw [eN] at c2
    have c3 := (hv.op k a b).1
    rw [show opK v' k i = opK v k i from he _ (by omega), show opX v' k i = opX v k i from he _ (by omega)]
    exact k4 i c1 c2
  · rw [e10] at b; rw [he _ (by omega)]; exact h15 ago j a b c d
theorem okB.eqB {v v' : Vw} (h : okB v) (he : eqB v v') : okB v' := by
  have hv8 := h.n8
  have hv0 := h.1.1
  obtain ⟨h1, h2, h3, h4, h5, h6, h7, h8, h9, h10, h11, h12, h13, h14⟩ := h
  refine ⟨by rw [he 0 (by omega)]; exact h1, by rw [he 1 (by omega)]; exact h2, by rw [he 2 (by omega)]; exact h3, by rw [he 3 (by omega)]; exact h4, by rw [he 4 (by omega)]; exact h5, by rw [he 5 (by omega)]; exact h6, by rw [he 6 (by omega)]; exact h7, by rw [he 7 (by omega)]; exact h8, by rw [he 8 (by omega)]; exact h9, by rw [he 9 (by omega)]; exact h10, by rw [he 10 (by omega)]; exact h11, fun k a b => ?_, fun k a b => ?_, fun k a b => ?_⟩
  · rw [he 3 (by omega)] at b; rw [he _ (by omega), he 0 (by omega)]; exact h12 k a b
  · rw [he _ (by omega)]; exact h13 k a b
  · rw [he 0 (by omega)] at b
    obtain ⟨k1, k2, k3, k4⟩ := h14 k a b
    have eN : opN v' k = opN v k := he _ (by omega)
    refine ⟨by rw [eN]; exact k1, by rw [show opG v' k = opG v k from he _ (by omega)]; exact k2, by rw [show opP v' k = opP v k from he _ (by omega)]; exact k3, fun i c1 c2 => ?_⟩
    rw [eN] at c2
    rw [show opK v' k i = opK v k i from he _ (by omega), show opX v' k i = opX v k i from he _ (by omega)]
    exact k4 i c1 c2
theorem opD_eqB {v v' : Vw} {k : Int} (h : okOp v k) (he : eqB v v') (hk : 0 ≤ k ∧ k < 8) (m : Ms) : opD v' k m = opD v k m := by
  have h3 := h.1
  unfold opD
  rw [show opN v' k = opN v k from he _ (by omega)]
  exact doM_congr m fun i a b => ⟨he _ (by omega), he _ (by omega)⟩
section X3
variable {G : GW} {d : Nat} {M : Mem} {p q s N i : Int} {v : Vw}
theorem s_X3_opAt (hd : 10 ≤ d) (h : StS (msh M) (mcr M) p) (hq : GuS (msh M) (mcr M) q) (hB : RelB (mci M) p v N) (hv : okB v) (hG : RelG (mci M) q s v i) (hg : 0 ≤ v (guA i)) : CS G d mX3_opAt [dR p, dR q] M (postI fun x M1 => x = (if v (guA i) < v 3 then opAtV v i else -1) ∧ M1 = M) := by
  obtain ⟨p0, p1, ⟨c0, c1, c2, c3, c4, c5, c6, c7⟩, ⟨t1, t2, t3, t4, t5, t6⟩, p5, p6, p7⟩ := h
  obtain ⟨q0, q1, q2, q3, q4, q5, q6⟩ := hq
  have e1 := hG.1
  have e3 := hB.2.1
  have hr := hv.2.2.2.1
  refine CS.mk (by decide) (Nat.le_of_ble_eq_true rfl) ?_
  refine x_aload_n dX3_opAt_0 rfl rfl ?_
  refine g_getI (kI := 1) rfl dX3_opAt_1 fX3_138_4 (by assumption) ?_
  refine x_aload_n dX3_opAt_4 rfl rfl ?_
  refine g_getI (kI := 9) rfl dX3_opAt_5 fX3_76_3 (by assumption) ?_
  refine x_icmp_ge (tgt := 23) dX3_opAt_8 (by decide) (fun h8 => ?_) (fun h8 => ?_)
  · refine x_iconst dX3_opAt_23 rfl ?_
    refine x_ireturn rfl dX3_opAt_24 ?_
    refine ⟨_, rfl, ?_, rfl⟩
    first
    | (rw [if_pos (by omega), e1]; exact hB.2.2.2.2.2.2.2.2.2.2.2.1 _ (by omega) (by omega))
    | (rw [if_neg (by omega)])
  · refine x_aload_n dX3_opAt_11 rfl rfl ?_
    refine g_getR (kI := 4) rfl dX3_opAt_12 fX3_30_3 (by assumption) (by assumption) ?_
    refine x_aload_n dX3_opAt_15 rfl rfl ?_
    refine g_getI (kI := 1) rfl dX3_opAt_16 fX3_138_4 (by assumption) ?_
    refine x_iald dX3_opAt_19 (by assumption) (by omega) (by omega) ?_
    refine x_goto (tgt := 24) dX3_opAt_20 (by decide) ?_
    refine x_ireturn rfl dX3_opAt_24 ?_
    refine ⟨_, rfl, ?_, rfl⟩
    first
    | (rw [if_pos (by omega), e1]; exact hB.2.2.2.2.2.2.2.2.2.2.2.1 _ (by omega) (by omega))
    | (rw [if_neg (by omega)])
theorem s_X3_uses {o : Int} (hd : 10 ≤ d) (h : StS (msh M) (mcr M) p) (hB : RelB (mci M) p v N) (hv : okB v) : CS G d mX3_uses [dR p, dI o] M (postI fun x M1 => x = usesV v o ∧ M1 = M) := by
  obtain ⟨p0, p1, ⟨c0, c1, c2, c3, c4, c5, c6, c7⟩, ⟨t1, t2, t3, t4, t5, t6⟩, p5, p6, p7⟩ := h
  have e3 := hB.2.1
  have hr := hv.2.2.2.1
  have hp := hB.2.2.2.2.2.2.2.2.2.2.2.1
  have loop : ∀ (t : Nat) (k x : Int), (v 3 - k).toNat = t → 0 ≤ k → k ≤ v 3 → x = usesR v o k.toNat → 0 ≤ x → x ≤ k → WP G d mX3_uses 4 [some (dR p), some (dI o), some (dI x), some (dI k)] [] M (postI fun x M1 => x = usesV v o ∧ M1 = M) := by
    intro t
    induction t using Nat.strongRecOn with
    | _ t ih =>
      intro k x ht hk hk2 hx hx0 hx1
      have hu : usesR v o (k + 1).toNat = usesR v o k.toNat + (if v (12 + k) = o then 1 else 0) := by
        rw [show (k + 1).toNat = k.toNat + 1 by omega]
        show usesR v o k.toNat + (if v (12 + (k.toNat : Int)) = o then 1 else 0) = _
        rw [show ((k.toNat : Nat) : Int) = k by omega]
      refine x_iload_n dX3_uses_4 rfl rfl ?_
      refine x_aload_n dX3_uses_5 rfl rfl ?_
      refine g_getI (kI := 9) rfl dX3_uses_6 fX3_76_3 (by assumption) ?_
      refine x_icmp_ge (tgt := 36) dX3_uses_9 (by decide) (fun h9 => ?_) (fun h9 => ?_)
      · refine x_iload_n dX3_uses_36 rfl rfl ?_
        refine x_ireturn rfl dX3_uses_37 ?_
        refine ⟨_, rfl, ?_, rfl⟩
        unfold usesV
        rw [hx, show k = v 3 by omega]
      · refine x_iload_n dX3_uses_12 rfl rfl ?_
        refine x_aload_n dX3_uses_13 rfl rfl ?_
        refine g_getR (kI := 4) rfl dX3_uses_14 fX3_30_3 (by assumption) (by assumption) ?_
        refine x_iload_n dX3_uses_17 rfl rfl ?_
        refine x_iald dX3_uses_18 (by assumption) (by omega) (by omega) ?_
        refine x_iload_n dX3_uses_19 rfl rfl ?_
        refine x_icmp_ne (tgt := 27) dX3_uses_20 (by decide) (fun h20 => ?_) (fun h20 => ?_)
        · refine x_iconst dX3_uses_27 rfl ?_
          first | refine x_iaddN dX3_uses_28 (by unfold i32; omega) ?_ | refine x_iadd dX3_uses_28 ?_
          refine x_istore_n (L' := [some _, some _, some _, some _]) dX3_uses_29 rfl (by decide) rfl ?_
          first | refine x_iincN (L' := [some _, some _, some _, some _]) dX3_uses_30 rfl (by decide) (by unfold i32; omega) rfl ?_ | refine x_iinc (L' := [some _, some _, some _, some _]) dX3_uses_30 rfl (by decide) rfl ?_
          refine x_goto (tgt := 4) dX3_uses_33 (by decide) ?_
          have hpk := hp k hk (by omega)
          first
          | (rw [if_neg (by omega)] at hu; exact ih _ (by omega) (k + 1) _ rfl (by omega) (by omega) (by omega) (by omega) (by omega))
          | (rw [if_pos (by omega)] at hu; exact ih _ (by omega) (k + 1) _ rfl (by omega) (by omega) (by omega) (by omega) (by omega))
        · refine x_iconst dX3_uses_23 rfl ?_
          refine x_goto (tgt := 28) dX3_uses_24 (by decide) ?_
          first | refine x_iaddN dX3_uses_28 (by unfold i32; omega) ?_ | refine x_iadd dX3_uses_28 ?_
          refine x_istore_n (L' := [some _, some _, some _, some _]) dX3_uses_29 rfl (by decide) rfl ?_
          first | refine x_iincN (L' := [some _, some _, some _, some _]) dX3_uses_30 rfl (by decide) (by unfold i32; omega) rfl ?_ | refine x_iinc (L' := [some _, some _, some _, some _]) dX3_uses_30 rfl (by decide) rfl ?_
          refine x_goto (tgt := 4) dX3_uses_33 (by decide) ?_
          have hpk := hp k hk (by omega)
          first
          | (rw [if_neg (by omega)] at hu; exact ih _ (by omega) (k + 1) _ rfl (by omega) (by omega) (by omega) (by omega) (by omega))
          | (rw [if_pos (by omega)] at hu; exact ih _ (by omega) (k + 1) _ rfl (by omega) (by omega) (by omega) (by omega) (by omega))
  refine CS.mk (by decide) (Nat.le_of_ble_eq_true rfl) ?_
  refine x_iconst dX3_uses_0 rfl ?_
  refine x_istore_n (L' := [some _, some _, some _, none]) dX3_uses_1 rfl (by decide) rfl ?_
  refine x_iconst dX3_uses_2 rfl ?_
  refine x_istore_n (L' := [some _, some _, some _, some _]) dX3_uses_3 rfl (by decide) rfl ?_
  exact loop _ 0 0 rfl (by omega) (by omega) rfl (by omega) (by omega)
end X3

