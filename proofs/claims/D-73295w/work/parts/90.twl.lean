/-! GuestViewModel: likely, ask, odds -/
theorem lo0_0 : ∀ x : Fin 256, x.val = 0 ∨ lo0 (x.val : Int) < 8 := by decide +kernel
theorem lo0_r {x : Int} (h : 0 ≤ x ∧ x < 256) (h0 : ¬ x = 0) : 0 ≤ lo0 x ∧ lo0 x < 8 := by
  have e := lo0_0 ⟨x.toNat, by omega⟩
  have e3 : ((x.toNat : Nat) : Int) = x := by omega
  simp only [e3] at e
  have : 0 ≤ lo0 x := by unfold lo0; repeat (first | omega | split)
  omega
/-- so many ways of alarms: of t ticks in i -/
def waysV (al : Int) : Nat → Int → Int
  | 0, i => if i = 0 then 1 else 0
  | t + 1, i => waysV al t i * (100 - al) + (if i = 0 then 0 else waysV al t (i - 1) * al)
def waySum (al : Int) (t : Nat) (k : Int) : Nat → Int
  | 0 => 0
  | j + 1 => waySum al t k j + waysV al t (k + j)
def oddsAns (v : Vw) (n k : Int) : Int := wr (10000 * waySum (v 7) n.toNat k (6 - k).toNat / 100 ^ n.toNat)
section X8
variable {G : GW} {d : Nat} {M : Mem} {m a b c p k i what n st pc op hi sz fa : Int} {v vi : Vw} {A : Int → Vw} {tp : Int → Int}
theorem s_X8_firstOf (hd : 11 ≤ d) (ha : 0 ≤ a ∧ a < 256) : CS G d mX8_firstOf [dI a] M (pur M (lo0 a)) := by
  refine CS.mkQ (by decide) (Nat.le_of_ble_eq_true rfl) fun Q hQ => ?_
  refine x_iload_n dX8_firstOf_0 rfl rfl ?_
  refine g_callI (vs := [_]) (d' := d - 1) rfl (s_ntz (by omega) (by omega)) dX8_firstOf_1 kX8_503 (by omega) (by decide) rfl (Nat.le_of_ble_eq_true rfl) (rcv_n) (fun x1 M1 h1 => ?_)
  obtain ⟨e1, f1⟩ := h1
  have f1' := f1.symm
  subst f1'
  subst e1
  refine x_ireturn rfl dX8_firstOf_4 ?_
  exact hQ _ _ ⟨_, rfl, (by first | rfl | omega | exact (vP_t (by omega)).symm | exact (vP_f (by omega)).symm), rfl⟩
theorem s_X8_likely (hd : 18 ≤ d) (hI : TI M m v n A hi vi tp sz fa) : CS G d mX8_likely [dR m] M (postI fun x M1 => (toldOk tp sz → x = likelyAns v tp sz ∧ TI M1 m v n A hi vi tp 0 fa ∧ TR m M M1 ∧ mci M1 m 0 = 0) ∧ (¬ toldOk tp sz → TI M1 m v n A hi vi tp 0 fa ∧ TR m M M1 ∧ mci M1 m 0 = 1)) := by
  have hT := hI.1.1
  have h9 := hI.2.2.2.2.2.1.1
  have hsz := hI.2.2.2.2.2.1.2
  obtain ⟨hP, -, -, -, htp, -⟩ := hI.use.1
  obtain ⟨-, hw, hA, hL, hK, hsk⟩ := id hP
  have hv := hA.1
  have r0 := fitV_r (tp := tp) (n := sz) (w := 0) hv
  have r1 := fitV_r (tp := tp) (n := sz) (w := 1) hv
  have hT_ := hT; obtain ⟨p0, p1, ⟨c1, c2, c3, c4, c5, c6, c7, c8, c9, c10, c11, c12, c13, c14, c15⟩, ⟨t1, t2, t3, t4, t5, t6, t7, t8, t9, t10, t11, t12, t13, t14, t15⟩⟩ := hT_
  refine CS.mkQ (by decide) (Nat.le_of_ble_eq_true rfl) fun Q hQ => ?_
  refine x_aload_n dX8_likely_0 rfl rfl ?_
  refine g_callN (vs := [_]) (d' := d - 1) rfl (s_X8_uses (by omega) hT h9) dX8_likely_1 kX8_270 (by omega) (by decide) rfl (Nat.le_of_ble_eq_true rfl) (rcv_o (by first | assumption | exact hT.2.1) rfl) (fun M1 h1 => ?_)
  subst h1
  refine x_aload_n dX8_likely_4 rfl rfl ?_
  refine x_aload_n dX8_likely_5 rfl rfl ?_
  refine g_callI (vs := [_]) (d' := d - 1) rfl (s_X8_areTold (M := mUse M m sz) (by omega) hT mUse_11 htp hsz) dX8_likely_6 kX8_497 (by omega) (by decide) rfl (Nat.le_of_ble_eq_true rfl) (rcv_o (by first | assumption | exact hT.2.1) rfl) (fun x6 M6 h6 => ?_)
  obtain ⟨e6, f6⟩ := h6
  have f6' := f6.symm
  subst f6'
  subst e6
  refine x_if_ne (tgt := 16) dX8_likely_9 (by decide) (fun h9 => ?_) (fun h9 => ?_)
  · try simp only [vP_0, vP_1, vP_n0, vP_n1, Classical.not_not] at h9
    refine x_iconst dX8_likely_16 rfl ?_
    refine x_iconst dX8_likely_17 rfl ?_
    refine g_callI (vs := [_, _, _]) (d' := d - 1) rfl (s_X8_throwsIf (by omega) hT (by first | omega | exact vP_r _)) dX8_likely_18 kX8_280 (by omega) (by decide) rfl (Nat.le_of_ble_eq_true rfl) (rcv_o (by first | assumption | exact hT.2.1) rfl) (fun x18 M18 h18 => ?_)
    obtain ⟨e18, r18, f18⟩ := h18
    have f18' := (f18.1 (by omega)).symm
    subst f18'
    subst e18
    refine x_if_eq (tgt := 26) dX8_likely_21 (by decide) (fun h21 => ?_) (fun h21 => ?_)
    · try simp only [vP_0, vP_1, vP_n0, vP_n1, Classical.not_not] at h21
      refine x_aload_n dX8_likely_26 rfl rfl ?_
      refine g_callN (vs := [_]) (d' := d - 1) rfl (s_X8_laysTraits (M := mUse M m sz) (by omega) hT hw hv hK hsk) dX8_likely_27 kX8_423 (by omega) (by decide) rfl (Nat.le_of_ble_eq_true rfl) (rcv_o (by first | assumption | exact hT.2.1) rfl) (fun M27 h27 => ?_)
      obtain ⟨g27, l27, hM27, q27, y27, hK27, hTr27, hsk27⟩ := h27
      subst hM27
      have hw2 := q27.w hw
      have h11 : g27 m 11 = sz := (q27 _ _ (by unfold scr; omega) (by omega)).trans mUse_11
      have htp2 : g27 (m + 6) = tp := (funext fun k => q27 _ _ (by unfold scr; omega) (by omega)).trans htp
      have hR := hI.fin (RD.mk0 (M := mUse M m sz) mUse_0 q27.tq y27.tm hK27 hsk27)
      refine x_aload_n dX8_likely_30 rfl rfl ?_
      refine x_iconst dX8_likely_31 rfl ?_
      refine g_callI (vs := [_, _]) (d' := d - 1) rfl (s_X8_thatFit (M := wL (mUse M m sz) g27 l27) (by omega) hT hw2 hv hTr27 h11 htp2 h9 hsz.1) dX8_likely_32 kX8_500 (by omega) (by decide) rfl (Nat.le_of_ble_eq_true rfl) (rcv_o (by first | assumption | exact hT.2.1) rfl) (fun x32 M32 h32 => ?_)
      obtain ⟨e32, f32⟩ := h32
      have f32' := f32.symm
      subst f32'
      subst e32
      refine x_if_eq (tgt := 46) dX8_likely_35 (by decide) (fun h35 => ?_) (fun h35 => ?_)
      · refine x_aload_n dX8_likely_46 rfl rfl ?_
        refine x_iconst dX8_likely_47 rfl ?_
        refine g_callI (vs := [_, _]) (d' := d - 1) rfl (s_X8_thatFit (M := wL (mUse M m sz) g27 l27) (by omega) hT hw2 hv hTr27 h11 htp2 h9 hsz.1) dX8_likely_48 kX8_500 (by omega) (by decide) rfl (Nat.le_of_ble_eq_true rfl) (rcv_o (by first | assumption | exact hT.2.1) rfl) (fun x48 M48 h48 => ?_)
        obtain ⟨e48, f48⟩ := h48
        have f48' := f48.symm
        subst f48'
        subst e48
        refine x_istore_n (L' := [some _, some _]) dX8_likely_51 rfl (by decide) rfl ?_
        refine x_iload_n dX8_likely_52 rfl rfl ?_
        refine x_if_ne (tgt := 60) dX8_likely_53 (by decide) (fun h53 => ?_) (fun h53 => ?_)
        · refine x_iload_n dX8_likely_60 rfl rfl ?_
          refine g_callI (vs := [_]) (d' := d - 1) rfl (s_X8_firstOf (by omega) (by omega)) dX8_likely_61 kX8_506 (by omega) (by decide) rfl (Nat.le_of_ble_eq_true rfl) (rcv_n) (fun x61 M61 h61 => ?_)
          obtain ⟨e61, f61⟩ := h61
          have f61' := f61.symm
          subst f61'
          subst e61
          refine x_ireturn rfl dX8_likely_64 ?_
          refine hQ _ _ ⟨_, rfl, fun _ => ⟨?_, hR⟩, fun q => absurd h9 q⟩
          unfold likelyAns
          first
          | exact absurd h53 h35
          | (rw [if_neg h35])
          | (rw [if_pos h35, if_pos h53])
          | (rw [if_pos h35, if_neg h53])
        · refine x_iconst dX8_likely_56 rfl ?_
          refine x_goto (tgt := 64) dX8_likely_57 (by decide) ?_
          refine x_ireturn rfl dX8_likely_64 ?_
          refine hQ _ _ ⟨_, rfl, fun _ => ⟨?_, hR⟩, fun q => absurd h9 q⟩
          unfold likelyAns
          first
          | exact absurd h53 h35
          | (rw [if_neg h35])
          | (rw [if_pos h35, if_pos h53])
          | (rw [if_pos h35, if_neg h53])
      · refine x_aload_n dX8_likely_38 rfl rfl ?_
        refine x_iconst dX8_likely_39 rfl ?_
        refine g_callI (vs := [_, _]) (d' := d - 1) rfl (s_X8_thatFit (M := wL (mUse M m sz) g27 l27) (by omega) hT hw2 hv hTr27 h11 htp2 h9 hsz.1) dX8_likely_40 kX8_500 (by omega) (by decide) rfl (Nat.le_of_ble_eq_true rfl) (rcv_o (by first | assumption | exact hT.2.1) rfl) (fun x40 M40 h40 => ?_)
        obtain ⟨e40, f40⟩ := h40
        have f40' := f40.symm
        subst f40'
        subst e40
        refine x_goto (tgt := 51) dX8_likely_43 (by decide) ?_
        refine x_istore_n (L' := [some _, some _]) dX8_likely_51 rfl (by decide) rfl ?_
        refine x_iload_n dX8_likely_52 rfl rfl ?_
        refine x_if_ne (tgt := 60) dX8_likely_53 (by decide) (fun h53 => ?_) (fun h53 => ?_)
        · refine x_iload_n dX8_likely_60 rfl rfl ?_
          refine g_callI (vs := [_]) (d' := d - 1) rfl (s_X8_firstOf (by omega) (by omega)) dX8_likely_61 kX8_506 (by omega) (by decide) rfl (Nat.le_of_ble_eq_true rfl) (rcv_n) (fun x61 M61 h61 => ?_)
          obtain ⟨e61, f61⟩ := h61
          have f61' := f61.symm
          subst f61'
          subst e61
          refine x_ireturn rfl dX8_likely_64 ?_
          refine hQ _ _ ⟨_, rfl, fun _ => ⟨?_, hR⟩, fun q => absurd h9 q⟩
          unfold likelyAns
          first
          | exact absurd h53 h35
          | (rw [if_neg h35])
          | (rw [if_pos h35, if_pos h53])
          | (rw [if_pos h35, if_neg h53])
        · refine x_iconst dX8_likely_56 rfl ?_
          refine x_goto (tgt := 64) dX8_likely_57 (by decide) ?_
          refine x_ireturn rfl dX8_likely_64 ?_
          refine hQ _ _ ⟨_, rfl, fun _ => ⟨?_, hR⟩, fun q => absurd h9 q⟩
          unfold likelyAns
          first
          | exact absurd h53 h35
          | (rw [if_neg h35])
          | (rw [if_pos h35, if_pos h53])
          | (rw [if_pos h35, if_neg h53])
    · exact absurd h21 (by decide)
  · try simp only [vP_0, vP_1, vP_n0, vP_n1, Classical.not_not] at h9
    refine x_iconst dX8_likely_12 rfl ?_
    refine x_goto (tgt := 17) dX8_likely_13 (by decide) ?_
    refine x_iconst dX8_likely_17 rfl ?_
    refine g_callI (vs := [_, _, _]) (d' := d - 1) rfl (s_X8_throwsIf (by omega) hT (by first | omega | exact vP_r _)) dX8_likely_18 kX8_280 (by omega) (by decide) rfl (Nat.le_of_ble_eq_true rfl) (rcv_o (by first | assumption | exact hT.2.1) rfl) (fun x18 M18 h18 => ?_)
    obtain ⟨e18, r18, f18⟩ := h18
    have f18' := (f18.2 (by omega)).symm
    subst f18'
    subst e18
    refine x_if_eq (tgt := 26) dX8_likely_21 (by decide) (fun h21 => ?_) (fun h21 => ?_)
    · exact absurd h21 (by decide)
    · try simp only [vP_0, vP_1, vP_n0, vP_n1, Classical.not_not] at h21
      refine x_iconst dX8_likely_24 rfl ?_
      refine x_ireturn rfl dX8_likely_25 ?_
      exact hQ _ _ ⟨_, rfl, fun q => absurd q h9, fun _ => hI.fin (RD.t0 hP)⟩
theorem partC_s {s w x : Int} {t : Nat} : partC v s w x (t + 1) = partC v s w x t + (if bitI s t = 1 ∧ toldV v t w = x then 1 else 0) := rfl
theorem partR_s {s w : Int} {t : Nat} : partR v s w (t + 1) = if partR v s w t ≤ partC v s w t (v 0).toNat then partC v s w t (v 0).toNat else partR v s w t := rfl
theorem s_X8_partBy {s w : Int} (hd : 14 ≤ d) (hT : TwS (msh M) (mcr M) m) (hw : mci M (m + 1) = v) (hv : okB v) (hTr : TrOk (mci M) m v) (hs : 0 ≤ s ∧ s < 256) (hwh : 0 ≤ w ∧ w ≤ 6) : CS G d mX8_partBy [dR m, dI s, dI w] M (pur M (partV v s w)) := by
  have hv0 := hv.1
  refine CS.mkQ (by decide) (Nat.le_of_ble_eq_true rfl) fun Q hQ => ?_
  have loop : ∀ (t : Nat) (x y : Int), (11 - x).toNat = t → (0 ≤ x) → (x ≤ 11) → (y = partR v s w x.toNat) → WP G d mX8_partBy 5 [some (dR m), some (dI s), some (dI w), some (dI y), some (dI x), none, none] [] (M) Q := by
    intro t
    induction t using Nat.strongRecOn with
    | _ t ih =>
      intro x y ht x0 x1 hy
      have hyr := partR_r v s w hv0 x.toNat
      by_cases hx : x ≤ 10
      · skip
        have inner : ∀ (t2 : Nat) (p z : Int), (v 0 - p).toNat = t2 → (0 ≤ p) → (p ≤ v 0) → (z = partC v s w x p.toNat) → WP G d mX8_partBy 18 [some (dR m), some (dI s), some (dI w), some (dI y), some (dI x), some (dI z), some (dI p)] [] (M) Q := by
          intro t2
          induction t2 using Nat.strongRecOn with
          | _ t2 ih2 =>
            intro p z ht2 p0 p1 hz
            have hzr := partC_r v s w x p.toNat
            rw [← hz] at hzr
            have es : partC v s w x (p + 1).toNat = z + (if bitI s p = 1 ∧ toldV v p w = x then 1 else 0) := by
              rw [show (p + 1).toNat = p.toNat + 1 by omega, partC_s, ← hz, show ((p.toNat : Nat) : Int) = p by omega]
            by_cases hp : p < v 0
            · refine x_iload dX8_partBy_18 rfl ?_
              refine x_aload_n dX8_partBy_20 rfl rfl ?_
              refine g_callI (vs := [_]) (d' := d - 1) rfl (s_X8_ops (by omega) hT (by first | exact hw | exact mciI (by omega) hw | exact mciI (by omega) (mciI (by omega) hw) | exact mciI (by omega) (mciI (by omega) (mciI (by omega) hw)) | exact mciI (by omega) (mciI (by omega) (mciI (by omega) (mciI (by omega) hw))) | exact mciC (by omega) hw)) dX8_partBy_21 kX8_84 (by omega) (by decide) rfl (Nat.le_of_ble_eq_true rfl) (rcv_o (by first | assumption | exact hT.2.1) rfl) (fun x21 M21 h21 => ?_)
              obtain ⟨e21, f21⟩ := h21
              have f21' := f21.symm
              subst f21'
              subst e21
              refine x_icmp_ge (tgt := 64) dX8_partBy_24 (by decide) (fun h24 => ?_) (fun h24 => ?_)
              · omega
              · refine x_iload dX8_partBy_27 rfl ?_
                refine x_iload_n dX8_partBy_29 rfl rfl ?_
                refine x_iload dX8_partBy_30 rfl ?_
                refine g_callI (vs := [_, _]) (d' := d - 1) rfl (s_X8_has (by omega) (by omega) (by omega)) dX8_partBy_32 kX8_485 (by omega) (by decide) rfl (Nat.le_of_ble_eq_true rfl) (rcv_n) (fun x32 M32 h32 => ?_)
                obtain ⟨e32, f32⟩ := h32
                have f32' := f32.symm
                subst f32'
                subst e32
                refine x_if_eq (tgt := 54) dX8_partBy_35 (by decide) (fun h35 => ?_) (fun h35 => ?_)
                · try simp only [vP_0, vP_1, vP_n0, vP_n1, Classical.not_not] at h35
                  refine x_iconst dX8_partBy_54 rfl ?_
                  first | refine x_iaddN dX8_partBy_55 (by unfold i32; omega) ?_ | refine x_iadd dX8_partBy_55 ?_
                  refine x_istore (L' := [some _, some _, some _, some _, some _, some _, some _]) dX8_partBy_56 (by decide) rfl ?_
                  first | refine x_iincN (L' := [some _, some _, some _, some _, some _, some _, some _]) dX8_partBy_58 rfl (by decide) (by unfold i32; omega) rfl ?_ | refine x_iinc (L' := [some _, some _, some _, some _, some _, some _, some _]) dX8_partBy_58 rfl (by decide) rfl ?_
                  refine x_goto (tgt := 18) dX8_partBy_61 (by decide) ?_
                  first
                  | (rw [if_pos ⟨h35, h47⟩] at es; exact ih2 _ (by omega) (p + 1) _ rfl (by omega) (by omega) es.symm)
                  | (rw [if_neg fun q => h47 q.2, Int.add_zero] at es
                     refine ih2 _ (by omega) (p + 1) _ rfl (by omega) (by omega) ?_
                     rw [es]; omega)
                  | (rw [if_neg fun q => h35 q.1, Int.add_zero] at es
                     refine ih2 _ (by omega) (p + 1) _ rfl (by omega) (by omega) ?_
                     rw [es]; omega)
                · try simp only [vP_0, vP_1, vP_n0, vP_n1, Classical.not_not] at h35
                  refine x_aload_n dX8_partBy_38 rfl rfl ?_
                  refine x_iload dX8_partBy_39 rfl ?_
                  refine x_iload_n dX8_partBy_41 rfl rfl ?_
                  refine g_callI (vs := [_, _, _]) (d' := d - 1) rfl (s_X8_whatOf (by omega) hT hw (by omega) (hTr p p0 (by omega)) hwh) dX8_partBy_42 kX8_491 (by omega) (by decide) rfl (Nat.le_of_ble_eq_true rfl) (rcv_o (by first | assumption | exact hT.2.1) rfl) (fun x42 M42 h42 => ?_)
                  obtain ⟨e42, f42⟩ := h42
                  have f42' := f42.symm
                  subst f42'
                  subst e42
                  refine x_iload dX8_partBy_45 rfl ?_
                  refine x_icmp_ne (tgt := 54) dX8_partBy_47 (by decide) (fun h47 => ?_) (fun h47 => ?_)
                  · refine x_iconst dX8_partBy_54 rfl ?_
                    first | refine x_iaddN dX8_partBy_55 (by unfold i32; omega) ?_ | refine x_iadd dX8_partBy_55 ?_
                    refine x_istore (L' := [some _, some _, some _, some _, some _, some _, some _]) dX8_partBy_56 (by decide) rfl ?_
                    first | refine x_iincN (L' := [some _, some _, some _, some _, some _, some _, some _]) dX8_partBy_58 rfl (by decide) (by unfold i32; omega) rfl ?_ | refine x_iinc (L' := [some _, some _, some _, some _, some _, some _, some _]) dX8_partBy_58 rfl (by decide) rfl ?_
                    refine x_goto (tgt := 18) dX8_partBy_61 (by decide) ?_
                    first
                    | (rw [if_pos ⟨h35, h47⟩] at es; exact ih2 _ (by omega) (p + 1) _ rfl (by omega) (by omega) es.symm)
                    | (rw [if_neg fun q => h47 q.2, Int.add_zero] at es
                       refine ih2 _ (by omega) (p + 1) _ rfl (by omega) (by omega) ?_
                       rw [es]; omega)
                    | (rw [if_neg fun q => h35 q.1, Int.add_zero] at es
                       refine ih2 _ (by omega) (p + 1) _ rfl (by omega) (by omega) ?_
                       rw [es]; omega)
                  · refine x_iconst dX8_partBy_50 rfl ?_
                    refine x_goto (tgt := 55) dX8_partBy_51 (by decide) ?_
                    first | refine x_iaddN dX8_partBy_55 (by unfold i32; omega) ?_ | refine x_iadd dX8_partBy_55 ?_
                    refine x_istore (L' := [some _, some _, some _, some _, some _, some _, some _]) dX8_partBy_56 (by decide) rfl ?_
                    first | refine x_iincN (L' := [some _, some _, some _, some _, some _, some _, some _]) dX8_partBy_58 rfl (by decide) (by unfold i32; omega) rfl ?_ | refine x_iinc (L' := [some _, some _, some _, some _, some _, some _, some _]) dX8_partBy_58 rfl (by decide) rfl ?_
                    refine x_goto (tgt := 18) dX8_partBy_61 (by decide) ?_
                    first
                    | (rw [if_pos ⟨h35, h47⟩] at es; exact ih2 _ (by omega) (p + 1) _ rfl (by omega) (by omega) es.symm)
                    | (rw [if_neg fun q => h47 q.2, Int.add_zero] at es
                       refine ih2 _ (by omega) (p + 1) _ rfl (by omega) (by omega) ?_
                       rw [es]; omega)
                    | (rw [if_neg fun q => h35 q.1, Int.add_zero] at es
                       refine ih2 _ (by omega) (p + 1) _ rfl (by omega) (by omega) ?_
                       rw [es]; omega)
            · refine x_iload dX8_partBy_18 rfl ?_
              refine x_aload_n dX8_partBy_20 rfl rfl ?_
              refine g_callI (vs := [_]) (d' := d - 1) rfl (s_X8_ops (by omega) hT (by first | exact hw | exact mciI (by omega) hw | exact mciI (by omega) (mciI (by omega) hw) | exact mciI (by omega) (mciI (by omega) (mciI (by omega) hw)) | exact mciI (by omega) (mciI (by omega) (mciI (by omega) (mciI (by omega) hw))) | exact mciC (by omega) hw)) dX8_partBy_21 kX8_84 (by omega) (by decide) rfl (Nat.le_of_ble_eq_true rfl) (rcv_o (by first | assumption | exact hT.2.1) rfl) (fun x21 M21 h21 => ?_)
              obtain ⟨e21, f21⟩ := h21
              have f21' := f21.symm
              subst f21'
              subst e21
              refine x_icmp_ge (tgt := 64) dX8_partBy_24 (by decide) (fun h24 => ?_) (fun h24 => ?_)
              · refine x_iload_n dX8_partBy_64 rfl rfl ?_
                refine x_iload dX8_partBy_65 rfl ?_
                refine g_callI (vs := [_, _]) (d' := d - 1) rfl (s_max (by omega)) dX8_partBy_67 kX8_509 (by omega) (by decide) rfl (Nat.le_of_ble_eq_true rfl) (rcv_n) (fun x67 M67 h67 => ?_)
                obtain ⟨e67, f67⟩ := h67
                have f67' := f67.symm
                subst f67'
                refine x_istore_n (L' := [some _, some _, some _, some _, some _, some _, some _]) dX8_partBy_70 rfl (by decide) rfl ?_
                first | refine x_iincN (L' := [some _, some _, some _, some _, some _, some _, some _]) dX8_partBy_71 rfl (by decide) (by unfold i32; omega) rfl ?_ | refine x_iinc (L' := [some _, some _, some _, some _, some _, some _, some _]) dX8_partBy_71 rfl (by decide) rfl ?_
                refine x_goto (tgt := 5) dX8_partBy_74 (by decide) ?_
                refine x_fgt (by repeat (first | exact trivial | refine ⟨rfl, ?_⟩)) (ih _ (by omega) (x + 1) x67 rfl (by omega) (by omega) ?_)
                rw [show (x + 1).toNat = x.toNat + 1 by omega, partR_s, show ((x.toNat : Nat) : Int) = x by omega, ← hy, show (v 0).toNat = p.toNat by omega, ← hz]
                split <;> omega
              · omega
        refine x_iload dX8_partBy_5 rfl ?_
        refine x_bipush dX8_partBy_7 rfl ?_
        refine x_icmp_gt (tgt := 77) dX8_partBy_9 (by decide) (fun h9 => ?_) (fun h9 => ?_)
        · omega
        · refine x_iconst dX8_partBy_12 rfl ?_
          refine x_istore (L' := [some _, some _, some _, some _, some _, some _, none]) dX8_partBy_13 (by decide) rfl ?_
          refine x_iconst dX8_partBy_15 rfl ?_
          refine x_istore (L' := [some _, some _, some _, some _, some _, some _, some _]) dX8_partBy_16 (by decide) rfl ?_
          exact inner _ 0 0 rfl (by omega) (by omega) rfl
      · refine x_iload dX8_partBy_5 rfl ?_
        refine x_bipush dX8_partBy_7 rfl ?_
        refine x_icmp_gt (tgt := 77) dX8_partBy_9 (by decide) (fun h9 => ?_) (fun h9 => ?_)
        · refine x_iload_n dX8_partBy_77 rfl rfl ?_
          refine x_ireturn rfl dX8_partBy_78 ?_
          refine hQ _ _ ⟨_, rfl, ?_, rfl⟩
          unfold partV
          rw [hy, show x.toNat = 11 by omega]
        · omega
  refine x_iconst dX8_partBy_0 rfl ?_
  refine x_istore_n (L' := [some _, some _, some _, some _, none, none, none]) dX8_partBy_1 rfl (by decide) rfl ?_
  refine x_iconst dX8_partBy_2 rfl ?_
  refine x_istore (L' := [some _, some _, some _, some _, some _, none, none]) dX8_partBy_3 (by decide) rfl ?_
  exact x_fgt (by repeat (first | exact trivial | refine ⟨rfl, ?_⟩)) (loop _ 0 0 rfl (by omega) (by omega) rfl)
theorem askB_s {s : Int} {t : Nat} : askB v s (t + 1) = if partV v s t < (askB v s t).2 then ((t : Int), partV v s t) else askB v s t := rfl
theorem s_X8_ask (hd : 18 ≤ d) (hI : TI M m v n A hi vi tp sz fa) : CS G d mX8_ask [dR m] M (postI fun x M1 => (toldOk tp sz → x = askAns v tp sz ∧ TI M1 m v n A hi vi tp 0 fa ∧ TR m M M1 ∧ mci M1 m 0 = 0) ∧ (¬ toldOk tp sz → TI M1 m v n A hi vi tp 0 fa ∧ TR m M M1 ∧ mci M1 m 0 = 1)) := by
  have hT := hI.1.1
  have h9 := hI.2.2.2.2.2.1.1
  have hsz := hI.2.2.2.2.2.1.2
  obtain ⟨hP, -, -, -, htp, -⟩ := hI.use.1
  obtain ⟨-, hw, hA, hL, hK, hsk⟩ := id hP
  have hv := hA.1
  have r1 := fitV_r (tp := tp) (n := sz) (w := 1) hv
  have hT_ := hT; obtain ⟨p0, p1, ⟨c1, c2, c3, c4, c5, c6, c7, c8, c9, c10, c11, c12, c13, c14, c15⟩, ⟨t1, t2, t3, t4, t5, t6, t7, t8, t9, t10, t11, t12, t13, t14, t15⟩⟩ := hT_
  refine CS.mkQ (by decide) (Nat.le_of_ble_eq_true rfl) fun Q hQ => ?_
  have loop : ∀ (g l : Ci), g (m + 1) = v → TrOk g m v → (TI (wL (mUse M m sz) g l) m v n A hi vi tp 0 fa ∧ TR m M (wL (mUse M m sz) g l) ∧ mci (wL (mUse M m sz) g l) m 0 = 0) → toldOk tp sz → WP G d mX8_ask 45 [some (dR m), some (dI (fitV v tp sz 1)), some (dI (-1)), some (dI 1000000), some (dI 0), none] [] (wL (mUse M m sz) g l) Q := by
    intro g l hw hTr hR hok
    have lp : ∀ (t : Nat) (w best least : Int), (7 - w).toNat = t → (0 ≤ w) → (w ≤ 7) → ((best, least) = askB v (fitV v tp sz 1) w.toNat) → (w = 0 ∨ 1 < bc0 (fitV v tp sz 1)) → WP G d mX8_ask 45 [some (dR m), some (dI (fitV v tp sz 1)), some (dI best), some (dI least), some (dI w), none] [] (wL (mUse M m sz) g l) Q := by
      intro t
      induction t using Nat.strongRecOn with
      | _ t ih =>
        intro w best least ht w0 w1 hb h1
        have e1 : best = (askB v (fitV v tp sz 1) w.toNat).1 := congrArg (fun z : Int × Int => z.1) hb
        have e2 : least = (askB v (fitV v tp sz 1) w.toNat).2 := congrArg (fun z : Int × Int => z.2) hb
        by_cases hgo : w ≤ 6 ∧ 1 < bc0 (fitV v tp sz 1)
        · have es : askB v (fitV v tp sz 1) (w + 1).toNat = if partV v (fitV v tp sz 1) w < least then (w, partV v (fitV v tp sz 1) w) else (best, least) := by
            rw [show (w + 1).toNat = w.toNat + 1 by omega, askB_s, ← e2, ← hb, show ((w.toNat : Nat) : Int) = w by omega]
          refine x_iload dX8_ask_45 rfl ?_
          refine x_bipush dX8_ask_47 rfl ?_
          refine x_icmp_gt (tgt := 95) dX8_ask_49 (by decide) (fun h49 => ?_) (fun h49 => ?_)
          · omega
          · refine x_iload_n dX8_ask_52 rfl rfl ?_
            refine g_callI (vs := [_]) (d' := d - 1) rfl (s_bitCount (by omega) (by omega)) dX8_ask_53 kX8_459 (by omega) (by decide) rfl (Nat.le_of_ble_eq_true rfl) (rcv_n) (fun x53 M53 h53 => ?_)
            obtain ⟨e53, f53⟩ := h53
            have f53' := f53.symm
            subst f53'
            subst e53
            refine x_iconst dX8_ask_56 rfl ?_
            refine x_icmp_le (tgt := 95) dX8_ask_57 (by decide) (fun h57 => ?_) (fun h57 => ?_)
            · omega
            · refine x_aload_n dX8_ask_60 rfl rfl ?_
              refine x_iload_n dX8_ask_61 rfl rfl ?_
              refine x_iload dX8_ask_62 rfl ?_
              refine g_callI (vs := [_, _, _]) (d' := d - 1) rfl (s_X8_partBy (M := wL (mUse M m sz) g l) (by omega) hT hw hv hTr r1 (by omega)) dX8_ask_64 kX8_513 (by omega) (by decide) rfl (Nat.le_of_ble_eq_true rfl) (rcv_o (by first | assumption | exact hT.2.1) rfl) (fun x64 M64 h64 => ?_)
              obtain ⟨e64, f64⟩ := h64
              have f64' := f64.symm
              subst f64'
              subst e64
              refine x_istore (L' := [some _, some _, some _, some _, some _, some _]) dX8_ask_67 (by decide) rfl ?_
              refine x_iload dX8_ask_69 rfl ?_
              refine x_iload_n dX8_ask_71 rfl rfl ?_
              refine x_icmp_ge (tgt := 80) dX8_ask_72 (by decide) (fun h72 => ?_) (fun h72 => ?_)
              · refine x_iload_n dX8_ask_80 rfl rfl ?_
                refine x_istore_n (L' := [some _, some _, some _, some _, some _, some _]) dX8_ask_81 rfl (by decide) rfl ?_
                refine x_iload_n dX8_ask_82 rfl rfl ?_
                refine x_iload dX8_ask_83 rfl ?_
                refine g_callI (vs := [_, _]) (d' := d - 1) rfl (s_min (by omega)) dX8_ask_85 kX8_387 (by omega) (by decide) rfl (Nat.le_of_ble_eq_true rfl) (rcv_n) (fun x85 M85 h85 => ?_)
                obtain ⟨e85, f85⟩ := h85
                have f85' := f85.symm
                subst f85'
                refine x_istore_n (L' := [some _, some _, some _, some _, some _, some _]) dX8_ask_88 rfl (by decide) rfl ?_
                first | refine x_iincN (L' := [some _, some _, some _, some _, some _, some _]) dX8_ask_89 rfl (by decide) (by unfold i32; omega) rfl ?_ | refine x_iinc (L' := [some _, some _, some _, some _, some _, some _]) dX8_ask_89 rfl (by decide) rfl ?_
                refine x_goto (tgt := 45) dX8_ask_92 (by decide) ?_
                first
                | (rw [if_pos (by omega)] at es
                   refine x_fgt (by repeat (first | exact trivial | refine ⟨rfl, ?_⟩)) (ih _ (by omega) (w + 1) w x85 rfl (by omega) (by omega) ?_ (Or.inr hgo.2))
                   rw [es, show x85 = partV v (fitV v tp sz 1) w by omega])
                | (rw [if_neg (by omega)] at es
                   refine x_fgt (by repeat (first | exact trivial | refine ⟨rfl, ?_⟩)) (ih _ (by omega) (w + 1) best x85 rfl (by omega) (by omega) ?_ (Or.inr hgo.2))
                   rw [es, show x85 = least by omega])
              · refine x_iload dX8_ask_75 rfl ?_
                refine x_goto (tgt := 81) dX8_ask_77 (by decide) ?_
                refine x_istore_n (L' := [some _, some _, some _, some _, some _, some _]) dX8_ask_81 rfl (by decide) rfl ?_
                refine x_iload_n dX8_ask_82 rfl rfl ?_
                refine x_iload dX8_ask_83 rfl ?_
                refine g_callI (vs := [_, _]) (d' := d - 1) rfl (s_min (by omega)) dX8_ask_85 kX8_387 (by omega) (by decide) rfl (Nat.le_of_ble_eq_true rfl) (rcv_n) (fun x85 M85 h85 => ?_)
                obtain ⟨e85, f85⟩ := h85
                have f85' := f85.symm
                subst f85'
                refine x_istore_n (L' := [some _, some _, some _, some _, some _, some _]) dX8_ask_88 rfl (by decide) rfl ?_
                first | refine x_iincN (L' := [some _, some _, some _, some _, some _, some _]) dX8_ask_89 rfl (by decide) (by unfold i32; omega) rfl ?_ | refine x_iinc (L' := [some _, some _, some _, some _, some _, some _]) dX8_ask_89 rfl (by decide) rfl ?_
                refine x_goto (tgt := 45) dX8_ask_92 (by decide) ?_
                first
                | (rw [if_pos (by omega)] at es
                   refine x_fgt (by repeat (first | exact trivial | refine ⟨rfl, ?_⟩)) (ih _ (by omega) (w + 1) w x85 rfl (by omega) (by omega) ?_ (Or.inr hgo.2))
                   rw [es, show x85 = partV v (fitV v tp sz 1) w by omega])
                | (rw [if_neg (by omega)] at es
                   refine x_fgt (by repeat (first | exact trivial | refine ⟨rfl, ?_⟩)) (ih _ (by omega) (w + 1) best x85 rfl (by omega) (by omega) ?_ (Or.inr hgo.2))
                   rw [es, show x85 = least by omega])
        · refine x_iload dX8_ask_45 rfl ?_
          refine x_bipush dX8_ask_47 rfl ?_
          refine x_icmp_gt (tgt := 95) dX8_ask_49 (by decide) (fun h49 => ?_) (fun h49 => ?_)
          · refine x_iload_n dX8_ask_95 rfl rfl ?_
            refine x_ireturn rfl dX8_ask_96 ?_
            refine hQ _ _ ⟨_, rfl, fun _ => ⟨?_, hR⟩, fun q => absurd hok q⟩
            unfold askAns
            by_cases q : bc0 (fitV v tp sz 1) ≤ 1
            · rw [if_pos q, e1, show w = 0 by omega]
              rfl
            · rw [if_neg q, e1, show w = 7 by omega]
              rfl
          · refine x_iload_n dX8_ask_52 rfl rfl ?_
            refine g_callI (vs := [_]) (d' := d - 1) rfl (s_bitCount (by omega) (by omega)) dX8_ask_53 kX8_459 (by omega) (by decide) rfl (Nat.le_of_ble_eq_true rfl) (rcv_n) (fun x53 M53 h53 => ?_)
            obtain ⟨e53, f53⟩ := h53
            have f53' := f53.symm
            subst f53'
            subst e53
            refine x_iconst dX8_ask_56 rfl ?_
            refine x_icmp_le (tgt := 95) dX8_ask_57 (by decide) (fun h57 => ?_) (fun h57 => ?_)
            · refine x_iload_n dX8_ask_95 rfl rfl ?_
              refine x_ireturn rfl dX8_ask_96 ?_
              refine hQ _ _ ⟨_, rfl, fun _ => ⟨?_, hR⟩, fun q => absurd hok q⟩
              unfold askAns
              by_cases q : bc0 (fitV v tp sz 1) ≤ 1
              · rw [if_pos q, e1, show w = 0 by omega]
                rfl
              · rw [if_neg q, e1, show w = 7 by omega]
                rfl
            · omega
    exact lp _ 0 (-1) 1000000 rfl (by omega) (by omega) rfl (Or.inl rfl)
  refine x_aload_n dX8_ask_0 rfl rfl ?_
  refine g_callN (vs := [_]) (d' := d - 1) rfl (s_X8_uses (by omega) hT h9) dX8_ask_1 kX8_270 (by omega) (by decide) rfl (Nat.le_of_ble_eq_true rfl) (rcv_o (by first | assumption | exact hT.2.1) rfl) (fun M1 h1 => ?_)
  subst h1
  refine x_aload_n dX8_ask_4 rfl rfl ?_
  refine x_aload_n dX8_ask_5 rfl rfl ?_
  refine g_callI (vs := [_]) (d' := d - 1) rfl (s_X8_areTold (M := mUse M m sz) (by omega) hT mUse_11 htp hsz) dX8_ask_6 kX8_497 (by omega) (by decide) rfl (Nat.le_of_ble_eq_true rfl) (rcv_o (by first | assumption | exact hT.2.1) rfl) (fun x6 M6 h6 => ?_)
  obtain ⟨e6, f6⟩ := h6
  have f6' := f6.symm
  subst f6'
  subst e6
  refine x_if_ne (tgt := 16) dX8_ask_9 (by decide) (fun h9 => ?_) (fun h9 => ?_)
  · try simp only [vP_0, vP_1, vP_n0, vP_n1, Classical.not_not] at h9
    refine x_iconst dX8_ask_16 rfl ?_
    refine x_iconst dX8_ask_17 rfl ?_
    refine g_callI (vs := [_, _, _]) (d' := d - 1) rfl (s_X8_throwsIf (by omega) hT (by first | omega | exact vP_r _)) dX8_ask_18 kX8_280 (by omega) (by decide) rfl (Nat.le_of_ble_eq_true rfl) (rcv_o (by first | assumption | exact hT.2.1) rfl) (fun x18 M18 h18 => ?_)
    obtain ⟨e18, r18, f18⟩ := h18
    have f18' := (f18.1 (by omega)).symm
    subst f18'
    subst e18
    refine x_if_eq (tgt := 26) dX8_ask_21 (by decide) (fun h21 => ?_) (fun h21 => ?_)
    · try simp only [vP_0, vP_1, vP_n0, vP_n1, Classical.not_not] at h21
      refine x_aload_n dX8_ask_26 rfl rfl ?_
      refine g_callN (vs := [_]) (d' := d - 1) rfl (s_X8_laysTraits (M := mUse M m sz) (by omega) hT hw hv hK hsk) dX8_ask_27 kX8_423 (by omega) (by decide) rfl (Nat.le_of_ble_eq_true rfl) (rcv_o (by first | assumption | exact hT.2.1) rfl) (fun M27 h27 => ?_)
      obtain ⟨g27, l27, hM27, q27, y27, hK27, hTr27, hsk27⟩ := h27
      subst hM27
      have hw2 := q27.w hw
      have h11 : g27 m 11 = sz := (q27 _ _ (by unfold scr; omega) (by omega)).trans mUse_11
      have htp2 : g27 (m + 6) = tp := (funext fun k => q27 _ _ (by unfold scr; omega) (by omega)).trans htp
      have hR := hI.fin (RD.mk0 (M := mUse M m sz) mUse_0 q27.tq y27.tm hK27 hsk27)
      refine x_aload_n dX8_ask_30 rfl rfl ?_
      refine x_iconst dX8_ask_31 rfl ?_
      refine g_callI (vs := [_, _]) (d' := d - 1) rfl (s_X8_thatFit (M := wL (mUse M m sz) g27 l27) (by omega) hT hw2 hv hTr27 h11 htp2 h9 hsz.1) dX8_ask_32 kX8_500 (by omega) (by decide) rfl (Nat.le_of_ble_eq_true rfl) (rcv_o (by first | assumption | exact hT.2.1) rfl) (fun x32 M32 h32 => ?_)
      obtain ⟨e32, f32⟩ := h32
      have f32' := f32.symm
      subst f32'
      subst e32
      refine x_istore_n (L' := [some _, some _, none, none, none, none]) dX8_ask_35 rfl (by decide) rfl ?_
      refine x_iconst dX8_ask_36 rfl ?_
      refine x_istore_n (L' := [some _, some _, some _, none, none, none]) dX8_ask_37 rfl (by decide) rfl ?_
      refine x_ldcw (z := 1000000) dX8_ask_38 q2327 (by decide) ?_
      refine x_istore_n (L' := [some _, some _, some _, some _, none, none]) dX8_ask_41 rfl (by decide) rfl ?_
      refine x_iconst dX8_ask_42 rfl ?_
      refine x_istore (L' := [some _, some _, some _, some _, some _, none]) dX8_ask_43 (by decide) rfl ?_
      exact x_fgt (by repeat (first | exact trivial | refine ⟨rfl, ?_⟩)) (loop g27 l27 hw2 hTr27 hR h9)
    · exact absurd h21 (by decide)
  · try simp only [vP_0, vP_1, vP_n0, vP_n1, Classical.not_not] at h9
    refine x_iconst dX8_ask_12 rfl ?_
    refine x_goto (tgt := 17) dX8_ask_13 (by decide) ?_
    refine x_iconst dX8_ask_17 rfl ?_
    refine g_callI (vs := [_, _, _]) (d' := d - 1) rfl (s_X8_throwsIf (by omega) hT (by first | omega | exact vP_r _)) dX8_ask_18 kX8_280 (by omega) (by decide) rfl (Nat.le_of_ble_eq_true rfl) (rcv_o (by first | assumption | exact hT.2.1) rfl) (fun x18 M18 h18 => ?_)
    obtain ⟨e18, r18, f18⟩ := h18
    have f18' := (f18.2 (by omega)).symm
    subst f18'
    subst e18
    refine x_if_eq (tgt := 26) dX8_ask_21 (by decide) (fun h21 => ?_) (fun h21 => ?_)
    · exact absurd h21 (by decide)
    · try simp only [vP_0, vP_1, vP_n0, vP_n1, Classical.not_not] at h21
      refine x_iconst dX8_ask_24 rfl ?_
      refine x_ireturn rfl dX8_ask_25 ?_
      exact hQ _ _ ⟨_, rfl, fun q => absurd q h9, fun _ => hI.fin (RD.t0 hP)⟩
end X8

