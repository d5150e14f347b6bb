/-! GuestView$State: the tick, whole -/
theorem hostH_c (v : Vw) : hostH v = 0 ∨ hostH v = 1 ∨ hostH v = 2 ∨ hostH v = 5 ∨ hostH v = 6 := by
  unfold hostH
  split
  · omega
  · split
    · omega
    · split
      · omega
      · split <;> omega
theorem us_comm_tell {v : Vw} {op what pc x : Int} : tellV (us v 9 x) op what pc = us (tellV v op what pc) 9 x := funext fun k => by
  by_cases e : k = 9
  · subst e
    rw [us_e rfl, tellV_o (by omega) (by omega), us_e rfl]
  · rw [us_n e]
    unfold tellV
    rw [us_n (show ¬ (10 : Int) = 9 by omega), us_n (show ¬ (8 : Int) = 9 by omega), us_n e]
    split
    · rfl
    · split
      · rfl
      · split
        · rfl
        · split
          · rfl
          · split
            · rfl
            · split
              · exact us_n (by omega)
              · rfl
theorem RelA.up {sh : Sh} {f : Ci} {cr : Cr} {B T p N N' : Int} {v : Vw} (h : RelA sh f cr B T p v N) (hN : N ≤ N') : RelA sh f cr B T p v N' :=
  ⟨⟨⟨h.1.1.1, h.1.1.2.1, h.1.1.2.2.1, h.1.1.2.2.2.1, h.1.1.2.2.2.2.1, h.1.1.2.2.2.2.2.1, h.1.1.2.2.2.2.2.2.1, h.1.1.2.2.2.2.2.2.2.1, h.1.1.2.2.2.2.2.2.2.2.1, h.1.1.2.2.2.2.2.2.2.2.2.1, by have := h.1.1.2.2.2.2.2.2.2.2.2.2.1; omega, h.1.1.2.2.2.2.2.2.2.2.2.2.2⟩, h.1.2⟩, h.2⟩
section XT
variable {G : GW} {d : Nat} {M : Mem} {B T p N : Int} {u : Vw}
theorem passes_mid2 {dr : Int} {g : Ci} {w : Vw} (hd : 41 ≤ d) (h : StS (msh M) (mcr M) p) (hR : RelA (msh M) g (mcr M) B T p w N) (hw : okA w) (hu : okB u) (hL : LawR (msh M) g (mcr M) B T p u) (hN : N ≤ 999999990) (hB : p + 44 < B) (hm : eqM u w) (h8 : w 8 = u 8) (h9 : w 9 = u 9) (hstep : w = stepV u) (hop : whatV u ≤ 1 → 0 ≤ opH u ∧ opH u < u 0) (hf : Fo p (p + 12) (mci M) g) : WP G d mX3_passes 79 [some (dR p), some (dI dr), some (dI (vP (likeG u))), some (dI (u (guA 1))), some (dI (opH u)), some (dI (whatV u))] [] (wI M g) (postI fun x M1 => x = vP (whatV u ≤ 1) ∧ ∃ g, M1 = wI M g ∧ RelA (msh M) g (mcr M) B T p (afterV u (tickP u) (opH u)) (N + 2) ∧ okA (afterV u (tickP u) (opH u)) ∧ Fo p (p + 12) (mci M) g) := by
  have hh := h
  obtain ⟨p0, p1, -⟩ := h
  have u9 := hu.2.2.2.2.2.2.2.2.2.1
  by_cases q1 : whatV u ≤ 1
  · have hop' := hop q1
    have w0 : w 0 = u 0 := hm 0 (by omega) (by omega) (by omega)
    refine x_iload dX3_passes_79 rfl ?_
    refine x_iconst dX3_passes_81 rfl ?_
    refine x_icmp_gt (tgt := 94) dX3_passes_82 (by decide) (fun h82 => ?_) (fun h82 => ?_)
    · omega
    · refine x_aload_n dX3_passes_85 rfl rfl ?_
      refine x_iload dX3_passes_86 rfl ?_
      refine x_iload dX3_passes_88 rfl ?_
      refine x_iload_n dX3_passes_90 rfl rfl ?_
      refine g_callN (vs := [_, _, _, _]) (d' := d - 1) rfl (s_X3_writes (M := wI M g) (by omega) hh hR.1.1 hw.1 (by omega)) dX3_passes_91 kX3_185 (by omega) (by decide) rfl (Nat.le_of_ble_eq_true rfl) (rcv_o (by assumption) rfl) (fun M91 h91 => ?_)
      obtain ⟨g2, hM91, a1, a2, a3⟩ := h91
      subst hM91
      refine WP.mem (M1 := wI M g2) rfl ?_
      have hR2 := hR.tell hw.1 hB a1 a2 a3
      have hw2 : okA (tellV w (opH u) (whatV u) (u (guA 1))) := hw.tell
      have m2 : eqM u (tellV w (opH u) (whatV u) (u (guA 1))) := hm.trans eqM_tell
      have e9 : mci (wI M g2) p 17 = u 9 := (hR2.1.1.2.2.2.2.2.2.2.2.1.trans (tellV_o (by omega) (by omega))).trans h9
      have ew := worV_eq (p := opH u) hu hop' m2 hL
      refine x_iload dX3_passes_94 rfl ?_
      refine x_iconst dX3_passes_96 rfl ?_
      refine x_icmp_gt (tgt := 121) dX3_passes_97 (by decide) (fun h97 => ?_) (fun h97 => ?_)
      · omega
      · refine x_aload_n dX3_passes_100 rfl rfl ?_
        refine x_sipush dX3_passes_101 rfl ?_
        refine x_aload_n dX3_passes_104 rfl rfl ?_
        refine g_getI (kI := 17) rfl dX3_passes_105 fX3_91_3 (by assumption) ?_
        rw [e9]
        refine x_aload_n dX3_passes_108 rfl rfl ?_
        refine x_iload dX3_passes_109 rfl ?_
        refine g_callI (vs := [_, _]) (d' := d - 1) rfl (s_X3_worth (M := wI M g2) (by omega) hh hR2.1.1 hw2.1 hR2.1.2.1 hR2.1.2.2 (by omega) ⟨hop'.1, by rw [tellV_o (by omega) (by omega), w0]; exact hop'.2⟩) dX3_passes_111 kX3_205 (by omega) (by decide) rfl (Nat.le_of_ble_eq_true rfl) (rcv_o (by assumption) rfl) (fun x111 M111 h111 => ?_)
        obtain ⟨g3, hM111, hx, hf3⟩ := h111
        subst hM111
        refine WP.mem (M1 := wI M g3) rfl ?_
        first | refine x_iaddN dX3_passes_114 (by unfold i32; omega) ?_ | refine x_iadd dX3_passes_114 ?_
        refine g_callI (vs := [_, _]) (d' := d - 1) rfl (s_min (by omega)) dX3_passes_115 kX3_130 (by omega) (by decide) rfl (Nat.le_of_ble_eq_true rfl) (rcv_n) (fun x115 M115 h115 => ?_)
        obtain ⟨e115, f115⟩ := h115
        have f115' := f115.symm
        subst f115'
        refine g_putI (kI := 17) rfl dX3_passes_118 fX3_91_3 (by assumption) ?_
        have hR3 : RelA (msh M) g3 (mcr M) B T p (tellV w (opH u) (whatV u) (u (guA 1))) (N + 1) := ⟨hR2.1.fr hw2.1 (fun b k x1 x2 x3 => hf3 b k (by omega)) hB, hR2.2.1.fo hf3 (by omega), hR2.2.2.fo hf3 (by omega)⟩
        have hR4 := hR3.sc (x := x115) hw2.1 (Or.inr (Or.inl ⟨rfl, rfl⟩)) hB
        have hw4 : okA (us (tellV w (opH u) (whatV u) (u (guA 1))) 9 x115) := hw2.us (by omega)
        have et : us (tellV w (opH u) (whatV u) (u (guA 1))) 9 x115 = tickP u := by
          unfold tickP tickW
          rw [if_pos q1, if_pos (by omega), ← hstep]
          congr 1
          rw [← ew, ← hx.1]
          split <;> omega
        rw [et] at hR4 hw4
        have h84 : tickP u 8 = u 8 := by
          rw [← et, us_n (by omega), tellV_o (by omega) (by omega)]
          exact h8
        refine WP.mem (M1 := wI M (up g3 p 17 x115)) rfl ?_
        refine WP.mono (passes_tail (M := M) (v := u) (by omega) hh hR4 hw4 (by omega) hB h84 (fun b k r => ?_) rfl) fun r M1 e => ?_
        · have h1 := hf3 b k (by omega)
          have h2 := a3 b k (by omega) (by omega)
          have h3 := hf b k r
          simp (disch := omega) only [rdI_e, rdI_n, rdC_i, rdC_o, rdW, rdR, rdU_e, rdU_n]
          rw [h1]
          exact h2.trans h3
        · rw [show N + 1 + 1 = N + 2 by omega] at e
          exact e
  · by_cases q2 : whatV u ≤ 2
    · refine x_iload dX3_passes_79 rfl ?_
      refine x_iconst dX3_passes_81 rfl ?_
      refine x_icmp_gt (tgt := 94) dX3_passes_82 (by decide) (fun h82 => ?_) (fun h82 => ?_)
      · omega
      · refine x_aload_n dX3_passes_85 rfl rfl ?_
        refine x_iload dX3_passes_86 rfl ?_
        refine x_iload dX3_passes_88 rfl ?_
        refine x_iload_n dX3_passes_90 rfl rfl ?_
        refine g_callN (vs := [_, _, _, _]) (d' := d - 1) rfl (s_X3_writes (M := wI M g) (by omega) hh hR.1.1 hw.1 (by omega)) dX3_passes_91 kX3_185 (by omega) (by decide) rfl (Nat.le_of_ble_eq_true rfl) (rcv_o (by assumption) rfl) (fun M91 h91 => ?_)
        obtain ⟨g2, hM91, a1, a2, a3⟩ := h91
        subst hM91
        refine WP.mem (M1 := wI M g2) rfl ?_
        have hR2 := hR.tell hw.1 hB a1 a2 a3
        have hw2 : okA (tellV w (opH u) (whatV u) (u (guA 1))) := hw.tell
        refine x_iload dX3_passes_94 rfl ?_
        refine x_iconst dX3_passes_96 rfl ?_
        refine x_icmp_gt (tgt := 121) dX3_passes_97 (by decide) (fun h97 => ?_) (fun h97 => ?_)
        · have et : tellV w (opH u) (whatV u) (u (guA 1)) = tickP u := by
            unfold tickP tickW
            rw [if_neg q1, if_pos q2, ← hstep]
          rw [et] at hR2 hw2
          have h84 : tickP u 8 = u 8 := by
            rw [← et, tellV_o (by omega) (by omega)]
            exact h8
          refine WP.mono (passes_tail (v := u) (by omega) hh hR2 hw2 (by omega) hB h84 (fun b k r => (a3 b k (by omega) (by omega)).trans (hf b k r)) rfl) fun r M1 e => ?_
          rw [show N + 1 + 1 = N + 2 by omega] at e
          exact e
        · omega
    · refine x_iload dX3_passes_79 rfl ?_
      refine x_iconst dX3_passes_81 rfl ?_
      refine x_icmp_gt (tgt := 94) dX3_passes_82 (by decide) (fun h82 => ?_) (fun h82 => ?_)
      · refine x_iload dX3_passes_94 rfl ?_
        refine x_iconst dX3_passes_96 rfl ?_
        refine x_icmp_gt (tgt := 121) dX3_passes_97 (by decide) (fun h97 => ?_) (fun h97 => ?_)
        · have et : w = tickP u := by
            unfold tickP tickW
            rw [if_neg q1, if_neg q2, ← hstep]
          have hR2 : RelA (msh M) g (mcr M) B T p w (N + 1) := hR.up (by omega)
          have h84 : w 8 = u 8 := h8
          have hw2 := hw
          rw [et] at hR2 hw2 h84
          refine WP.mono (passes_tail (v := u) (by omega) hh hR2 hw2 (by omega) hB h84 hf rfl) fun r M1 e => ?_
          rw [show N + 1 + 1 = N + 2 by omega] at e
          exact e
        · omega
      · omega
end XT

