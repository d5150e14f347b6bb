/-! GuestViewLaw: what each call of GuestView leaves -/
section U
variable {G : GW} {d : Nat} {M : Mem} {n hi sz fa N : Int} {v vi : Vw} {A : Int → Vw} {tp : Int → Int}
abbrev Z_micro (v : Vw) (n : Int) (A : Int → Vw) (hi : Int) (vi : Vw) (tp : Int → Int) (sz fa : Int) (op : Int) (k : Int) (b : Int) : Int → Int → Sg → Prop := fun c y s => ((0 ≤ op ∧ op < v 0) ∧ c = 0 ∧ y = microAns v op k b ∧ s = (v, n, A, hi, vi, tp, sz, fa)) ∨ ((¬ (0 ≤ op ∧ op < v 0)) ∧ c = 1 ∧ s = (v, n, A, hi, vi, tp, sz, fa))
theorem uc_micro {op k b : Int} (hd : 90 ≤ d) (h7 : msh M 760 = some (102, 1)) (hC : CI M v n A hi vi tp sz fa N) : CS G d mX0_micro [dR 0, dI op, dI k, dI b, dR 760] M (UW M N (Z_micro v n A hi vi tp sz fa op k b)) := by
  refine CS.mono (s_X0_micro (by omega) hC.1.1.1.1 (s_X1_micro (by omega) hC) ?_ ?_) ?_
  · exact (fun y M1 h => CO.h7 hC h7 h.2.2)
  · exact (fun a E M1 h => h.2.2)
  · rintro r M1 ⟨k1, rfl, h⟩
    rcases h with ⟨rfl, y, M2, ⟨hc, hy, hco⟩, rfl⟩ | ⟨rfl, a1, hco, hx⟩
    · exact ⟨_, rfl, y, _, _, Or.inl ⟨hc, rfl, hy, rfl⟩, fun _ => mL_v, by omega, (CH.co hC h7 hco (by omega) (by omega)).l⟩
    · obtain ⟨hc, -⟩ := hx
      exact ⟨_, rfl, 0, _, _, Or.inr ⟨hc, rfl, rfl⟩, fun q => absurd q (by omega), by omega, CH.co hC h7 hco (by omega) (by omega)⟩
abbrev Z_cell (v : Vw) (n : Int) (A : Int → Vw) (hi : Int) (vi : Vw) (tp : Int → Int) (sz fa : Int) (k : Int) : Int → Int → Sg → Prop := fun c y s => ((0 ≤ k ∧ k ≤ 7) ∧ c = 0 ∧ y = v (22 + k) ∧ s = (v, n, A, hi, vi, tp, sz, fa)) ∨ ((¬ (0 ≤ k ∧ k ≤ 7)) ∧ c = 1 ∧ s = (v, n, A, hi, vi, tp, sz, fa))
theorem uc_cell {k : Int} (hd : 90 ≤ d) (h7 : msh M 760 = some (102, 1)) (hC : CI M v n A hi vi tp sz fa N) : CS G d mX0_cell [dR 0, dI k, dR 760] M (UW M N (Z_cell v n A hi vi tp sz fa k)) := by
  refine CS.mono (s_X0_cell (by omega) hC.1.1.1.1 (s_X1_cell (by omega) hC) ?_ ?_) ?_
  · exact (fun y M1 h => CO.h7 hC h7 h.2.2)
  · exact (fun a E M1 h => h.2.2)
  · rintro r M1 ⟨k1, rfl, h⟩
    rcases h with ⟨rfl, y, M2, ⟨hc, hy, hco⟩, rfl⟩ | ⟨rfl, a1, hco, hx⟩
    · exact ⟨_, rfl, y, _, _, Or.inl ⟨hc, rfl, hy, rfl⟩, fun _ => mL_v, by omega, (CH.co hC h7 hco (by omega) (by omega)).l⟩
    · obtain ⟨hc, -⟩ := hx
      exact ⟨_, rfl, 0, _, _, Or.inr ⟨hc, rfl, rfl⟩, fun q => absurd q (by omega), by omega, CH.co hC h7 hco (by omega) (by omega)⟩
abbrev Z_guest (v : Vw) (n : Int) (A : Int → Vw) (hi : Int) (vi : Vw) (tp : Int → Int) (sz fa : Int) (b : Int) (w : Int) : Int → Int → Sg → Prop := fun c y s => ((0 ≤ w ∧ w ≤ 13) ∧ c = 0 ∧ y = guestAns v (if b = 0 then 0 else 1) w ∧ s = (v, n, A, hi, vi, tp, sz, fa)) ∨ ((¬ (0 ≤ w ∧ w ≤ 13)) ∧ c = 1 ∧ s = (v, n, A, hi, vi, tp, sz, fa))
theorem uc_guest {b w : Int} (hd : 90 ≤ d) (h7 : msh M 760 = some (102, 1)) (hC : CI M v n A hi vi tp sz fa N) : CS G d mX0_guest [dR 0, dI b, dI w, dR 760] M (UW M N (Z_guest v n A hi vi tp sz fa b w)) := by
  refine CS.mono (s_X0_guest (by omega) hC.1.1.1.1 (s_X1_guest (by omega) hC) ?_ ?_) ?_
  · exact (fun y M1 h => CO.h7 hC h7 h.2.2)
  · exact (fun a E M1 h => h.2.2)
  · rintro r M1 ⟨k1, rfl, h⟩
    rcases h with ⟨rfl, y, M2, ⟨hc, hy, hco⟩, rfl⟩ | ⟨rfl, a1, hco, hx⟩
    · exact ⟨_, rfl, y, _, _, Or.inl ⟨hc, rfl, hy, rfl⟩, fun _ => mL_v, by omega, (CH.co hC h7 hco (by omega) (by omega)).l⟩
    · obtain ⟨hc, -⟩ := hx
      exact ⟨_, rfl, 0, _, _, Or.inr ⟨hc, rfl, rfl⟩, fun q => absurd q (by omega), by omega, CH.co hC h7 hco (by omega) (by omega)⟩
abbrev Z_traps (v : Vw) (n : Int) (A : Int → Vw) (hi : Int) (vi : Vw) (tp : Int → Int) (sz fa : Int) (k : Int) : Int → Int → Sg → Prop := fun c y s => ((0 ≤ k ∧ k ≤ 60) ∧ c = 0 ∧ y = depthV v k 0 (-1) ∧ s = (v, n, A, hi, vi, tp, sz, fa)) ∨ ((¬ (0 ≤ k ∧ k ≤ 60)) ∧ c = 1 ∧ s = (v, n, A, hi, vi, tp, sz, fa))
theorem uc_traps {k : Int} (hd : 90 ≤ d) (h7 : msh M 760 = some (102, 1)) (hC : CI M v n A hi vi tp sz fa N) : CS G d mX0_traps [dR 0, dI k, dR 760] M (UW M N (Z_traps v n A hi vi tp sz fa k)) := by
  refine CS.mono (s_X0_traps (by omega) hC.1.1.1.1 (s_X1_traps (by omega) hC) ?_ ?_) ?_
  · exact (fun y M1 h => CO.h7 hC h7 h.2.2)
  · exact (fun a E M1 h => h.2.2)
  · rintro r M1 ⟨k1, rfl, h⟩
    rcases h with ⟨rfl, y, M2, ⟨hc, hy, hco⟩, rfl⟩ | ⟨rfl, a1, hco, hx⟩
    · exact ⟨_, rfl, y, _, _, Or.inl ⟨hc, rfl, hy, rfl⟩, fun _ => mL_v, by omega, (CH.co hC h7 hco (by omega) (by omega)).l⟩
    · obtain ⟨hc, -⟩ := hx
      exact ⟨_, rfl, 0, _, _, Or.inr ⟨hc, rfl, rfl⟩, fun q => absurd q (by omega), by omega, CH.co hC h7 hco (by omega) (by omega)⟩
abbrev Z_depth (v : Vw) (n : Int) (A : Int → Vw) (hi : Int) (vi : Vw) (tp : Int → Int) (sz fa : Int) (k : Int) (x : Int) : Int → Int → Sg → Prop := fun c y s => (((0 ≤ k ∧ k ≤ 60) ∧ 0 ≤ x ∧ x ≤ 5) ∧ c = 0 ∧ y = depthV v k 1 x ∧ s = (v, n, A, hi, vi, tp, sz, fa)) ∨ ((¬ ((0 ≤ k ∧ k ≤ 60) ∧ 0 ≤ x ∧ x ≤ 5)) ∧ c = 1 ∧ s = (v, n, A, hi, vi, tp, sz, fa))
theorem uc_depth {k x : Int} (hd : 90 ≤ d) (h7 : msh M 760 = some (102, 1)) (hC : CI M v n A hi vi tp sz fa N) : CS G d mX0_depth [dR 0, dI k, dI x, dR 760] M (UW M N (Z_depth v n A hi vi tp sz fa k x)) := by
  refine CS.mono (s_X0_depth (by omega) hC.1.1.1.1 (s_X1_depth (by omega) hC) ?_ ?_) ?_
  · exact (fun y M1 h => CO.h7 hC h7 h.2.2)
  · exact (fun a E M1 h => h.2.2)
  · rintro r M1 ⟨k1, rfl, h⟩
    rcases h with ⟨rfl, y, M2, ⟨hc, hy, hco⟩, rfl⟩ | ⟨rfl, a1, hco, hx⟩
    · exact ⟨_, rfl, y, _, _, Or.inl ⟨hc, rfl, hy, rfl⟩, fun _ => mL_v, by omega, (CH.co hC h7 hco (by omega) (by omega)).l⟩
    · obtain ⟨hc, -⟩ := hx
      exact ⟨_, rfl, 0, _, _, Or.inr ⟨hc, rfl, rfl⟩, fun q => absurd q (by omega), by omega, CH.co hC h7 hco (by omega) (by omega)⟩
abbrev Z_pairs (v : Vw) (n : Int) (A : Int → Vw) (hi : Int) (vi : Vw) (tp : Int → Int) (sz fa : Int) (p : Int) : Int → Int → Sg → Prop := fun c y s => ((p = -1 ∨ 0 ≤ p ∧ p < v 0) ∧ c = 0 ∧ y = pairsAns v p ∧ s = (v, n, A, hi, vi, tp, sz, fa)) ∨ ((¬ (p = -1 ∨ 0 ≤ p ∧ p < v 0)) ∧ c = 1 ∧ s = (v, n, A, hi, vi, tp, sz, fa))
theorem uc_pairs {p : Int} (hd : 90 ≤ d) (h7 : msh M 760 = some (102, 1)) (hC : CI M v n A hi vi tp sz fa N) : CS G d mX0_pairs [dR 0, dI p, dR 760] M (UW M N (Z_pairs v n A hi vi tp sz fa p)) := by
  refine CS.mono (s_X0_pairs (by omega) hC.1.1.1.1 (s_X1_pairs (by omega) hC) ?_ ?_) ?_
  · exact (fun y M1 h => CO.h7 hC h7 h.2.2)
  · exact (fun a E M1 h => h.2.2)
  · rintro r M1 ⟨k1, rfl, h⟩
    rcases h with ⟨rfl, y, M2, ⟨hc, hy, hco⟩, rfl⟩ | ⟨rfl, a1, hco, hx⟩
    · exact ⟨_, rfl, y, _, _, Or.inl ⟨hc, rfl, hy, rfl⟩, fun _ => mL_v, by omega, (CH.co hC h7 hco (by omega) (by omega)).l⟩
    · obtain ⟨hc, -⟩ := hx
      exact ⟨_, rfl, 0, _, _, Or.inr ⟨hc, rfl, rfl⟩, fun q => absurd q (by omega), by omega, CH.co hC h7 hco (by omega) (by omega)⟩
abbrev Z_rests (v : Vw) (n : Int) (A : Int → Vw) (hi : Int) (vi : Vw) (tp : Int → Int) (sz fa : Int) (op : Int) : Int → Int → Sg → Prop := fun c y s => ((0 ≤ op ∧ op < v 0) ∧ c = 0 ∧ y = restAns v op ∧ s = (v, n, A, hi, vi, tp, sz, fa)) ∨ ((¬ (0 ≤ op ∧ op < v 0)) ∧ c = 1 ∧ s = (v, n, A, hi, vi, tp, sz, fa))
theorem uc_rests {op : Int} (hd : 90 ≤ d) (h7 : msh M 760 = some (102, 1)) (hC : CI M v n A hi vi tp sz fa N) : CS G d mX0_rests [dR 0, dI op, dR 760] M (UW M N (Z_rests v n A hi vi tp sz fa op)) := by
  refine CS.mono (s_X0_rests (by omega) hC.1.1.1.1 (s_X1_rests (by omega) hC) ?_ ?_) ?_
  · exact (fun y M1 h => CO.h7 hC h7 h.2.2)
  · exact (fun a E M1 h => h.2.2)
  · rintro r M1 ⟨k1, rfl, h⟩
    rcases h with ⟨rfl, y, M2, ⟨hc, hy, hco⟩, rfl⟩ | ⟨rfl, a1, hco, hx⟩
    · exact ⟨_, rfl, y, _, _, Or.inl ⟨hc, rfl, hy, rfl⟩, fun _ => mL_v, by omega, (CH.co hC h7 hco (by omega) (by omega)).l⟩
    · obtain ⟨hc, -⟩ := hx
      exact ⟨_, rfl, 0, _, _, Or.inr ⟨hc, rfl, rfl⟩, fun q => absurd q (by omega), by omega, CH.co hC h7 hco (by omega) (by omega)⟩
abbrev Z_odds (v : Vw) (n : Int) (A : Int → Vw) (hi : Int) (vi : Vw) (tp : Int → Int) (sz fa : Int) (j : Int) (k : Int) : Int → Int → Sg → Prop := fun c y s => (((0 ≤ j ∧ j ≤ 5) ∧ 0 ≤ k ∧ k ≤ 5) ∧ c = 0 ∧ y = oddsAns v j k ∧ s = (v, n, A, hi, vi, tp, sz, fa)) ∨ ((¬ ((0 ≤ j ∧ j ≤ 5) ∧ 0 ≤ k ∧ k ≤ 5)) ∧ c = 1 ∧ s = (v, n, A, hi, vi, tp, sz, fa))
theorem uc_odds {j k : Int} (hd : 90 ≤ d) (h7 : msh M 760 = some (102, 1)) (hC : CI M v n A hi vi tp sz fa N) : CS G d mX0_odds [dR 0, dI j, dI k, dR 760] M (UW M N (Z_odds v n A hi vi tp sz fa j k)) := by
  refine CS.mono (s_X0_odds (by omega) hC.1.1.1.1 (s_X1_odds (by omega) hC) ?_ ?_) ?_
  · exact (fun y M1 h => CO.h7 hC h7 h.2.2)
  · exact (fun a E M1 h => h.2.2)
  · rintro r M1 ⟨k1, rfl, h⟩
    rcases h with ⟨rfl, y, M2, ⟨hc, hy, hco⟩, rfl⟩ | ⟨rfl, a1, hco, hx⟩
    · exact ⟨_, rfl, y, _, _, Or.inl ⟨hc, rfl, hy, rfl⟩, fun _ => mL_v, by omega, (CH.co hC h7 hco (by omega) (by omega)).l⟩
    · obtain ⟨hc, -⟩ := hx
      exact ⟨_, rfl, 0, _, _, Or.inr ⟨hc, rfl, rfl⟩, fun q => absurd q (by omega), by omega, CH.co hC h7 hco (by omega) (by omega)⟩
abbrev Z_most (v : Vw) (n : Int) (A : Int → Vw) (hi : Int) (vi : Vw) (tp : Int → Int) (sz fa : Int) (w : Int) : Int → Int → Sg → Prop := fun c y s => ((0 ≤ w ∧ w ≤ 2) ∧ c = 0 ∧ y = mostAns v w ∧ s = (v, n, A, hi, vi, tp, sz, fa)) ∨ ((¬ (0 ≤ w ∧ w ≤ 2)) ∧ c = 1 ∧ s = (v, n, A, hi, vi, tp, sz, fa))
theorem uc_most {w : Int} (hd : 90 ≤ d) (h7 : msh M 760 = some (102, 1)) (hC : CI M v n A hi vi tp sz fa N) : CS G d mX0_most [dR 0, dI w, dR 760] M (UW M N (Z_most v n A hi vi tp sz fa w)) := by
  refine CS.mono (s_X0_most (by omega) hC.1.1.1.1 (s_X1_most (by omega) hC) ?_ ?_) ?_
  · exact (fun y M1 h => CO.h7 hC h7 h.2.2)
  · exact (fun a E M1 h => h.2.2)
  · rintro r M1 ⟨k1, rfl, h⟩
    rcases h with ⟨rfl, y, M2, ⟨hc, hy, hco⟩, rfl⟩ | ⟨rfl, a1, hco, hx⟩
    · exact ⟨_, rfl, y, _, _, Or.inl ⟨hc, rfl, hy, rfl⟩, fun _ => mL_v, by omega, (CH.co hC h7 hco (by omega) (by omega)).l⟩
    · obtain ⟨hc, -⟩ := hx
      exact ⟨_, rfl, 0, _, _, Or.inr ⟨hc, rfl, rfl⟩, fun q => absurd q (by omega), by omega, CH.co hC h7 hco (by omega) (by omega)⟩
abbrev Z_ahead (v : Vw) (n : Int) (A : Int → Vw) (hi : Int) (vi : Vw) (tp : Int → Int) (sz fa : Int) (k : Int) (b : Int) : Int → Int → Sg → Prop := fun c y s => ((0 ≤ k ∧ k ≤ 60) ∧ c = 0 ∧ y = aheadAns v k b ∧ s = (v, n, A, hi, vi, tp, sz, fa)) ∨ ((¬ (0 ≤ k ∧ k ≤ 60)) ∧ c = 1 ∧ s = (v, n, A, hi, vi, tp, sz, fa))
theorem uc_ahead {k b : Int} (hd : 90 ≤ d) (h7 : msh M 760 = some (102, 1)) (hC : CI M v n A hi vi tp sz fa N) (hN : N ≤ 900000000) (hb : b = 0 ∨ b = 1) : CS G d mX0_ahead [dR 0, dI k, dI b, dR 760] M (UW M N (Z_ahead v n A hi vi tp sz fa k b)) := by
  refine CS.mono (s_X0_ahead (by omega) hC.1.1.1.1 (s_X1_ahead (by omega) hC hN hb) ?_ ?_) ?_
  · exact (fun y M1 h => CO.h7 hC h7 h.2.2)
  · exact (fun a E M1 h => h.2.2)
  · rintro r M1 ⟨k1, rfl, h⟩
    rcases h with ⟨rfl, y, M2, ⟨hc, hy, hco⟩, rfl⟩ | ⟨rfl, a1, hco, hx⟩
    · exact ⟨_, rfl, y, _, _, Or.inl ⟨hc, rfl, hy, rfl⟩, fun _ => mL_v, by omega, (CH.co hC h7 hco (by omega) (by omega)).l⟩
    · obtain ⟨hc, -⟩ := hx
      exact ⟨_, rfl, 0, _, _, Or.inr ⟨hc, rfl, rfl⟩, fun q => absurd q (by omega), by omega, CH.co hC h7 hco (by omega) (by omega)⟩
abbrev Z_trial (v : Vw) (n : Int) (A : Int → Vw) (hi : Int) (vi : Vw) (tp : Int → Int) (sz fa : Int) (k : Int) (b : Int) : Int → Int → Sg → Prop := fun c y s => ((0 ≤ k ∧ k ≤ 60) ∧ c = 0 ∧ y = trialAns v k b ∧ s = (v, n, A, hi, vi, tp, sz, fa)) ∨ ((¬ (0 ≤ k ∧ k ≤ 60)) ∧ c = 1 ∧ s = (v, n, A, hi, vi, tp, sz, fa))
theorem uc_trial {k b : Int} (hd : 90 ≤ d) (h7 : msh M 760 = some (102, 1)) (hC : CI M v n A hi vi tp sz fa N) (hN : N ≤ 900000000) (hb : b = 0 ∨ b = 1) : CS G d mX0_trial [dR 0, dI k, dI b, dR 760] M (UW M N (Z_trial v n A hi vi tp sz fa k b)) := by
  refine CS.mono (s_X0_trial (by omega) hC.1.1.1.1 (s_X1_trial (by omega) hC hN hb) ?_ ?_) ?_
  · exact (fun y M1 h => CO.h7 hC h7 h.2.2)
  · exact (fun a E M1 h => h.2.2)
  · rintro r M1 ⟨k1, rfl, h⟩
    rcases h with ⟨rfl, y, M2, ⟨hc, hy, hco⟩, rfl⟩ | ⟨rfl, a1, hco, hx⟩
    · exact ⟨_, rfl, y, _, _, Or.inl ⟨hc, rfl, hy, rfl⟩, fun _ => mL_v, by omega, (CH.co hC h7 hco (by omega) (by omega)).l⟩
    · obtain ⟨hc, -⟩ := hx
      exact ⟨_, rfl, 0, _, _, Or.inr ⟨hc, rfl, rfl⟩, fun q => absurd q (by omega), by omega, CH.co hC h7 hco (by omega) (by omega)⟩
abbrev Z_span (v : Vw) (n : Int) (A : Int → Vw) (hi : Int) (vi : Vw) (tp : Int → Int) (sz fa : Int) (k : Int) (b : Int) : Int → Int → Sg → Prop := fun c y s => ((0 ≤ k ∧ k ≤ 60) ∧ c = 0 ∧ y = spanAns v k b ∧ s = (v, n, A, hi, vi, tp, sz, fa)) ∨ ((¬ (0 ≤ k ∧ k ≤ 60)) ∧ c = 1 ∧ s = (v, n, A, hi, vi, tp, sz, fa))
theorem uc_span {k b : Int} (hd : 90 ≤ d) (h7 : msh M 760 = some (102, 1)) (hC : CI M v n A hi vi tp sz fa N) (hN : N ≤ 900000000) (hb : b = 0 ∨ b = 1) : CS G d mX0_span [dR 0, dI k, dI b, dR 760] M (UW M N (Z_span v n A hi vi tp sz fa k b)) := by
  refine CS.mono (s_X0_span (by omega) hC.1.1.1.1 (s_X1_span (by omega) hC hN hb) ?_ ?_) ?_
  · exact (fun y M1 h => CO.h7 hC h7 h.2.2)
  · exact (fun a E M1 h => h.2.2)
  · rintro r M1 ⟨k1, rfl, h⟩
    rcases h with ⟨rfl, y, M2, ⟨hc, hy, hco⟩, rfl⟩ | ⟨rfl, a1, hco, hx⟩
    · exact ⟨_, rfl, y, _, _, Or.inl ⟨hc, rfl, hy, rfl⟩, fun _ => mL_v, by omega, (CH.co hC h7 hco (by omega) (by omega)).l⟩
    · obtain ⟨hc, -⟩ := hx
      exact ⟨_, rfl, 0, _, _, Or.inr ⟨hc, rfl, rfl⟩, fun q => absurd q (by omega), by omega, CH.co hC h7 hco (by omega) (by omega)⟩
abbrev Z_led (v : Vw) (n : Int) (A : Int → Vw) (hi : Int) (vi : Vw) (tp : Int → Int) (sz fa : Int) (op : Int) (b : Int) : Int → Int → Sg → Prop := fun c y s => ((0 ≤ op ∧ op < v 0) ∧ c = 0 ∧ y = ledAns v op b ∧ s = (v, n, A, hi, vi, tp, sz, fa)) ∨ ((¬ (0 ≤ op ∧ op < v 0)) ∧ c = 1 ∧ s = (v, n, A, hi, vi, tp, sz, fa))
theorem uc_led {op b : Int} (hd : 90 ≤ d) (h7 : msh M 760 = some (102, 1)) (hC : CI M v n A hi vi tp sz fa N) (hN : N ≤ 900000000) (hF : FX (v, n, A, hi, vi, tp, sz, fa)) (hb : b = 0 ∨ b = 1) : CS G d mX0_led [dR 0, dI op, dI b, dR 760] M (UW M N (Z_led v n A hi vi tp sz fa op b)) := by
  refine CS.mono (s_X0_led (by omega) hC.1.1.1.1 (s_X1_led (by omega) hC (by omega) (hF.1.t1 hC.2.1.1.1) hb) ?_ ?_) ?_
  · exact (fun y M1 h => CO.h7 hC h7 h.2.2)
  · exact (fun a E M1 h => h.2.2)
  · rintro r M1 ⟨k1, rfl, h⟩
    rcases h with ⟨rfl, y, M2, ⟨hc, hy, hco⟩, rfl⟩ | ⟨rfl, a1, hco, hx⟩
    · exact ⟨_, rfl, y, _, _, Or.inl ⟨hc, rfl, hy, rfl⟩, fun _ => mL_v, by omega, (CH.co hC h7 hco (by omega) (by omega)).l⟩
    · obtain ⟨hc, -⟩ := hx
      exact ⟨_, rfl, 0, _, _, Or.inr ⟨hc, rfl, rfl⟩, fun q => absurd q (by omega), by omega, CH.co hC h7 hco (by omega) (by omega)⟩
abbrev Z_log (v : Vw) (n : Int) (A : Int → Vw) (hi : Int) (vi : Vw) (tp : Int → Int) (sz fa : Int) (k : Int) (w : Int) : Int → Int → Sg → Prop := fun c y s => ((0 ≤ w ∧ w ≤ 3) ∧ c = 0 ∧ y = logAns v k w ∧ s = (v, n, A, hi, vi, tp, sz, fa)) ∨ ((¬ (0 ≤ w ∧ w ≤ 3)) ∧ c = 1 ∧ s = (v, n, A, hi, vi, tp, sz, fa))
theorem uc_log {k w : Int} (hd : 90 ≤ d) (h7 : msh M 760 = some (102, 1)) (hC : CI M v n A hi vi tp sz fa N) (hN : N ≤ 900000000) : CS G d mX0_log [dR 0, dI k, dI w, dR 760] M (UW M N (Z_log v n A hi vi tp sz fa k w)) := by
  refine CS.mono (s_X0_log (by omega) hC.1.1.1.1 (s_X1_log (by omega) hC (by omega)) ?_ ?_) ?_
  · exact (fun y M1 h => CO.h7 hC h7 h.2.2)
  · exact (fun a E M1 h => h.2.2)
  · rintro r M1 ⟨k1, rfl, h⟩
    rcases h with ⟨rfl, y, M2, ⟨hc, hy, hco⟩, rfl⟩ | ⟨rfl, a1, hco, hx⟩
    · exact ⟨_, rfl, y, _, _, Or.inl ⟨hc, rfl, hy, rfl⟩, fun _ => mL_v, by omega, (CH.co hC h7 hco (by omega) (by omega)).l⟩
    · obtain ⟨hc, -⟩ := hx
      exact ⟨_, rfl, 0, _, _, Or.inr ⟨hc, rfl, rfl⟩, fun q => absurd q (by omega), by omega, CH.co hC h7 hco (by omega) (by omega)⟩
abbrev Z_op (v : Vw) (n : Int) (A : Int → Vw) (hi : Int) (vi : Vw) (tp : Int → Int) (sz fa : Int) (op : Int) (w : Int) : Int → Int → Sg → Prop := fun c y s => (((0 ≤ op ∧ op < v 0) ∧ 0 ≤ w ∧ w ≤ 12) ∧ c = 0 ∧ y = opAns v op w ∧ s = (v, n, A, hi, vi, tp, sz, fa)) ∨ ((¬ (0 ≤ op ∧ op < v 0)) ∧ c = 1 ∧ s = (v, n, A, hi, vi, tp, sz, fa)) ∨ (((0 ≤ op ∧ op < v 0) ∧ ¬ (0 ≤ w ∧ w ≤ 12)) ∧ c = 2 ∧ s = (v, n, A, hi, vi, tp, sz, fa))
theorem uc_op {op w : Int} (hd : 90 ≤ d) (h7 : msh M 760 = some (102, 1)) (hC : CI M v n A hi vi tp sz fa N) : CS G d mX0_op [dR 0, dI op, dI w, dR 760] M (UW M N (Z_op v n A hi vi tp sz fa op w)) := by
  refine CS.mono (s_X0_op (by omega) hC.1.1.1.1 (s_X1_op (by omega) hC) ?_ ?_) ?_
  · exact (fun y M1 h => CO.h7 hC h7 h.2.2)
  · intro a E M1 h
    rcases h.2 with ⟨-, e⟩ | ⟨-, -, e⟩
    · exact Or.inl (e)
    · exact Or.inr (e)
  · rintro r M1 ⟨k1, rfl, h⟩
    rcases h with ⟨rfl, y, M2, ⟨hc, hy, hco⟩, rfl⟩ | ⟨rfl, a1, hco, hx⟩ | ⟨rfl, a1, hco, hx⟩
    · exact ⟨_, rfl, y, _, _, Or.inl ⟨hc, rfl, hy, rfl⟩, fun _ => mL_v, by omega, (CH.co hC h7 hco (by omega) (by omega)).l⟩
    · rcases hx with ⟨g0, e⟩ | ⟨g0, g1, e⟩
      · exact ⟨_, rfl, 0, _, _, Or.inr (Or.inl ⟨g0, rfl, rfl⟩), fun q => absurd q (by omega), by omega, CH.co hC h7 hco (by omega) (by omega)⟩
      · exact absurd e (by simp)
    · rcases hx with ⟨g0, e⟩ | ⟨g0, g1, e⟩
      · exact absurd e (by simp)
      · exact ⟨_, rfl, 0, _, _, Or.inr (Or.inr ⟨⟨g0, g1⟩, rfl, rfl⟩), fun q => absurd q (by omega), by omega, CH.co hC h7 hco (by omega) (by omega)⟩
abbrev Z_witness (v : Vw) (n : Int) (A : Int → Vw) (hi : Int) (vi : Vw) (tp : Int → Int) (sz fa : Int) (op : Int) (w : Int) : Int → Int → Sg → Prop := fun c y s => (((0 ≤ op ∧ op < v 0) ∧ 0 ≤ w ∧ w ≤ 3) ∧ c = 0 ∧ y = witV v op w ∧ s = (v, n, A, hi, vi, tp, sz, fa)) ∨ ((¬ (0 ≤ op ∧ op < v 0)) ∧ c = 1 ∧ s = (v, n, A, hi, vi, tp, sz, fa)) ∨ (((0 ≤ op ∧ op < v 0) ∧ ¬ (0 ≤ w ∧ w ≤ 3)) ∧ c = 2 ∧ s = (v, n, A, hi, vi, tp, sz, fa))
theorem uc_witness {op w : Int} (hd : 90 ≤ d) (h7 : msh M 760 = some (102, 1)) (hC : CI M v n A hi vi tp sz fa N) : CS G d mX0_witness [dR 0, dI op, dI w, dR 760] M (UW M N (Z_witness v n A hi vi tp sz fa op w)) := by
  refine CS.mono (s_X0_witness (by omega) hC.1.1.1.1 (s_X1_witness (by omega) hC) ?_ ?_) ?_
  · exact (fun y M1 h => CO.h7 hC h7 h.2.2)
  · intro a E M1 h
    rcases h.2 with ⟨-, e⟩ | ⟨-, -, e⟩
    · exact Or.inl (e)
    · exact Or.inr (e)
  · rintro r M1 ⟨k1, rfl, h⟩
    rcases h with ⟨rfl, y, M2, ⟨hc, hy, hco⟩, rfl⟩ | ⟨rfl, a1, hco, hx⟩ | ⟨rfl, a1, hco, hx⟩
    · exact ⟨_, rfl, y, _, _, Or.inl ⟨hc, rfl, hy, rfl⟩, fun _ => mL_v, by omega, (CH.co hC h7 hco (by omega) (by omega)).l⟩
    · rcases hx with ⟨g0, e⟩ | ⟨g0, g1, e⟩
      · exact ⟨_, rfl, 0, _, _, Or.inr (Or.inl ⟨g0, rfl, rfl⟩), fun q => absurd q (by omega), by omega, CH.co hC h7 hco (by omega) (by omega)⟩
      · exact absurd e (by simp)
    · rcases hx with ⟨g0, e⟩ | ⟨g0, g1, e⟩
      · exact absurd e (by simp)
      · exact ⟨_, rfl, 0, _, _, Or.inr (Or.inr ⟨⟨g0, g1⟩, rfl, rfl⟩), fun q => absurd q (by omega), by omega, CH.co hC h7 hco (by omega) (by omega)⟩
abbrev Z_done (v : Vw) (n : Int) (A : Int → Vw) (hi : Int) (vi : Vw) (tp : Int → Int) (sz fa : Int) (op : Int) (st : Int) (w : Int) : Int → Int → Sg → Prop := fun c y s => (((0 ≤ op ∧ op < v 0) ∧ (0 ≤ st ∧ st ≤ 511) ∧ 0 ≤ w ∧ w ≤ 12) ∧ c = 0 ∧ y = doneAns v op st w ∧ s = (v, n, A, hi, vi, tp, sz, fa)) ∨ ((¬ (0 ≤ op ∧ op < v 0)) ∧ c = 1 ∧ s = (v, n, A, hi, vi, tp, sz, fa)) ∨ (((0 ≤ op ∧ op < v 0) ∧ ¬ (0 ≤ st ∧ st ≤ 511)) ∧ c = 2 ∧ s = (v, n, A, hi, vi, tp, sz, fa)) ∨ (((0 ≤ op ∧ op < v 0) ∧ (0 ≤ st ∧ st ≤ 511) ∧ ¬ (0 ≤ w ∧ w ≤ 12)) ∧ c = 3 ∧ s = (v, n, A, hi, vi, tp, sz, fa))
theorem uc_done {op st w : Int} (hd : 90 ≤ d) (h7 : msh M 760 = some (102, 1)) (hC : CI M v n A hi vi tp sz fa N) : CS G d mX0_done [dR 0, dI op, dI st, dI w, dR 760] M (UW M N (Z_done v n A hi vi tp sz fa op st w)) := by
  refine CS.mono (s_X0_done (by omega) hC.1.1.1.1 (s_X1_done (by omega) hC) ?_ ?_) ?_
  · exact (fun y M1 h => CO.h7 hC h7 h.2.2)
  · intro a E M1 h
    rcases h.2 with ⟨-, e⟩ | ⟨-, -, e⟩ | ⟨-, -, -, e⟩
    · exact Or.inl (e)
    · exact Or.inr (Or.inl (e))
    · exact Or.inr (Or.inr (e))
  · rintro r M1 ⟨k1, rfl, h⟩
    rcases h with ⟨rfl, y, M2, ⟨hc, hy, hco⟩, rfl⟩ | ⟨rfl, a1, hco, hx⟩ | ⟨rfl, a1, hco, hx⟩ | ⟨rfl, a1, hco, hx⟩
    · exact ⟨_, rfl, y, _, _, Or.inl ⟨hc, rfl, hy, rfl⟩, fun _ => mL_v, by omega, (CH.co hC h7 hco (by omega) (by omega)).l⟩
    · rcases hx with ⟨g0, e⟩ | ⟨g0, g1, e⟩ | ⟨g0, g1, g2, e⟩
      · exact ⟨_, rfl, 0, _, _, Or.inr (Or.inl ⟨g0, rfl, rfl⟩), fun q => absurd q (by omega), by omega, CH.co hC h7 hco (by omega) (by omega)⟩
      · exact absurd e (by simp)
      · exact absurd e (by simp)
    · rcases hx with ⟨g0, e⟩ | ⟨g0, g1, e⟩ | ⟨g0, g1, g2, e⟩
      · exact absurd e (by simp)
      · exact ⟨_, rfl, 0, _, _, Or.inr (Or.inr (Or.inl ⟨⟨g0, g1⟩, rfl, rfl⟩)), fun q => absurd q (by omega), by omega, CH.co hC h7 hco (by omega) (by omega)⟩
      · exact absurd e (by simp)
    · rcases hx with ⟨g0, e⟩ | ⟨g0, g1, e⟩ | ⟨g0, g1, g2, e⟩
      · exact absurd e (by simp)
      · exact absurd e (by simp)
      · exact ⟨_, rfl, 0, _, _, Or.inr (Or.inr (Or.inr ⟨⟨g0, g1, g2⟩, rfl, rfl⟩)), fun q => absurd q (by omega), by omega, CH.co hC h7 hco (by omega) (by omega)⟩
abbrev Z_clash (v : Vw) (n : Int) (A : Int → Vw) (hi : Int) (vi : Vw) (tp : Int → Int) (sz fa : Int) (a : Int) (b : Int) : Int → Int → Sg → Prop := fun c y s => ((((0 ≤ a ∧ a < v 0) ∧ 0 ≤ b ∧ b < v 0) ∧ ¬ a = b) ∧ c = 0 ∧ y = vP (clashV v a b) ∧ s = (v, n, A, hi, vi, tp, sz, fa)) ∨ ((¬ ((0 ≤ a ∧ a < v 0) ∧ 0 ≤ b ∧ b < v 0)) ∧ c = 1 ∧ s = (v, n, A, hi, vi, tp, sz, fa)) ∨ ((((0 ≤ a ∧ a < v 0) ∧ 0 ≤ b ∧ b < v 0) ∧ a = b) ∧ c = 2 ∧ s = (v, n, A, hi, vi, tp, sz, fa))
theorem uc_clash {a b : Int} (hd : 90 ≤ d) (h7 : msh M 760 = some (102, 1)) (hC : CI M v n A hi vi tp sz fa N) : CS G d mX0_clash [dR 0, dI a, dI b, dR 760] M (UW M N (Z_clash v n A hi vi tp sz fa a b)) := by
  refine CS.mono (s_X0_clash (by omega) hC.1.1.1.1 (s_X1_clash (by omega) hC) ?_ ?_) ?_
  · exact (fun y M1 h => ⟨CO.h7 hC h7 h.2.2, by rw [h.2.1]; exact vP_r _⟩)
  · intro a E M1 h
    rcases h.2 with ⟨-, e⟩ | ⟨-, -, e⟩
    · exact Or.inl (e)
    · exact Or.inr (e)
  · rintro r M1 ⟨k1, rfl, h⟩
    rcases h with ⟨rfl, y, M2, ⟨hc, hy, hco⟩, rfl⟩ | ⟨rfl, a1, hco, hx⟩ | ⟨rfl, a1, hco, hx⟩
    · exact ⟨_, rfl, y, _, _, Or.inl ⟨hc, rfl, hy, rfl⟩, fun _ => mL_v, by omega, (CH.co hC h7 hco (by omega) (by omega)).l⟩
    · rcases hx with ⟨g0, e⟩ | ⟨g0, g1, e⟩
      · exact ⟨_, rfl, 0, _, _, Or.inr (Or.inl ⟨g0, rfl, rfl⟩), fun q => absurd q (by omega), by omega, CH.co hC h7 hco (by omega) (by omega)⟩
      · exact absurd e (by simp)
    · rcases hx with ⟨g0, e⟩ | ⟨g0, g1, e⟩
      · exact absurd e (by simp)
      · exact ⟨_, rfl, 0, _, _, Or.inr (Or.inr ⟨⟨g0, g1⟩, rfl, rfl⟩), fun q => absurd q (by omega), by omega, CH.co hC h7 hco (by omega) (by omega)⟩
abbrev Z_which (v : Vw) (n : Int) (A : Int → Vw) (hi : Int) (vi : Vw) (tp : Int → Int) (sz fa : Int) : Int → Int → Sg → Prop := fun c y s => ((toldOk tp sz) ∧ c = 0 ∧ y = fitV v tp sz 1 ∧ s = (v, n, A, hi, vi, tp, 0, fa)) ∨ ((¬ toldOk tp sz) ∧ c = 1 ∧ s = (v, n, A, hi, vi, tp, 0, fa))
theorem uc_which (hd : 90 ≤ d) (h7 : msh M 760 = some (102, 1)) (hC : CI M v n A hi vi tp sz fa N) (hF : FX (v, n, A, hi, vi, tp, sz, fa)) : CS G d mX0_which [dR 0, dR 760] M (UW M N (Z_which v n A hi vi tp sz fa)) := by
  refine CS.mono (s_X0_which (by omega) hC.1.1.1.1 (s_X1_which (by omega) hC (hF.1.n1 hC.2.1.1.1)) ?_ ?_) ?_
  · exact (fun y M1 h => CO.h7 hC h7 h.2.2)
  · exact (fun a E M1 h => h.2.2)
  · rintro r M1 ⟨k1, rfl, h⟩
    rcases h with ⟨rfl, y, M2, ⟨hc, hy, hco⟩, rfl⟩ | ⟨rfl, a1, hco, hx⟩
    · exact ⟨_, rfl, y, _, _, Or.inl ⟨hc, rfl, hy, rfl⟩, fun _ => mL_v, by omega, (CH.co hC h7 hco (by omega) (by omega)).l⟩
    · obtain ⟨hc, -⟩ := hx
      exact ⟨_, rfl, 0, _, _, Or.inr ⟨hc, rfl, rfl⟩, fun q => absurd q (by omega), by omega, CH.co hC h7 hco (by omega) (by omega)⟩
abbrev Z_likely (v : Vw) (n : Int) (A : Int → Vw) (hi : Int) (vi : Vw) (tp : Int → Int) (sz fa : Int) : Int → Int → Sg → Prop := fun c y s => ((toldOk tp sz) ∧ c = 0 ∧ y = likelyAns v tp sz ∧ s = (v, n, A, hi, vi, tp, 0, fa)) ∨ ((¬ toldOk tp sz) ∧ c = 1 ∧ s = (v, n, A, hi, vi, tp, 0, fa))
theorem uc_likely (hd : 90 ≤ d) (h7 : msh M 760 = some (102, 1)) (hC : CI M v n A hi vi tp sz fa N) (hF : FX (v, n, A, hi, vi, tp, sz, fa)) : CS G d mX0_likely [dR 0, dR 760] M (UW M N (Z_likely v n A hi vi tp sz fa)) := by
  refine CS.mono (s_X0_likely (by omega) hC.1.1.1.1 (s_X1_likely (by omega) hC (hF.1.n1 hC.2.1.1.1)) ?_ ?_) ?_
  · exact (fun y M1 h => CO.h7 hC h7 h.2.2)
  · exact (fun a E M1 h => h.2.2)
  · rintro r M1 ⟨k1, rfl, h⟩
    rcases h with ⟨rfl, y, M2, ⟨hc, hy, hco⟩, rfl⟩ | ⟨rfl, a1, hco, hx⟩
    · exact ⟨_, rfl, y, _, _, Or.inl ⟨hc, rfl, hy, rfl⟩, fun _ => mL_v, by omega, (CH.co hC h7 hco (by omega) (by omega)).l⟩
    · obtain ⟨hc, -⟩ := hx
      exact ⟨_, rfl, 0, _, _, Or.inr ⟨hc, rfl, rfl⟩, fun q => absurd q (by omega), by omega, CH.co hC h7 hco (by omega) (by omega)⟩
abbrev Z_ask (v : Vw) (n : Int) (A : Int → Vw) (hi : Int) (vi : Vw) (tp : Int → Int) (sz fa : Int) : Int → Int → Sg → Prop := fun c y s => ((toldOk tp sz) ∧ c = 0 ∧ y = askAns v tp sz ∧ s = (v, n, A, hi, vi, tp, 0, fa)) ∨ ((¬ toldOk tp sz) ∧ c = 1 ∧ s = (v, n, A, hi, vi, tp, 0, fa))
theorem uc_ask (hd : 90 ≤ d) (h7 : msh M 760 = some (102, 1)) (hC : CI M v n A hi vi tp sz fa N) (hF : FX (v, n, A, hi, vi, tp, sz, fa)) : CS G d mX0_ask [dR 0, dR 760] M (UW M N (Z_ask v n A hi vi tp sz fa)) := by
  refine CS.mono (s_X0_ask (by omega) hC.1.1.1.1 (s_X1_ask (by omega) hC (hF.1.n1 hC.2.1.1.1)) ?_ ?_) ?_
  · exact (fun y M1 h => CO.h7 hC h7 h.2.2)
  · exact (fun a E M1 h => h.2.2)
  · rintro r M1 ⟨k1, rfl, h⟩
    rcases h with ⟨rfl, y, M2, ⟨hc, hy, hco⟩, rfl⟩ | ⟨rfl, a1, hco, hx⟩
    · exact ⟨_, rfl, y, _, _, Or.inl ⟨hc, rfl, hy, rfl⟩, fun _ => mL_v, by omega, (CH.co hC h7 hco (by omega) (by omega)).l⟩
    · obtain ⟨hc, -⟩ := hx
      exact ⟨_, rfl, 0, _, _, Or.inr ⟨hc, rfl, rfl⟩, fun q => absurd q (by omega), by omega, CH.co hC h7 hco (by omega) (by omega)⟩
abbrev Z_vector (v : Vw) (n : Int) (A : Int → Vw) (hi : Int) (vi : Vw) (tp : Int → Int) (sz fa : Int) (k : Int) : Int → Int → Sg → Prop := fun c y s => ((0 ≤ k ∧ k ≤ 9) ∧ c = 0 ∧ y = v 4 ∧ s = (bootV (us v 4 k), remN n, remA A n v, hi, vi, tp, sz, fa)) ∨ ((¬ (0 ≤ k ∧ k ≤ 9)) ∧ c = 1 ∧ s = (v, n, A, hi, vi, tp, sz, fa))
theorem uc_vector {k : Int} (hd : 90 ≤ d) (h7 : msh M 760 = some (102, 1)) (hC : CI M v n A hi vi tp sz fa N) : CS G d mX0_vector [dR 0, dI k, dR 760] M (UW M N (Z_vector v n A hi vi tp sz fa k)) := by
  refine CS.mono (s_X0_vector (by omega) hC.1.1.1.1 (s_X1_vector (by omega) hC) ?_ ?_) ?_
  · exact (fun y M1 h => CO.h7 hC h7 h.2.2)
  · exact (fun a E M1 h => h.2.2)
  · rintro r M1 ⟨k1, rfl, h⟩
    rcases h with ⟨rfl, y, M2, ⟨hc, hy, hco⟩, rfl⟩ | ⟨rfl, a1, hco, hx⟩
    · exact ⟨_, rfl, y, _, _, Or.inl ⟨hc, rfl, hy, rfl⟩, fun _ => mL_v, by omega, (CH.co hC h7 hco (by omega) (by omega)).l⟩
    · obtain ⟨hc, -⟩ := hx
      exact ⟨_, rfl, 0, _, _, Or.inr ⟨hc, rfl, rfl⟩, fun q => absurd q (by omega), by omega, CH.co hC h7 hco (by omega) (by omega)⟩
abbrev Z_cost (v : Vw) (n : Int) (A : Int → Vw) (hi : Int) (vi : Vw) (tp : Int → Int) (sz fa : Int) (k : Int) : Int → Int → Sg → Prop := fun c y s => ((0 ≤ k ∧ k ≤ 7) ∧ c = 0 ∧ y = v 6 ∧ s = (bootV (us v 6 k), remN n, remA A n v, hi, vi, tp, sz, fa)) ∨ ((¬ (0 ≤ k ∧ k ≤ 7)) ∧ c = 1 ∧ s = (v, n, A, hi, vi, tp, sz, fa))
theorem uc_cost {k : Int} (hd : 90 ≤ d) (h7 : msh M 760 = some (102, 1)) (hC : CI M v n A hi vi tp sz fa N) : CS G d mX0_cost [dR 0, dI k, dR 760] M (UW M N (Z_cost v n A hi vi tp sz fa k)) := by
  refine CS.mono (s_X0_cost (by omega) hC.1.1.1.1 (s_X1_cost (by omega) hC) ?_ ?_) ?_
  · exact (fun y M1 h => CO.h7 hC h7 h.2.2)
  · exact (fun a E M1 h => h.2.2)
  · rintro r M1 ⟨k1, rfl, h⟩
    rcases h with ⟨rfl, y, M2, ⟨hc, hy, hco⟩, rfl⟩ | ⟨rfl, a1, hco, hx⟩
    · exact ⟨_, rfl, y, _, _, Or.inl ⟨hc, rfl, hy, rfl⟩, fun _ => mL_v, by omega, (CH.co hC h7 hco (by omega) (by omega)).l⟩
    · obtain ⟨hc, -⟩ := hx
      exact ⟨_, rfl, 0, _, _, Or.inr ⟨hc, rfl, rfl⟩, fun q => absurd q (by omega), by omega, CH.co hC h7 hco (by omega) (by omega)⟩
abbrev Z_alarm (v : Vw) (n : Int) (A : Int → Vw) (hi : Int) (vi : Vw) (tp : Int → Int) (sz fa : Int) (k : Int) : Int → Int → Sg → Prop := fun c y s => ((0 ≤ k ∧ k ≤ 100) ∧ c = 0 ∧ y = v 7 ∧ s = (bootV (us v 7 k), remN n, remA A n v, hi, vi, tp, sz, fa)) ∨ ((¬ (0 ≤ k ∧ k ≤ 100)) ∧ c = 1 ∧ s = (v, n, A, hi, vi, tp, sz, fa))
theorem uc_alarm {k : Int} (hd : 90 ≤ d) (h7 : msh M 760 = some (102, 1)) (hC : CI M v n A hi vi tp sz fa N) : CS G d mX0_alarm [dR 0, dI k, dR 760] M (UW M N (Z_alarm v n A hi vi tp sz fa k)) := by
  refine CS.mono (s_X0_alarm (by omega) hC.1.1.1.1 (s_X1_alarm (by omega) hC) ?_ ?_) ?_
  · exact (fun y M1 h => CO.h7 hC h7 h.2.2)
  · exact (fun a E M1 h => h.2.2)
  · rintro r M1 ⟨k1, rfl, h⟩
    rcases h with ⟨rfl, y, M2, ⟨hc, hy, hco⟩, rfl⟩ | ⟨rfl, a1, hco, hx⟩
    · exact ⟨_, rfl, y, _, _, Or.inl ⟨hc, rfl, hy, rfl⟩, fun _ => mL_v, by omega, (CH.co hC h7 hco (by omega) (by omega)).l⟩
    · obtain ⟨hc, -⟩ := hx
      exact ⟨_, rfl, 0, _, _, Or.inr ⟨hc, rfl, rfl⟩, fun q => absurd q (by omega), by omega, CH.co hC h7 hco (by omega) (by omega)⟩
abbrev Z_shift (v : Vw) (n : Int) (A : Int → Vw) (hi : Int) (vi : Vw) (tp : Int → Int) (sz fa : Int) (k : Int) : Int → Int → Sg → Prop := fun c y s => ((0 ≤ k ∧ k ≤ 3) ∧ c = 0 ∧ y = v 5 / 2 ∧ s = (bootV (us v 5 (2 * k)), remN n, remA A n v, hi, vi, tp, sz, fa)) ∨ ((¬ (0 ≤ k ∧ k ≤ 3)) ∧ c = 1 ∧ s = (v, n, A, hi, vi, tp, sz, fa))
theorem uc_shift {k : Int} (hd : 90 ≤ d) (h7 : msh M 760 = some (102, 1)) (hC : CI M v n A hi vi tp sz fa N) : CS G d mX0_shift [dR 0, dI k, dR 760] M (UW M N (Z_shift v n A hi vi tp sz fa k)) := by
  refine CS.mono (s_X0_shift (by omega) hC.1.1.1.1 (s_X1_shift (by omega) hC) ?_ ?_) ?_
  · exact (fun y M1 h => CO.h7 hC h7 h.2.2)
  · exact (fun a E M1 h => h.2.2)
  · rintro r M1 ⟨k1, rfl, h⟩
    rcases h with ⟨rfl, y, M2, ⟨hc, hy, hco⟩, rfl⟩ | ⟨rfl, a1, hco, hx⟩
    · exact ⟨_, rfl, y, _, _, Or.inl ⟨hc, rfl, hy, rfl⟩, fun _ => mL_v, by omega, (CH.co hC h7 hco (by omega) (by omega)).l⟩
    · obtain ⟨hc, -⟩ := hx
      exact ⟨_, rfl, 0, _, _, Or.inr ⟨hc, rfl, rfl⟩, fun q => absurd q (by omega), by omega, CH.co hC h7 hco (by omega) (by omega)⟩
abbrev Z_store (v : Vw) (n : Int) (A : Int → Vw) (hi : Int) (vi : Vw) (tp : Int → Int) (sz fa : Int) (k : Int) (x : Int) : Int → Int → Sg → Prop := fun c y s => (((0 ≤ k ∧ k ≤ 7) ∧ 0 ≤ x ∧ x ≤ 3) ∧ c = 0 ∧ y = v (22 + k) ∧ s = (bootV (us v (22 + k) x), remN n, remA A n v, hi, vi, tp, sz, fa)) ∨ ((¬ (0 ≤ k ∧ k ≤ 7)) ∧ c = 1 ∧ s = (v, n, A, hi, vi, tp, sz, fa)) ∨ (((0 ≤ k ∧ k ≤ 7) ∧ ¬ (0 ≤ x ∧ x ≤ 3)) ∧ c = 2 ∧ s = (v, n, A, hi, vi, tp, sz, fa))
theorem uc_store {k x : Int} (hd : 90 ≤ d) (h7 : msh M 760 = some (102, 1)) (hC : CI M v n A hi vi tp sz fa N) : CS G d mX0_store [dR 0, dI k, dI x, dR 760] M (UW M N (Z_store v n A hi vi tp sz fa k x)) := by
  refine CS.mono (s_X0_store (by omega) hC.1.1.1.1 (s_X1_store (by omega) hC) ?_ ?_) ?_
  · exact (fun y M1 h => CO.h7 hC h7 h.2.2)
  · intro a E M1 h
    rcases h.2 with ⟨-, e⟩ | ⟨-, -, e⟩
    · exact Or.inl (e)
    · exact Or.inr (e)
  · rintro r M1 ⟨k1, rfl, h⟩
    rcases h with ⟨rfl, y, M2, ⟨hc, hy, hco⟩, rfl⟩ | ⟨rfl, a1, hco, hx⟩ | ⟨rfl, a1, hco, hx⟩
    · exact ⟨_, rfl, y, _, _, Or.inl ⟨hc, rfl, hy, rfl⟩, fun _ => mL_v, by omega, (CH.co hC h7 hco (by omega) (by omega)).l⟩
    · rcases hx with ⟨g0, e⟩ | ⟨g0, g1, e⟩
      · exact ⟨_, rfl, 0, _, _, Or.inr (Or.inl ⟨g0, rfl, rfl⟩), fun q => absurd q (by omega), by omega, CH.co hC h7 hco (by omega) (by omega)⟩
      · exact absurd e (by simp)
    · rcases hx with ⟨g0, e⟩ | ⟨g0, g1, e⟩
      · exact absurd e (by simp)
      · exact ⟨_, rfl, 0, _, _, Or.inr (Or.inr ⟨⟨g0, g1⟩, rfl, rfl⟩), fun q => absurd q (by omega), by omega, CH.co hC h7 hco (by omega) (by omega)⟩
abbrev Z_put (v : Vw) (n : Int) (A : Int → Vw) (hi : Int) (vi : Vw) (tp : Int → Int) (sz fa : Int) (k : Int) (op : Int) : Int → Int → Sg → Prop := fun c y s => (((0 ≤ k ∧ k ≤ v 3 ∧ k ≤ 9) ∧ 0 ≤ op ∧ op < v 0) ∧ c = 0 ∧ y = progAns v k ∧ s = (us (bootV (us v (12 + k) op)) 3 (if k = v 3 then v 3 + 1 else v 3), remN n, remA A n v, hi, vi, tp, sz, fa)) ∨ ((¬ ((0 ≤ k ∧ k ≤ v 3 ∧ k ≤ 9) ∧ 0 ≤ op ∧ op < v 0)) ∧ c = 1 ∧ s = (v, n, A, hi, vi, tp, sz, fa))
theorem uc_put {k op : Int} (hd : 90 ≤ d) (h7 : msh M 760 = some (102, 1)) (hC : CI M v n A hi vi tp sz fa N) : CS G d mX0_put [dR 0, dI k, dI op, dR 760] M (UW M N (Z_put v n A hi vi tp sz fa k op)) := by
  refine CS.mono (s_X0_put (by omega) hC.1.1.1.1 (s_X1_put (by omega) hC) ?_ ?_) ?_
  · exact (fun y M1 h => CO.h7 hC h7 h.2.2)
  · exact (fun a E M1 h => h.2.2)
  · rintro r M1 ⟨k1, rfl, h⟩
    rcases h with ⟨rfl, y, M2, ⟨hc, hy, hco⟩, rfl⟩ | ⟨rfl, a1, hco, hx⟩
    · exact ⟨_, rfl, y, _, _, Or.inl ⟨hc, rfl, hy, rfl⟩, fun _ => mL_v, by omega, (CH.co hC h7 hco (by omega) (by omega)).l⟩
    · obtain ⟨hc, -⟩ := hx
      exact ⟨_, rfl, 0, _, _, Or.inr ⟨hc, rfl, rfl⟩, fun q => absurd q (by omega), by omega, CH.co hC h7 hco (by omega) (by omega)⟩
abbrev Z_patch (v : Vw) (n : Int) (A : Int → Vw) (hi : Int) (vi : Vw) (tp : Int → Int) (sz fa : Int) (op : Int) (b : Int) : Int → Int → Sg → Prop := fun c y s => ((0 ≤ op ∧ op < v 0) ∧ c = 0 ∧ y = vP (¬ opP v op = b) ∧ s = (bootV (us v (32 + 9 * op) b), remN n, remA A n v, hi, vi, tp, sz, fa)) ∨ ((¬ (0 ≤ op ∧ op < v 0)) ∧ c = 1 ∧ s = (v, n, A, hi, vi, tp, sz, fa))
theorem uc_patch {op b : Int} (hd : 90 ≤ d) (h7 : msh M 760 = some (102, 1)) (hC : CI M v n A hi vi tp sz fa N) (hb : b = 0 ∨ b = 1) : CS G d mX0_patch [dR 0, dI op, dI b, dR 760] M (UW M N (Z_patch v n A hi vi tp sz fa op b)) := by
  refine CS.mono (s_X0_patch (by omega) hC.1.1.1.1 (s_X1_patch (by omega) hC hb) ?_ ?_) ?_
  · exact (fun y M1 h => ⟨CO.h7 hC h7 h.2.2, by rw [h.2.1]; exact vP_r _⟩)
  · exact (fun a E M1 h => h.2.2)
  · rintro r M1 ⟨k1, rfl, h⟩
    rcases h with ⟨rfl, y, M2, ⟨hc, hy, hco⟩, rfl⟩ | ⟨rfl, a1, hco, hx⟩
    · exact ⟨_, rfl, y, _, _, Or.inl ⟨hc, rfl, hy, rfl⟩, fun _ => mL_v, by omega, (CH.co hC h7 hco (by omega) (by omega)).l⟩
    · obtain ⟨hc, -⟩ := hx
      exact ⟨_, rfl, 0, _, _, Or.inr ⟨hc, rfl, rfl⟩, fun q => absurd q (by omega), by omega, CH.co hC h7 hco (by omega) (by omega)⟩
abbrev Z_guard (v : Vw) (n : Int) (A : Int → Vw) (hi : Int) (vi : Vw) (tp : Int → Int) (sz fa : Int) (op : Int) (b : Int) : Int → Int → Sg → Prop := fun c y s => ((0 ≤ op ∧ op < v 0) ∧ c = 0 ∧ y = vP (¬ opG v op = b) ∧ s = (bootV (us v (31 + 9 * op) b), remN n, remA A n v, hi, vi, tp, sz, fa)) ∨ ((¬ (0 ≤ op ∧ op < v 0)) ∧ c = 1 ∧ s = (v, n, A, hi, vi, tp, sz, fa))
theorem uc_guard {op b : Int} (hd : 90 ≤ d) (h7 : msh M 760 = some (102, 1)) (hC : CI M v n A hi vi tp sz fa N) (hb : b = 0 ∨ b = 1) : CS G d mX0_guard [dR 0, dI op, dI b, dR 760] M (UW M N (Z_guard v n A hi vi tp sz fa op b)) := by
  refine CS.mono (s_X0_guard (by omega) hC.1.1.1.1 (s_X1_guard (by omega) hC hb) ?_ ?_) ?_
  · exact (fun y M1 h => ⟨CO.h7 hC h7 h.2.2, by rw [h.2.1]; exact vP_r _⟩)
  · exact (fun a E M1 h => h.2.2)
  · rintro r M1 ⟨k1, rfl, h⟩
    rcases h with ⟨rfl, y, M2, ⟨hc, hy, hco⟩, rfl⟩ | ⟨rfl, a1, hco, hx⟩
    · exact ⟨_, rfl, y, _, _, Or.inl ⟨hc, rfl, hy, rfl⟩, fun _ => mL_v, by omega, (CH.co hC h7 hco (by omega) (by omega)).l⟩
    · obtain ⟨hc, -⟩ := hx
      exact ⟨_, rfl, 0, _, _, Or.inr ⟨hc, rfl, rfl⟩, fun q => absurd q (by omega), by omega, CH.co hC h7 hco (by omega) (by omega)⟩
abbrev Z_ticks (v : Vw) (n : Int) (A : Int → Vw) (hi : Int) (vi : Vw) (tp : Int → Int) (sz fa : Int) (k : Int) : Int → Int → Sg → Prop := fun c y s => ((1 ≤ k ∧ k ≤ 60) ∧ c = 0 ∧ y = cntT v True k.toNat ∧ s = (goT v True k.toNat, remN n, remA A n v, hi, vi, tp, sz, fa)) ∨ ((¬ (1 ≤ k ∧ k ≤ 60)) ∧ c = 1 ∧ s = (v, n, A, hi, vi, tp, sz, fa))
theorem uc_ticks {k : Int} (hd : 90 ≤ d) (h7 : msh M 760 = some (102, 1)) (hC : CI M v n A hi vi tp sz fa N) (hN : N ≤ 900000000) : CS G d mX0_ticks [dR 0, dI k, dR 760] M (UW M N (Z_ticks v n A hi vi tp sz fa k)) := by
  refine CS.mono (s_X0_ticks (by omega) hC.1.1.1.1 (s_X1_ticks (by omega) hC hN) ?_ ?_) ?_
  · exact (fun y M1 h => CO.h7 hC h7 h.2.2)
  · exact (fun a E M1 h => h.2.2)
  · rintro r M1 ⟨k1, rfl, h⟩
    rcases h with ⟨rfl, y, M2, ⟨hc, hy, hco⟩, rfl⟩ | ⟨rfl, a1, hco, hx⟩
    · exact ⟨_, rfl, y, _, _, Or.inl ⟨hc, rfl, hy, rfl⟩, fun _ => mL_v, by omega, (CH.co hC h7 hco (by omega) (by omega)).l⟩
    · obtain ⟨hc, -⟩ := hx
      exact ⟨_, rfl, 0, _, _, Or.inr ⟨hc, rfl, rfl⟩, fun q => absurd q (by omega), by omega, CH.co hC h7 hco (by omega) (by omega)⟩
abbrev Z_fault (v : Vw) (n : Int) (A : Int → Vw) (hi : Int) (vi : Vw) (tp : Int → Int) (sz fa : Int) : Int → Int → Sg → Prop := fun c y s => (c = 0 ∧ y = fa ∧ s = (v, n, A, hi, vi, tp, sz, fa))
theorem uc_fault (hd : 90 ≤ d) (h7 : msh M 760 = some (102, 1)) (hC : CI M v n A hi vi tp sz fa N) : CS G d mX1_fault [dR 0] M (UP M N (Z_fault v n A hi vi tp sz fa)) := by
  refine CS.mono (s_X1_fault (by omega) hC) ?_
  rintro r M1 ⟨y, rfl, hy, hco⟩
  exact ⟨_, rfl, _, _, ⟨rfl, hy, rfl⟩, by omega, CH.co hC h7 hco (by omega) (by omega)⟩
abbrev Z_program (v : Vw) (n : Int) (A : Int → Vw) (hi : Int) (vi : Vw) (tp : Int → Int) (sz fa : Int) (k : Int) : Int → Int → Sg → Prop := fun c y s => (c = 0 ∧ y = progAns v k ∧ s = (v, n, A, hi, vi, tp, sz, fa))
theorem uc_program {k : Int} (hd : 90 ≤ d) (h7 : msh M 760 = some (102, 1)) (hC : CI M v n A hi vi tp sz fa N) : CS G d mX1_program [dR 0, dI k] M (UP M N (Z_program v n A hi vi tp sz fa k)) := by
  refine CS.mono (s_X1_program (by omega) hC) ?_
  rintro r M1 ⟨y, rfl, hy, hco⟩
  subst hco
  exact ⟨_, rfl, _, _, ⟨rfl, hy, rfl⟩, by omega, CH.id hC h7⟩
abbrev Z_count (v : Vw) (n : Int) (A : Int → Vw) (hi : Int) (vi : Vw) (tp : Int → Int) (sz fa : Int) (w : Int) : Int → Int → Sg → Prop := fun c y s => (c = 0 ∧ y = countAns v n w ∧ s = (v, n, A, hi, vi, tp, sz, fa))
theorem uc_count {w : Int} (hd : 90 ≤ d) (h7 : msh M 760 = some (102, 1)) (hC : CI M v n A hi vi tp sz fa N) : CS G d mX1_count [dR 0, dI w] M (UP M N (Z_count v n A hi vi tp sz fa w)) := by
  refine CS.mono (s_X1_count (by omega) hC) ?_
  rintro r M1 ⟨y, rfl, hy, hco⟩
  exact ⟨_, rfl, _, _, ⟨rfl, hy, rfl⟩, by omega, CH.co hC h7 hco (by omega) (by omega)⟩
abbrev Z_alike (v : Vw) (n : Int) (A : Int → Vw) (hi : Int) (vi : Vw) (tp : Int → Int) (sz fa : Int) : Int → Int → Sg → Prop := fun c y s => (c = 0 ∧ y = vP (likeG v) ∧ s = (v, n, A, hi, vi, tp, sz, fa))
theorem uc_alike (hd : 90 ≤ d) (h7 : msh M 760 = some (102, 1)) (hC : CI M v n A hi vi tp sz fa N) : CS G d mX1_alike [dR 0] M (UP M N (Z_alike v n A hi vi tp sz fa)) := by
  refine CS.mono (s_X1_alike (by omega) hC) ?_
  rintro r M1 ⟨y, rfl, hy, hco⟩
  subst hco
  exact ⟨_, rfl, _, _, ⟨rfl, hy, rfl⟩, by omega, CH.id hC h7⟩
abbrev Z_hostable (v : Vw) (n : Int) (A : Int → Vw) (hi : Int) (vi : Vw) (tp : Int → Int) (sz fa : Int) : Int → Int → Sg → Prop := fun c y s => (c = 0 ∧ y = vP (openV v = 0) ∧ s = (v, n, A, hi, vi, tp, sz, fa))
theorem uc_hostable (hd : 90 ≤ d) (h7 : msh M 760 = some (102, 1)) (hC : CI M v n A hi vi tp sz fa N) : CS G d mX1_hostable [dR 0] M (UP M N (Z_hostable v n A hi vi tp sz fa)) := by
  refine CS.mono (s_X1_hostable (by omega) hC) ?_
  rintro r M1 ⟨y, rfl, hy, hco⟩
  subst hco
  exact ⟨_, rfl, _, _, ⟨rfl, hy, rfl⟩, by omega, CH.id hC h7⟩
abbrev Z_open (v : Vw) (n : Int) (A : Int → Vw) (hi : Int) (vi : Vw) (tp : Int → Int) (sz fa : Int) : Int → Int → Sg → Prop := fun c y s => (c = 0 ∧ y = bc0 (openV v) ∧ s = (v, n, A, hi, vi, tp, sz, fa))
theorem uc_open (hd : 90 ≤ d) (h7 : msh M 760 = some (102, 1)) (hC : CI M v n A hi vi tp sz fa N) : CS G d mX1_open [dR 0] M (UP M N (Z_open v n A hi vi tp sz fa)) := by
  refine CS.mono (s_X1_open (by omega) hC) ?_
  rintro r M1 ⟨y, rfl, hy, hco⟩
  subst hco
  exact ⟨_, rfl, _, _, ⟨rfl, hy, rfl⟩, by omega, CH.id hC h7⟩
abbrev Z_least (v : Vw) (n : Int) (A : Int → Vw) (hi : Int) (vi : Vw) (tp : Int → Int) (sz fa : Int) : Int → Int → Sg → Prop := fun c y s => (c = 0 ∧ y = leastV v ∧ s = (v, n, A, hi, vi, tp, sz, fa))
theorem uc_least (hd : 90 ≤ d) (h7 : msh M 760 = some (102, 1)) (hC : CI M v n A hi vi tp sz fa N) : CS G d mX1_least [dR 0] M (UP M N (Z_least v n A hi vi tp sz fa)) := by
  refine CS.mono (s_X1_least (by omega) hC) ?_
  rintro r M1 ⟨y, rfl, hy, hco⟩
  subst hco
  exact ⟨_, rfl, _, _, ⟨rfl, hy, rfl⟩, by omega, CH.id hC h7⟩
abbrev Z_leaks (v : Vw) (n : Int) (A : Int → Vw) (hi : Int) (vi : Vw) (tp : Int → Int) (sz fa : Int) : Int → Int → Sg → Prop := fun c y s => (c = 0 ∧ y = leakV v ∧ s = (v, n, A, hi, vi, tp, sz, fa))
theorem uc_leaks (hd : 90 ≤ d) (h7 : msh M 760 = some (102, 1)) (hC : CI M v n A hi vi tp sz fa N) : CS G d mX1_leaks [dR 0] M (UP M N (Z_leaks v n A hi vi tp sz fa)) := by
  refine CS.mono (s_X1_leaks (by omega) hC) ?_
  rintro r M1 ⟨y, rfl, hy, hco⟩
  exact ⟨_, rfl, _, _, ⟨rfl, hy, rfl⟩, by omega, CH.co hC h7 hco (by omega) (by omega)⟩
abbrev Z_twins (v : Vw) (n : Int) (A : Int → Vw) (hi : Int) (vi : Vw) (tp : Int → Int) (sz fa : Int) : Int → Int → Sg → Prop := fun c y s => (c = 0 ∧ y = twinsV v ∧ s = (v, n, A, hi, vi, tp, sz, fa))
theorem uc_twins (hd : 90 ≤ d) (h7 : msh M 760 = some (102, 1)) (hC : CI M v n A hi vi tp sz fa N) : CS G d mX1_twins [dR 0] M (UP M N (Z_twins v n A hi vi tp sz fa)) := by
  refine CS.mono (s_X1_twins (by omega) hC) ?_
  rintro r M1 ⟨y, rfl, hy, hco⟩
  subst hco
  exact ⟨_, rfl, _, _, ⟨rfl, hy, rfl⟩, by omega, CH.id hC h7⟩
abbrev Z_beside (v : Vw) (n : Int) (A : Int → Vw) (hi : Int) (vi : Vw) (tp : Int → Int) (sz fa : Int) : Int → Int → Sg → Prop := fun c y s => (c = 0 ∧ y = besideAns v ∧ s = (v, n, A, hi, vi, tp, sz, fa))
theorem uc_beside (hd : 90 ≤ d) (h7 : msh M 760 = some (102, 1)) (hC : CI M v n A hi vi tp sz fa N) : CS G d mX1_beside [dR 0] M (UP M N (Z_beside v n A hi vi tp sz fa)) := by
  refine CS.mono (s_X1_beside (by omega) hC) ?_
  rintro r M1 ⟨y, rfl, hy, hco⟩
  subst hco
  exact ⟨_, rfl, _, _, ⟨rfl, hy, rfl⟩, by omega, CH.id hC h7⟩
abbrev Z_proof (v : Vw) (n : Int) (A : Int → Vw) (hi : Int) (vi : Vw) (tp : Int → Int) (sz fa : Int) : Int → Int → Sg → Prop := fun c y s => (c = 0 ∧ y = proofAns v ∧ s = (v, n, A, hi, vi, tp, sz, fa))
theorem uc_proof (hd : 90 ≤ d) (h7 : msh M 760 = some (102, 1)) (hC : CI M v n A hi vi tp sz fa N) : CS G d mX1_proof [dR 0] M (UP M N (Z_proof v n A hi vi tp sz fa)) := by
  refine CS.mono (s_X1_proof (by omega) hC) ?_
  rintro r M1 ⟨y, rfl, hy, hco⟩
  exact ⟨_, rfl, _, _, ⟨rfl, hy, rfl⟩, by omega, CH.co hC h7 hco (by omega) (by omega)⟩
abbrev Z_lead (v : Vw) (n : Int) (A : Int → Vw) (hi : Int) (vi : Vw) (tp : Int → Int) (sz fa : Int) : Int → Int → Sg → Prop := fun c y s => (c = 0 ∧ y = leadAns v ∧ s = (v, n, A, hi, vi, tp, sz, fa))
theorem uc_lead (hd : 90 ≤ d) (h7 : msh M 760 = some (102, 1)) (hC : CI M v n A hi vi tp sz fa N) : CS G d mX1_lead [dR 0] M (UP M N (Z_lead v n A hi vi tp sz fa)) := by
  refine CS.mono (s_X1_lead (by omega) hC) ?_
  rintro r M1 ⟨y, rfl, hy, hco⟩
  exact ⟨_, rfl, _, _, ⟨rfl, hy, rfl⟩, by omega, CH.co hC h7 hco (by omega) (by omega)⟩
abbrev Z_side (v : Vw) (n : Int) (A : Int → Vw) (hi : Int) (vi : Vw) (tp : Int → Int) (sz fa : Int) : Int → Int → Sg → Prop := fun c y s => (c = 0 ∧ y = sideAns v ∧ s = (v, n, A, hi, vi, tp, sz, fa))
theorem uc_side (hd : 90 ≤ d) (h7 : msh M 760 = some (102, 1)) (hC : CI M v n A hi vi tp sz fa N) : CS G d mX1_side [dR 0] M (UP M N (Z_side v n A hi vi tp sz fa)) := by
  refine CS.mono (s_X1_side (by omega) hC) ?_
  rintro r M1 ⟨y, rfl, hy, hco⟩
  exact ⟨_, rfl, _, _, ⟨rfl, hy, rfl⟩, by omega, CH.co hC h7 hco (by omega) (by omega)⟩
end U

