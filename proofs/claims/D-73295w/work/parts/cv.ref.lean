/-! GuestViewLaw: what each call of the reference leaves -/
section U
variable {G : GW} {d : Nat} {M : Mem} {n hi sz fa N : Int} {v vi : Vw} {A : Int → Vw} {tp : Int → Int}
theorem rc_micro {op k b : Int} {c y : Int} {s : Sg} (hd : 90 ≤ d) (hI : TI M 744 v n A hi vi tp sz fa) (hR : Z_micro v n A hi vi tp sz fa op k b c y s) : CS G d mX8_micro [dR 744, dI op, dI k, dI b] M (VW M c y s) := by
  refine CS.mono (s_X8_micro (by omega) hI.1) ?_
  rintro r M1 ⟨b1, rfl, hrd, hx⟩
  rcases hR with ⟨hc, rfl, rfl, rfl⟩ | ⟨hc, rfl, rfl⟩
  · rw [if_pos hc] at hrd
    obtain ⟨t1, t2, t3⟩ := hI.rd hrd
    exact ⟨_, rfl, t3, fun _ => hx hc, ⟨_, fun _ _ _ => rfl, t1⟩, t2⟩
  · rw [if_neg hc] at hrd
    obtain ⟨t1, t2, t3⟩ := hI.rd hrd
    exact ⟨_, rfl, t3, fun q => absurd q (by omega), ⟨_, fun _ _ _ => rfl, t1⟩, t2⟩
theorem rc_cell {k : Int} {c y : Int} {s : Sg} (hd : 90 ≤ d) (hI : TI M 744 v n A hi vi tp sz fa) (hR : Z_cell v n A hi vi tp sz fa k c y s) : CS G d mX8_cell [dR 744, dI k] M (VW M c y s) := by
  refine CS.mono (s_X8_cell (by omega) hI.1) ?_
  rintro r M1 ⟨b1, rfl, hrd, hx⟩
  rcases hR with ⟨hc, rfl, rfl, rfl⟩ | ⟨hc, rfl, rfl⟩
  · rw [if_pos hc] at hrd
    obtain ⟨t1, t2, t3⟩ := hI.rd hrd
    exact ⟨_, rfl, t3, fun _ => hx hc, ⟨_, fun _ _ _ => rfl, t1⟩, t2⟩
  · rw [if_neg hc] at hrd
    obtain ⟨t1, t2, t3⟩ := hI.rd hrd
    exact ⟨_, rfl, t3, fun q => absurd q (by omega), ⟨_, fun _ _ _ => rfl, t1⟩, t2⟩
theorem rc_guest {b w : Int} {c y : Int} {s : Sg} (hd : 90 ≤ d) (hI : TI M 744 v n A hi vi tp sz fa) (hR : Z_guest v n A hi vi tp sz fa b w c y s) : CS G d mX8_guest [dR 744, dI b, dI w] M (VW M c y s) := by
  refine CS.mono (s_X8_guest (by omega) hI.1) ?_
  rintro r M1 ⟨b1, rfl, hrd, hx⟩
  rcases hR with ⟨hc, rfl, rfl, rfl⟩ | ⟨hc, rfl, rfl⟩
  · rw [if_pos hc] at hrd
    obtain ⟨t1, t2, t3⟩ := hI.rd hrd
    exact ⟨_, rfl, t3, fun _ => hx hc, ⟨_, fun _ _ _ => rfl, t1⟩, t2⟩
  · rw [if_neg hc] at hrd
    obtain ⟨t1, t2, t3⟩ := hI.rd hrd
    exact ⟨_, rfl, t3, fun q => absurd q (by omega), ⟨_, fun _ _ _ => rfl, t1⟩, t2⟩
theorem rc_traps {k : Int} {c y : Int} {s : Sg} (hd : 90 ≤ d) (hI : TI M 744 v n A hi vi tp sz fa) (hR : Z_traps v n A hi vi tp sz fa k c y s) : CS G d mX8_traps [dR 744, dI k] M (VW M c y s) := by
  refine CS.mono (s_X8_traps (by omega) hI.1) ?_
  rintro r M1 ⟨b1, rfl, hrd, hx⟩
  rcases hR with ⟨hc, rfl, rfl, rfl⟩ | ⟨hc, rfl, rfl⟩
  · rw [if_pos hc] at hrd
    obtain ⟨t1, t2, t3⟩ := hI.rd hrd
    exact ⟨_, rfl, t3, fun _ => hx hc, ⟨_, fun _ _ _ => rfl, t1⟩, t2⟩
  · rw [if_neg hc] at hrd
    obtain ⟨t1, t2, t3⟩ := hI.rd hrd
    exact ⟨_, rfl, t3, fun q => absurd q (by omega), ⟨_, fun _ _ _ => rfl, t1⟩, t2⟩
theorem rc_depth {k x : Int} {c y : Int} {s : Sg} (hd : 90 ≤ d) (hI : TI M 744 v n A hi vi tp sz fa) (hR : Z_depth v n A hi vi tp sz fa k x c y s) : CS G d mX8_depth [dR 744, dI k, dI x] M (VW M c y s) := by
  refine CS.mono (s_X8_depth (by omega) hI.1) ?_
  rintro r M1 ⟨b1, rfl, hrd, hx⟩
  rcases hR with ⟨hc, rfl, rfl, rfl⟩ | ⟨hc, rfl, rfl⟩
  · rw [if_pos hc] at hrd
    obtain ⟨t1, t2, t3⟩ := hI.rd hrd
    exact ⟨_, rfl, t3, fun _ => hx hc, ⟨_, fun _ _ _ => rfl, t1⟩, t2⟩
  · rw [if_neg hc] at hrd
    obtain ⟨t1, t2, t3⟩ := hI.rd hrd
    exact ⟨_, rfl, t3, fun q => absurd q (by omega), ⟨_, fun _ _ _ => rfl, t1⟩, t2⟩
theorem rc_pairs {p : Int} {c y : Int} {s : Sg} (hd : 90 ≤ d) (hI : TI M 744 v n A hi vi tp sz fa) (hR : Z_pairs v n A hi vi tp sz fa p c y s) : CS G d mX8_pairs [dR 744, dI p] M (VW M c y s) := by
  refine CS.mono (s_X8_pairs (by omega) hI.1) ?_
  rintro r M1 ⟨b1, rfl, hrd, hx⟩
  rcases hR with ⟨hc, rfl, rfl, rfl⟩ | ⟨hc, rfl, rfl⟩
  · rw [if_pos hc] at hrd
    obtain ⟨t1, t2, t3⟩ := hI.rd hrd
    exact ⟨_, rfl, t3, fun _ => hx hc, ⟨_, fun _ _ _ => rfl, t1⟩, t2⟩
  · rw [if_neg hc] at hrd
    obtain ⟨t1, t2, t3⟩ := hI.rd hrd
    exact ⟨_, rfl, t3, fun q => absurd q (by omega), ⟨_, fun _ _ _ => rfl, t1⟩, t2⟩
theorem rc_rests {op : Int} {c y : Int} {s : Sg} (hd : 90 ≤ d) (hI : TI M 744 v n A hi vi tp sz fa) (hR : Z_rests v n A hi vi tp sz fa op c y s) : CS G d mX8_rests [dR 744, dI op] M (VW M c y s) := by
  refine CS.mono (s_X8_rests (by omega) hI.1) ?_
  rintro r M1 ⟨b1, rfl, hrd, hx⟩
  rcases hR with ⟨hc, rfl, rfl, rfl⟩ | ⟨hc, rfl, rfl⟩
  · rw [if_pos hc] at hrd
    obtain ⟨t1, t2, t3⟩ := hI.rd hrd
    exact ⟨_, rfl, t3, fun _ => hx hc, ⟨_, fun _ _ _ => rfl, t1⟩, t2⟩
  · rw [if_neg hc] at hrd
    obtain ⟨t1, t2, t3⟩ := hI.rd hrd
    exact ⟨_, rfl, t3, fun q => absurd q (by omega), ⟨_, fun _ _ _ => rfl, t1⟩, t2⟩
theorem rc_odds {j k : Int} {c y : Int} {s : Sg} (hd : 90 ≤ d) (hI : TI M 744 v n A hi vi tp sz fa) (hR : Z_odds v n A hi vi tp sz fa j k c y s) : CS G d mX8_odds [dR 744, dI j, dI k] M (VW M c y s) := by
  refine CS.mono (s_X8_odds (by omega) hI.1) ?_
  rintro r M1 ⟨b1, rfl, hrd, hx⟩
  rcases hR with ⟨hc, rfl, rfl, rfl⟩ | ⟨hc, rfl, rfl⟩
  · rw [if_pos hc] at hrd
    obtain ⟨t1, t2, t3⟩ := hI.rd hrd
    exact ⟨_, rfl, t3, fun _ => hx hc, ⟨_, fun _ _ _ => rfl, t1⟩, t2⟩
  · rw [if_neg hc] at hrd
    obtain ⟨t1, t2, t3⟩ := hI.rd hrd
    exact ⟨_, rfl, t3, fun q => absurd q (by omega), ⟨_, fun _ _ _ => rfl, t1⟩, t2⟩
theorem rc_most {w : Int} {c y : Int} {s : Sg} (hd : 90 ≤ d) (hI : TI M 744 v n A hi vi tp sz fa) (hR : Z_most v n A hi vi tp sz fa w c y s) : CS G d mX8_most [dR 744, dI w] M (VW M c y s) := by
  refine CS.mono (s_X8_most (by omega) hI.1) ?_
  rintro r M1 ⟨b1, rfl, hrd, hx⟩
  rcases hR with ⟨hc, rfl, rfl, rfl⟩ | ⟨hc, rfl, rfl⟩
  · rw [if_pos hc] at hrd
    obtain ⟨t1, t2, t3⟩ := hI.rd hrd
    exact ⟨_, rfl, t3, fun _ => hx hc, ⟨_, fun _ _ _ => rfl, t1⟩, t2⟩
  · rw [if_neg hc] at hrd
    obtain ⟨t1, t2, t3⟩ := hI.rd hrd
    exact ⟨_, rfl, t3, fun q => absurd q (by omega), ⟨_, fun _ _ _ => rfl, t1⟩, t2⟩
theorem rc_ahead {k b : Int} {c y : Int} {s : Sg} (hd : 90 ≤ d) (hI : TI M 744 v n A hi vi tp sz fa) (hR : Z_ahead v n A hi vi tp sz fa k b c y s) : CS G d mX8_ahead [dR 744, dI k, dI b] M (VW M c y s) := by
  refine CS.mono (s_X8_ahead (by omega) hI.1) ?_
  rintro r M1 ⟨b1, rfl, hrd, hx⟩
  rcases hR with ⟨hc, rfl, rfl, rfl⟩ | ⟨hc, rfl, rfl⟩
  · rw [if_pos hc] at hrd
    obtain ⟨t1, t2, t3⟩ := hI.rd hrd
    exact ⟨_, rfl, t3, fun _ => hx hc, ⟨_, fun _ _ _ => rfl, t1⟩, t2⟩
  · rw [if_neg hc] at hrd
    obtain ⟨t1, t2, t3⟩ := hI.rd hrd
    exact ⟨_, rfl, t3, fun q => absurd q (by omega), ⟨_, fun _ _ _ => rfl, t1⟩, t2⟩
theorem rc_trial {k b : Int} {c y : Int} {s : Sg} (hd : 90 ≤ d) (hI : TI M 744 v n A hi vi tp sz fa) (hR : Z_trial v n A hi vi tp sz fa k b c y s) : CS G d mX8_trial [dR 744, dI k, dI b] M (VW M c y s) := by
  refine CS.mono (s_X8_trial (by omega) hI.1) ?_
  rintro r M1 ⟨b1, rfl, hrd, hx⟩
  rcases hR with ⟨hc, rfl, rfl, rfl⟩ | ⟨hc, rfl, rfl⟩
  · rw [if_pos hc] at hrd
    obtain ⟨t1, t2, t3⟩ := hI.rd hrd
    exact ⟨_, rfl, t3, fun _ => hx hc, ⟨_, fun _ _ _ => rfl, t1⟩, t2⟩
  · rw [if_neg hc] at hrd
    obtain ⟨t1, t2, t3⟩ := hI.rd hrd
    exact ⟨_, rfl, t3, fun q => absurd q (by omega), ⟨_, fun _ _ _ => rfl, t1⟩, t2⟩
theorem rc_span {k b : Int} {c y : Int} {s : Sg} (hd : 90 ≤ d) (hI : TI M 744 v n A hi vi tp sz fa) (hR : Z_span v n A hi vi tp sz fa k b c y s) : CS G d mX8_span [dR 744, dI k, dI b] M (VW M c y s) := by
  refine CS.mono (s_X8_span (by omega) hI.1) ?_
  rintro r M1 ⟨b1, rfl, hrd, hx⟩
  rcases hR with ⟨hc, rfl, rfl, rfl⟩ | ⟨hc, rfl, rfl⟩
  · rw [if_pos hc] at hrd
    obtain ⟨t1, t2, t3⟩ := hI.rd hrd
    exact ⟨_, rfl, t3, fun _ => hx hc, ⟨_, fun _ _ _ => rfl, t1⟩, t2⟩
  · rw [if_neg hc] at hrd
    obtain ⟨t1, t2, t3⟩ := hI.rd hrd
    exact ⟨_, rfl, t3, fun q => absurd q (by omega), ⟨_, fun _ _ _ => rfl, t1⟩, t2⟩
theorem rc_led {op b : Int} {c y : Int} {s : Sg} (hd : 90 ≤ d) (hI : TI M 744 v n A hi vi tp sz fa) (hR : Z_led v n A hi vi tp sz fa op b c y s) : CS G d mX8_led [dR 744, dI op, dI b] M (VW M c y s) := by
  refine CS.mono (s_X8_led (by omega) hI.1) ?_
  rintro r M1 ⟨b1, rfl, hrd, hx⟩
  rcases hR with ⟨hc, rfl, rfl, rfl⟩ | ⟨hc, rfl, rfl⟩
  · rw [if_pos hc] at hrd
    obtain ⟨t1, t2, t3⟩ := hI.rd hrd
    exact ⟨_, rfl, t3, fun _ => hx hc, ⟨_, fun _ _ _ => rfl, t1⟩, t2⟩
  · rw [if_neg hc] at hrd
    obtain ⟨t1, t2, t3⟩ := hI.rd hrd
    exact ⟨_, rfl, t3, fun q => absurd q (by omega), ⟨_, fun _ _ _ => rfl, t1⟩, t2⟩
theorem rc_log {k w : Int} {c y : Int} {s : Sg} (hd : 90 ≤ d) (hI : TI M 744 v n A hi vi tp sz fa) (hR : Z_log v n A hi vi tp sz fa k w c y s) : CS G d mX8_log [dR 744, dI k, dI w] M (VW M c y s) := by
  refine CS.mono (s_X8_log (by omega) hI.1) ?_
  rintro r M1 ⟨b1, rfl, hrd, hx⟩
  rcases hR with ⟨hc, rfl, rfl, rfl⟩ | ⟨hc, rfl, rfl⟩
  · rw [if_pos hc] at hrd
    obtain ⟨t1, t2, t3⟩ := hI.rd hrd
    exact ⟨_, rfl, t3, fun _ => hx hc, ⟨_, fun _ _ _ => rfl, t1⟩, t2⟩
  · rw [if_neg hc] at hrd
    obtain ⟨t1, t2, t3⟩ := hI.rd hrd
    exact ⟨_, rfl, t3, fun q => absurd q (by omega), ⟨_, fun _ _ _ => rfl, t1⟩, t2⟩
theorem rc_op {op w : Int} {c y : Int} {s : Sg} (hd : 90 ≤ d) (hI : TI M 744 v n A hi vi tp sz fa) (hR : Z_op v n A hi vi tp sz fa op w c y s) : CS G d mX8_op [dR 744, dI op, dI w] M (VW M c y s) := by
  refine CS.mono (s_X8_op (by omega) hI.1) ?_
  rintro r M1 ⟨b1, rfl, hrd, hx⟩
  rcases hR with ⟨hc, rfl, rfl, rfl⟩ | ⟨hc, rfl, rfl⟩ | ⟨hc, rfl, rfl⟩
  · rw [if_pos hc.1, if_pos hc.2] at hrd
    obtain ⟨t1, t2, t3⟩ := hI.rd hrd
    exact ⟨_, rfl, t3, fun _ => hx hc, ⟨_, fun _ _ _ => rfl, t1⟩, t2⟩
  · rw [if_neg hc] at hrd
    obtain ⟨t1, t2, t3⟩ := hI.rd hrd
    exact ⟨_, rfl, t3, fun q => absurd q (by omega), ⟨_, fun _ _ _ => rfl, t1⟩, t2⟩
  · rw [if_pos hc.1, if_neg hc.2] at hrd
    obtain ⟨t1, t2, t3⟩ := hI.rd hrd
    exact ⟨_, rfl, t3, fun q => absurd q (by omega), ⟨_, fun _ _ _ => rfl, t1⟩, t2⟩
theorem rc_witness {op w : Int} {c y : Int} {s : Sg} (hd : 90 ≤ d) (hI : TI M 744 v n A hi vi tp sz fa) (hR : Z_witness v n A hi vi tp sz fa op w c y s) : CS G d mX8_witness [dR 744, dI op, dI w] M (VW M c y s) := by
  refine CS.mono (s_X8_witness (by omega) hI.1) ?_
  rintro r M1 ⟨b1, rfl, hrd, hx⟩
  rcases hR with ⟨hc, rfl, rfl, rfl⟩ | ⟨hc, rfl, rfl⟩ | ⟨hc, rfl, rfl⟩
  · rw [if_pos hc.1, if_pos hc.2] at hrd
    obtain ⟨t1, t2, t3⟩ := hI.rd hrd
    exact ⟨_, rfl, t3, fun _ => hx hc, ⟨_, fun _ _ _ => rfl, t1⟩, t2⟩
  · rw [if_neg hc] at hrd
    obtain ⟨t1, t2, t3⟩ := hI.rd hrd
    exact ⟨_, rfl, t3, fun q => absurd q (by omega), ⟨_, fun _ _ _ => rfl, t1⟩, t2⟩
  · rw [if_pos hc.1, if_neg hc.2] at hrd
    obtain ⟨t1, t2, t3⟩ := hI.rd hrd
    exact ⟨_, rfl, t3, fun q => absurd q (by omega), ⟨_, fun _ _ _ => rfl, t1⟩, t2⟩
theorem rc_done {op st w : Int} {c y : Int} {s : Sg} (hd : 90 ≤ d) (hI : TI M 744 v n A hi vi tp sz fa) (hR : Z_done v n A hi vi tp sz fa op st w c y s) : CS G d mX8_done [dR 744, dI op, dI st, dI w] M (VW M c y s) := by
  refine CS.mono (s_X8_done (by omega) hI.1) ?_
  rintro r M1 ⟨b1, rfl, hrd, hx⟩
  rcases hR with ⟨hc, rfl, rfl, rfl⟩ | ⟨hc, rfl, rfl⟩ | ⟨hc, rfl, rfl⟩ | ⟨hc, rfl, rfl⟩
  · rw [if_pos hc.1, if_pos hc.2.1, if_pos hc.2.2] at hrd
    obtain ⟨t1, t2, t3⟩ := hI.rd hrd
    exact ⟨_, rfl, t3, fun _ => hx hc, ⟨_, fun _ _ _ => rfl, t1⟩, t2⟩
  · rw [if_neg hc] at hrd
    obtain ⟨t1, t2, t3⟩ := hI.rd hrd
    exact ⟨_, rfl, t3, fun q => absurd q (by omega), ⟨_, fun _ _ _ => rfl, t1⟩, t2⟩
  · rw [if_pos hc.1, if_neg hc.2] at hrd
    obtain ⟨t1, t2, t3⟩ := hI.rd hrd
    exact ⟨_, rfl, t3, fun q => absurd q (by omega), ⟨_, fun _ _ _ => rfl, t1⟩, t2⟩
  · rw [if_pos hc.1, if_pos hc.2.1, if_neg hc.2.2] at hrd
    obtain ⟨t1, t2, t3⟩ := hI.rd hrd
    exact ⟨_, rfl, t3, fun q => absurd q (by omega), ⟨_, fun _ _ _ => rfl, t1⟩, t2⟩
theorem rc_clash {a b : Int} {c y : Int} {s : Sg} (hd : 90 ≤ d) (hI : TI M 744 v n A hi vi tp sz fa) (hR : Z_clash v n A hi vi tp sz fa a b c y s) : CS G d mX8_clash [dR 744, dI a, dI b] M (VW M c y s) := by
  refine CS.mono (s_X8_clash (by omega) hI.1) ?_
  rintro r M1 ⟨b1, rfl, hrd, hx⟩
  rcases hR with ⟨hc, rfl, rfl, rfl⟩ | ⟨hc, rfl, rfl⟩ | ⟨hc, rfl, rfl⟩
  · rw [if_pos hc.1, if_neg hc.2] at hrd
    obtain ⟨t1, t2, t3⟩ := hI.rd hrd
    exact ⟨_, rfl, t3, fun _ => hx hc, ⟨_, fun _ _ _ => rfl, t1⟩, t2⟩
  · rw [if_neg hc] at hrd
    obtain ⟨t1, t2, t3⟩ := hI.rd hrd
    exact ⟨_, rfl, t3, fun q => absurd q (by omega), ⟨_, fun _ _ _ => rfl, t1⟩, t2⟩
  · rw [if_pos hc.1, if_pos hc.2] at hrd
    obtain ⟨t1, t2, t3⟩ := hI.rd hrd
    exact ⟨_, rfl, t3, fun q => absurd q (by omega), ⟨_, fun _ _ _ => rfl, t1⟩, t2⟩
theorem rc_which {c y : Int} {s : Sg} (hd : 90 ≤ d) (hI : TI M 744 v n A hi vi tp sz fa) (hR : Z_which v n A hi vi tp sz fa c y s) : CS G d mX8_which [dR 744] M (VW M c y s) := by
  refine CS.mono (s_X8_which (by omega) hI) ?_
  rintro r M1 ⟨b1, rfl, hx1, hx2⟩
  rcases hR with ⟨hc, rfl, rfl, rfl⟩ | ⟨hc, rfl, rfl⟩
  · obtain ⟨e, t1, t2, t3⟩ := hx1 hc
    exact ⟨_, rfl, t3, fun _ => e, ⟨_, fun _ _ _ => rfl, t1⟩, t2⟩
  · obtain ⟨t1, t2, t3⟩ := hx2 hc
    exact ⟨_, rfl, t3, fun q => absurd q (by omega), ⟨_, fun _ _ _ => rfl, t1⟩, t2⟩
theorem rc_likely {c y : Int} {s : Sg} (hd : 90 ≤ d) (hI : TI M 744 v n A hi vi tp sz fa) (hR : Z_likely v n A hi vi tp sz fa c y s) : CS G d mX8_likely [dR 744] M (VW M c y s) := by
  refine CS.mono (s_X8_likely (by omega) hI) ?_
  rintro r M1 ⟨b1, rfl, hx1, hx2⟩
  rcases hR with ⟨hc, rfl, rfl, rfl⟩ | ⟨hc, rfl, rfl⟩
  · obtain ⟨e, t1, t2, t3⟩ := hx1 hc
    exact ⟨_, rfl, t3, fun _ => e, ⟨_, fun _ _ _ => rfl, t1⟩, t2⟩
  · obtain ⟨t1, t2, t3⟩ := hx2 hc
    exact ⟨_, rfl, t3, fun q => absurd q (by omega), ⟨_, fun _ _ _ => rfl, t1⟩, t2⟩
theorem rc_ask {c y : Int} {s : Sg} (hd : 90 ≤ d) (hI : TI M 744 v n A hi vi tp sz fa) (hR : Z_ask v n A hi vi tp sz fa c y s) : CS G d mX8_ask [dR 744] M (VW M c y s) := by
  refine CS.mono (s_X8_ask (by omega) hI) ?_
  rintro r M1 ⟨b1, rfl, hx1, hx2⟩
  rcases hR with ⟨hc, rfl, rfl, rfl⟩ | ⟨hc, rfl, rfl⟩
  · obtain ⟨e, t1, t2, t3⟩ := hx1 hc
    exact ⟨_, rfl, t3, fun _ => e, ⟨_, fun _ _ _ => rfl, t1⟩, t2⟩
  · obtain ⟨t1, t2, t3⟩ := hx2 hc
    exact ⟨_, rfl, t3, fun q => absurd q (by omega), ⟨_, fun _ _ _ => rfl, t1⟩, t2⟩
theorem rc_vector {k : Int} {c y : Int} {s : Sg} (hd : 90 ≤ d) (hI : TI M 744 v n A hi vi tp sz fa) (hok : okA s.1 ∧ lawOK s.1) (hR : Z_vector v n A hi vi tp sz fa k c y s) : CS G d mX8_vector [dR 744, dI k] M (VW M c y s) := by
  refine CS.mono (s_X8_vector (by omega) hI.1 hI.2.1) ?_
  rintro r M1 ⟨b1, rfl, hx1, hx2⟩
  rcases hR with ⟨hc, rfl, rfl, rfl⟩ | ⟨hc, rfl, rfl⟩
  · obtain ⟨e, hac⟩ := hx1 hc
    obtain ⟨t1, t2, t3⟩ := hac.ti hI hok.1 hok.2
    exact ⟨_, rfl, t3, fun _ => e, ⟨_, fun _ _ _ => rfl, t1⟩, t2⟩
  · obtain ⟨t1, t2, t3⟩ := hI.rd (hx2 hc)
    exact ⟨_, rfl, t3, fun q => absurd q (by omega), ⟨_, fun _ _ _ => rfl, t1⟩, t2⟩
theorem rc_cost {k : Int} {c y : Int} {s : Sg} (hd : 90 ≤ d) (hI : TI M 744 v n A hi vi tp sz fa) (hok : okA s.1 ∧ lawOK s.1) (hR : Z_cost v n A hi vi tp sz fa k c y s) : CS G d mX8_cost [dR 744, dI k] M (VW M c y s) := by
  refine CS.mono (s_X8_cost (by omega) hI.1 hI.2.1) ?_
  rintro r M1 ⟨b1, rfl, hx1, hx2⟩
  rcases hR with ⟨hc, rfl, rfl, rfl⟩ | ⟨hc, rfl, rfl⟩
  · obtain ⟨e, hac⟩ := hx1 hc
    obtain ⟨t1, t2, t3⟩ := hac.ti hI hok.1 hok.2
    exact ⟨_, rfl, t3, fun _ => e, ⟨_, fun _ _ _ => rfl, t1⟩, t2⟩
  · obtain ⟨t1, t2, t3⟩ := hI.rd (hx2 hc)
    exact ⟨_, rfl, t3, fun q => absurd q (by omega), ⟨_, fun _ _ _ => rfl, t1⟩, t2⟩
theorem rc_alarm {k : Int} {c y : Int} {s : Sg} (hd : 90 ≤ d) (hI : TI M 744 v n A hi vi tp sz fa) (hok : okA s.1 ∧ lawOK s.1) (hR : Z_alarm v n A hi vi tp sz fa k c y s) : CS G d mX8_alarm [dR 744, dI k] M (VW M c y s) := by
  refine CS.mono (s_X8_alarm (by omega) hI.1 hI.2.1) ?_
  rintro r M1 ⟨b1, rfl, hx1, hx2⟩
  rcases hR with ⟨hc, rfl, rfl, rfl⟩ | ⟨hc, rfl, rfl⟩
  · obtain ⟨e, hac⟩ := hx1 hc
    obtain ⟨t1, t2, t3⟩ := hac.ti hI hok.1 hok.2
    exact ⟨_, rfl, t3, fun _ => e, ⟨_, fun _ _ _ => rfl, t1⟩, t2⟩
  · obtain ⟨t1, t2, t3⟩ := hI.rd (hx2 hc)
    exact ⟨_, rfl, t3, fun q => absurd q (by omega), ⟨_, fun _ _ _ => rfl, t1⟩, t2⟩
theorem rc_shift {k : Int} {c y : Int} {s : Sg} (hd : 90 ≤ d) (hI : TI M 744 v n A hi vi tp sz fa) (hok : okA s.1 ∧ lawOK s.1) (hR : Z_shift v n A hi vi tp sz fa k c y s) : CS G d mX8_shift [dR 744, dI k] M (VW M c y s) := by
  refine CS.mono (s_X8_shift (by omega) hI.1 hI.2.1) ?_
  rintro r M1 ⟨b1, rfl, hx1, hx2⟩
  rcases hR with ⟨hc, rfl, rfl, rfl⟩ | ⟨hc, rfl, rfl⟩
  · obtain ⟨e, hac⟩ := hx1 hc
    obtain ⟨t1, t2, t3⟩ := hac.ti hI hok.1 hok.2
    exact ⟨_, rfl, t3, fun _ => e, ⟨_, fun _ _ _ => rfl, t1⟩, t2⟩
  · obtain ⟨t1, t2, t3⟩ := hI.rd (hx2 hc)
    exact ⟨_, rfl, t3, fun q => absurd q (by omega), ⟨_, fun _ _ _ => rfl, t1⟩, t2⟩
theorem rc_store {k x : Int} {c y : Int} {s : Sg} (hd : 90 ≤ d) (hI : TI M 744 v n A hi vi tp sz fa) (hok : okA s.1 ∧ lawOK s.1) (hR : Z_store v n A hi vi tp sz fa k x c y s) : CS G d mX8_store [dR 744, dI k, dI x] M (VW M c y s) := by
  refine CS.mono (s_X8_store (by omega) hI.1 hI.2.1) ?_
  rintro r M1 ⟨b1, rfl, hx1, hx2⟩
  rcases hR with ⟨hc, rfl, rfl, rfl⟩ | ⟨hc, rfl, rfl⟩ | ⟨hc, rfl, rfl⟩
  · obtain ⟨e, hac⟩ := hx1 hc
    obtain ⟨t1, t2, t3⟩ := hac.ti hI hok.1 hok.2
    exact ⟨_, rfl, t3, fun _ => e, ⟨_, fun _ _ _ => rfl, t1⟩, t2⟩
  · have hrd := hx2 fun q => hc q.1
    rw [if_neg hc] at hrd
    obtain ⟨t1, t2, t3⟩ := hI.rd hrd
    exact ⟨_, rfl, t3, fun q => absurd q (by omega), ⟨_, fun _ _ _ => rfl, t1⟩, t2⟩
  · have hrd := hx2 fun q => hc.2 q.2
    rw [if_pos hc.1] at hrd
    obtain ⟨t1, t2, t3⟩ := hI.rd hrd
    exact ⟨_, rfl, t3, fun q => absurd q (by omega), ⟨_, fun _ _ _ => rfl, t1⟩, t2⟩
theorem rc_put {k op : Int} {c y : Int} {s : Sg} (hd : 90 ≤ d) (hI : TI M 744 v n A hi vi tp sz fa) (hok : okA s.1 ∧ lawOK s.1) (hR : Z_put v n A hi vi tp sz fa k op c y s) : CS G d mX8_put [dR 744, dI k, dI op] M (VW M c y s) := by
  refine CS.mono (s_X8_put (by omega) hI.1 hI.2.1) ?_
  rintro r M1 ⟨b1, rfl, hx1, hx2⟩
  rcases hR with ⟨hc, rfl, rfl, rfl⟩ | ⟨hc, rfl, rfl⟩
  · obtain ⟨e, hac⟩ := hx1 hc
    obtain ⟨t1, t2, t3⟩ := hac.ti hI hok.1 hok.2
    exact ⟨_, rfl, t3, fun _ => e, ⟨_, fun _ _ _ => rfl, t1⟩, t2⟩
  · obtain ⟨t1, t2, t3⟩ := hI.rd (hx2 hc)
    exact ⟨_, rfl, t3, fun q => absurd q (by omega), ⟨_, fun _ _ _ => rfl, t1⟩, t2⟩
theorem rc_patch {op b : Int} {c y : Int} {s : Sg} (hd : 90 ≤ d) (hI : TI M 744 v n A hi vi tp sz fa) (hok : okA s.1 ∧ lawOK s.1) (hb : b = 0 ∨ b = 1) (hR : Z_patch v n A hi vi tp sz fa op b c y s) : CS G d mX8_patch [dR 744, dI op, dI b] M (VW M c y s) := by
  refine CS.mono (s_X8_patch (by omega) hI.1 hI.2.1) ?_
  rintro r M1 ⟨b1, rfl, hx1, hx2⟩
  have eb : (if b = 0 then (0 : Int) else 1) = b := by rcases hb with rfl | rfl <;> rfl
  rw [eb] at hx1
  rcases hR with ⟨hc, rfl, rfl, rfl⟩ | ⟨hc, rfl, rfl⟩
  · obtain ⟨e, hac⟩ := hx1 hc
    obtain ⟨t1, t2, t3⟩ := hac.ti hI hok.1 hok.2
    exact ⟨_, rfl, t3, fun _ => e, ⟨_, fun _ _ _ => rfl, t1⟩, t2⟩
  · obtain ⟨t1, t2, t3⟩ := hI.rd (hx2 hc)
    exact ⟨_, rfl, t3, fun q => absurd q (by omega), ⟨_, fun _ _ _ => rfl, t1⟩, t2⟩
theorem rc_guard {op b : Int} {c y : Int} {s : Sg} (hd : 90 ≤ d) (hI : TI M 744 v n A hi vi tp sz fa) (hok : okA s.1 ∧ lawOK s.1) (hb : b = 0 ∨ b = 1) (hR : Z_guard v n A hi vi tp sz fa op b c y s) : CS G d mX8_guard [dR 744, dI op, dI b] M (VW M c y s) := by
  refine CS.mono (s_X8_guard (by omega) hI.1 hI.2.1) ?_
  rintro r M1 ⟨b1, rfl, hx1, hx2⟩
  have eb : (if b = 0 then (0 : Int) else 1) = b := by rcases hb with rfl | rfl <;> rfl
  rw [eb] at hx1
  rcases hR with ⟨hc, rfl, rfl, rfl⟩ | ⟨hc, rfl, rfl⟩
  · obtain ⟨e, hac⟩ := hx1 hc
    obtain ⟨t1, t2, t3⟩ := hac.ti hI hok.1 hok.2
    exact ⟨_, rfl, t3, fun _ => e, ⟨_, fun _ _ _ => rfl, t1⟩, t2⟩
  · obtain ⟨t1, t2, t3⟩ := hI.rd (hx2 hc)
    exact ⟨_, rfl, t3, fun q => absurd q (by omega), ⟨_, fun _ _ _ => rfl, t1⟩, t2⟩
theorem rc_ticks {k : Int} {c y : Int} {s : Sg} (hd : 90 ≤ d) (hI : TI M 744 v n A hi vi tp sz fa) (hok : okA s.1 ∧ lawOK s.1) (hR : Z_ticks v n A hi vi tp sz fa k c y s) : CS G d mX8_ticks [dR 744, dI k] M (VW M c y s) := by
  refine CS.mono (s_X8_ticks (by omega) hI.1 hI.2.1) ?_
  rintro r M1 ⟨b1, rfl, hx1, hx2⟩
  rcases hR with ⟨hc, rfl, rfl, rfl⟩ | ⟨hc, rfl, rfl⟩
  · obtain ⟨e, hac⟩ := hx1 hc
    obtain ⟨t1, t2, t3⟩ := hac.ti hI hok.1 hok.2
    exact ⟨_, rfl, t3, fun _ => e, ⟨_, fun _ _ _ => rfl, t1⟩, t2⟩
  · obtain ⟨t1, t2, t3⟩ := hI.rd (hx2 hc)
    exact ⟨_, rfl, t3, fun q => absurd q (by omega), ⟨_, fun _ _ _ => rfl, t1⟩, t2⟩
theorem rc_fault {c y : Int} {s : Sg} (hd : 90 ≤ d) (hI : TI M 744 v n A hi vi tp sz fa) (hR : Z_fault v n A hi vi tp sz fa c y s) : CS G d mX8_fault [dR 744] M (VP M y s) := by
  refine CS.mono (s_X8_fault (by omega) hI.1) ?_
  rintro r M1 ⟨b1, rfl, hrd, hx⟩
  obtain ⟨-, rfl, rfl⟩ := hR
  obtain ⟨t1, t2, t3⟩ := hI.rd hrd
  exact ⟨_, rfl, hx.trans hI.2.2.2.2.2.2, t1, t2⟩
theorem rc_program {k : Int} {c y : Int} {s : Sg} (hd : 90 ≤ d) (hI : TI M 744 v n A hi vi tp sz fa) (hR : Z_program v n A hi vi tp sz fa k c y s) : CS G d mX8_program [dR 744, dI k] M (VP M y s) := by
  refine CS.mono (s_X8_program (by omega) hI.1) ?_
  rintro r M1 ⟨b1, rfl, hrd, hx⟩
  obtain ⟨-, rfl, rfl⟩ := hR
  obtain ⟨t1, t2, t3⟩ := hI.rd hrd
  exact ⟨_, rfl, hx, t1, t2⟩
theorem rc_count {w : Int} {c y : Int} {s : Sg} (hd : 90 ≤ d) (hI : TI M 744 v n A hi vi tp sz fa) (hR : Z_count v n A hi vi tp sz fa w c y s) : CS G d mX8_count [dR 744, dI w] M (VP M y s) := by
  refine CS.mono (s_X8_count (by omega) hI.1 hI.2.1.1) ?_
  rintro r M1 ⟨b1, rfl, hrd, hx⟩
  obtain ⟨-, rfl, rfl⟩ := hR
  obtain ⟨t1, t2, t3⟩ := hI.rd hrd
  exact ⟨_, rfl, hx, t1, t2⟩
theorem rc_alike {c y : Int} {s : Sg} (hd : 90 ≤ d) (hI : TI M 744 v n A hi vi tp sz fa) (hR : Z_alike v n A hi vi tp sz fa c y s) : CS G d mX8_alike [dR 744] M (VP M y s) := by
  refine CS.mono (s_X8_alike (by omega) hI.1) ?_
  rintro r M1 ⟨b1, rfl, hrd, hx⟩
  obtain ⟨-, rfl, rfl⟩ := hR
  obtain ⟨t1, t2, t3⟩ := hI.rd hrd
  exact ⟨_, rfl, hx, t1, t2⟩
theorem rc_hostable {c y : Int} {s : Sg} (hd : 90 ≤ d) (hI : TI M 744 v n A hi vi tp sz fa) (hR : Z_hostable v n A hi vi tp sz fa c y s) : CS G d mX8_hostable [dR 744] M (VP M y s) := by
  refine CS.mono (s_X8_hostable (by omega) hI.1) ?_
  rintro r M1 ⟨b1, rfl, hrd, hx⟩
  obtain ⟨-, rfl, rfl⟩ := hR
  obtain ⟨t1, t2, t3⟩ := hI.rd hrd
  exact ⟨_, rfl, hx, t1, t2⟩
theorem rc_open {c y : Int} {s : Sg} (hd : 90 ≤ d) (hI : TI M 744 v n A hi vi tp sz fa) (hR : Z_open v n A hi vi tp sz fa c y s) : CS G d mX8_open [dR 744] M (VP M y s) := by
  refine CS.mono (s_X8_open (by omega) hI.1) ?_
  rintro r M1 ⟨b1, rfl, hrd, hx⟩
  obtain ⟨-, rfl, rfl⟩ := hR
  obtain ⟨t1, t2, t3⟩ := hI.rd hrd
  exact ⟨_, rfl, hx, t1, t2⟩
theorem rc_least {c y : Int} {s : Sg} (hd : 90 ≤ d) (hI : TI M 744 v n A hi vi tp sz fa) (hR : Z_least v n A hi vi tp sz fa c y s) : CS G d mX8_least [dR 744] M (VP M y s) := by
  refine CS.mono (s_X8_least (by omega) hI.1) ?_
  rintro r M1 ⟨b1, rfl, hrd, hx⟩
  obtain ⟨-, rfl, rfl⟩ := hR
  obtain ⟨t1, t2, t3⟩ := hI.rd hrd
  exact ⟨_, rfl, hx, t1, t2⟩
theorem rc_leaks {c y : Int} {s : Sg} (hd : 90 ≤ d) (hI : TI M 744 v n A hi vi tp sz fa) (hR : Z_leaks v n A hi vi tp sz fa c y s) : CS G d mX8_leaks [dR 744] M (VP M y s) := by
  refine CS.mono (s_X8_leaks (by omega) hI.1) ?_
  rintro r M1 ⟨b1, rfl, hrd, hx⟩
  obtain ⟨-, rfl, rfl⟩ := hR
  obtain ⟨t1, t2, t3⟩ := hI.rd hrd
  exact ⟨_, rfl, hx, t1, t2⟩
theorem rc_twins {c y : Int} {s : Sg} (hd : 90 ≤ d) (hI : TI M 744 v n A hi vi tp sz fa) (hR : Z_twins v n A hi vi tp sz fa c y s) : CS G d mX8_twins [dR 744] M (VP M y s) := by
  refine CS.mono (s_X8_twins (by omega) hI.1) ?_
  rintro r M1 ⟨b1, rfl, hrd, hx⟩
  obtain ⟨-, rfl, rfl⟩ := hR
  obtain ⟨t1, t2, t3⟩ := hI.rd hrd
  exact ⟨_, rfl, hx, t1, t2⟩
theorem rc_beside {c y : Int} {s : Sg} (hd : 90 ≤ d) (hI : TI M 744 v n A hi vi tp sz fa) (hR : Z_beside v n A hi vi tp sz fa c y s) : CS G d mX8_beside [dR 744] M (VP M y s) := by
  refine CS.mono (s_X8_beside (by omega) hI.1) ?_
  rintro r M1 ⟨b1, rfl, hrd, hx⟩
  obtain ⟨-, rfl, rfl⟩ := hR
  obtain ⟨t1, t2, t3⟩ := hI.rd hrd
  exact ⟨_, rfl, hx, t1, t2⟩
theorem rc_proof {c y : Int} {s : Sg} (hd : 90 ≤ d) (hI : TI M 744 v n A hi vi tp sz fa) (hR : Z_proof v n A hi vi tp sz fa c y s) : CS G d mX8_proof [dR 744] M (VP M y s) := by
  refine CS.mono (s_X8_proof (by omega) hI.1) ?_
  rintro r M1 ⟨b1, rfl, hrd, hx⟩
  obtain ⟨-, rfl, rfl⟩ := hR
  obtain ⟨t1, t2, t3⟩ := hI.rd hrd
  exact ⟨_, rfl, hx, t1, t2⟩
theorem rc_lead {c y : Int} {s : Sg} (hd : 90 ≤ d) (hI : TI M 744 v n A hi vi tp sz fa) (hR : Z_lead v n A hi vi tp sz fa c y s) : CS G d mX8_lead [dR 744] M (VP M y s) := by
  refine CS.mono (s_X8_lead (by omega) hI.1) ?_
  rintro r M1 ⟨b1, rfl, hrd, hx⟩
  obtain ⟨-, rfl, rfl⟩ := hR
  obtain ⟨t1, t2, t3⟩ := hI.rd hrd
  exact ⟨_, rfl, hx, t1, t2⟩
theorem rc_side {c y : Int} {s : Sg} (hd : 90 ≤ d) (hI : TI M 744 v n A hi vi tp sz fa) (hR : Z_side v n A hi vi tp sz fa c y s) : CS G d mX8_side [dR 744] M (VP M y s) := by
  refine CS.mono (s_X8_side (by omega) hI.1) ?_
  rintro r M1 ⟨b1, rfl, hrd, hx⟩
  obtain ⟨-, rfl, rfl⟩ := hR
  obtain ⟨t1, t2, t3⟩ := hI.rd hrd
  exact ⟨_, rfl, hx, t1, t2⟩
end U

