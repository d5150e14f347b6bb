/-! GuestViewLaw: what lasts -/
section U
variable {n hi sz fa : Int} {v vi : Vw} {A : Int → Vw} {tp : Int → Int}
theorem x_micro {op k b : Int} {c y : Int} {s : Sg} (hF : FX (v, n, A, hi, vi, tp, sz, fa)) (hA : okA v) (hL : lawOK v) (hn : 0 ≤ n ∧ n ≤ 12) (hR : Z_micro v n A hi vi tp sz fa op k b c y s) : FX s := by
  rcases hR with ⟨hc, -, -, rfl⟩ | ⟨hc, -, rfl⟩
  · exact hF
  · exact hF
theorem x_cell {k : Int} {c y : Int} {s : Sg} (hF : FX (v, n, A, hi, vi, tp, sz, fa)) (hA : okA v) (hL : lawOK v) (hn : 0 ≤ n ∧ n ≤ 12) (hR : Z_cell v n A hi vi tp sz fa k c y s) : FX s := by
  rcases hR with ⟨hc, -, -, rfl⟩ | ⟨hc, -, rfl⟩
  · exact hF
  · exact hF
theorem x_guest {b w : Int} {c y : Int} {s : Sg} (hF : FX (v, n, A, hi, vi, tp, sz, fa)) (hA : okA v) (hL : lawOK v) (hn : 0 ≤ n ∧ n ≤ 12) (hR : Z_guest v n A hi vi tp sz fa b w c y s) : FX s := by
  rcases hR with ⟨hc, -, -, rfl⟩ | ⟨hc, -, rfl⟩
  · exact hF
  · exact hF
theorem x_traps {k : Int} {c y : Int} {s : Sg} (hF : FX (v, n, A, hi, vi, tp, sz, fa)) (hA : okA v) (hL : lawOK v) (hn : 0 ≤ n ∧ n ≤ 12) (hR : Z_traps v n A hi vi tp sz fa k c y s) : FX s := by
  rcases hR with ⟨hc, -, -, rfl⟩ | ⟨hc, -, rfl⟩
  · exact hF
  · exact hF
theorem x_depth {k x : Int} {c y : Int} {s : Sg} (hF : FX (v, n, A, hi, vi, tp, sz, fa)) (hA : okA v) (hL : lawOK v) (hn : 0 ≤ n ∧ n ≤ 12) (hR : Z_depth v n A hi vi tp sz fa k x c y s) : FX s := by
  rcases hR with ⟨hc, -, -, rfl⟩ | ⟨hc, -, rfl⟩
  · exact hF
  · exact hF
theorem x_pairs {p : Int} {c y : Int} {s : Sg} (hF : FX (v, n, A, hi, vi, tp, sz, fa)) (hA : okA v) (hL : lawOK v) (hn : 0 ≤ n ∧ n ≤ 12) (hR : Z_pairs v n A hi vi tp sz fa p c y s) : FX s := by
  rcases hR with ⟨hc, -, -, rfl⟩ | ⟨hc, -, rfl⟩
  · exact hF
  · exact hF
theorem x_rests {op : Int} {c y : Int} {s : Sg} (hF : FX (v, n, A, hi, vi, tp, sz, fa)) (hA : okA v) (hL : lawOK v) (hn : 0 ≤ n ∧ n ≤ 12) (hR : Z_rests v n A hi vi tp sz fa op c y s) : FX s := by
  rcases hR with ⟨hc, -, -, rfl⟩ | ⟨hc, -, rfl⟩
  · exact hF
  · exact hF
theorem x_odds {j k : Int} {c y : Int} {s : Sg} (hF : FX (v, n, A, hi, vi, tp, sz, fa)) (hA : okA v) (hL : lawOK v) (hn : 0 ≤ n ∧ n ≤ 12) (hR : Z_odds v n A hi vi tp sz fa j k c y s) : FX s := by
  rcases hR with ⟨hc, -, -, rfl⟩ | ⟨hc, -, rfl⟩
  · exact hF
  · exact hF
theorem x_most {w : Int} {c y : Int} {s : Sg} (hF : FX (v, n, A, hi, vi, tp, sz, fa)) (hA : okA v) (hL : lawOK v) (hn : 0 ≤ n ∧ n ≤ 12) (hR : Z_most v n A hi vi tp sz fa w c y s) : FX s := by
  rcases hR with ⟨hc, -, -, rfl⟩ | ⟨hc, -, rfl⟩
  · exact hF
  · exact hF
theorem x_ahead {k b : Int} {c y : Int} {s : Sg} (hF : FX (v, n, A, hi, vi, tp, sz, fa)) (hA : okA v) (hL : lawOK v) (hn : 0 ≤ n ∧ n ≤ 12) (hR : Z_ahead v n A hi vi tp sz fa k b c y s) : FX s := by
  rcases hR with ⟨hc, -, -, rfl⟩ | ⟨hc, -, rfl⟩
  · exact hF
  · exact hF
theorem x_trial {k b : Int} {c y : Int} {s : Sg} (hF : FX (v, n, A, hi, vi, tp, sz, fa)) (hA : okA v) (hL : lawOK v) (hn : 0 ≤ n ∧ n ≤ 12) (hR : Z_trial v n A hi vi tp sz fa k b c y s) : FX s := by
  rcases hR with ⟨hc, -, -, rfl⟩ | ⟨hc, -, rfl⟩
  · exact hF
  · exact hF
theorem x_span {k b : Int} {c y : Int} {s : Sg} (hF : FX (v, n, A, hi, vi, tp, sz, fa)) (hA : okA v) (hL : lawOK v) (hn : 0 ≤ n ∧ n ≤ 12) (hR : Z_span v n A hi vi tp sz fa k b c y s) : FX s := by
  rcases hR with ⟨hc, -, -, rfl⟩ | ⟨hc, -, rfl⟩
  · exact hF
  · exact hF
theorem x_led {op b : Int} {c y : Int} {s : Sg} (hF : FX (v, n, A, hi, vi, tp, sz, fa)) (hA : okA v) (hL : lawOK v) (hn : 0 ≤ n ∧ n ≤ 12) (hR : Z_led v n A hi vi tp sz fa op b c y s) : FX s := by
  rcases hR with ⟨hc, -, -, rfl⟩ | ⟨hc, -, rfl⟩
  · exact hF
  · exact hF
theorem x_log {k w : Int} {c y : Int} {s : Sg} (hF : FX (v, n, A, hi, vi, tp, sz, fa)) (hA : okA v) (hL : lawOK v) (hn : 0 ≤ n ∧ n ≤ 12) (hR : Z_log v n A hi vi tp sz fa k w c y s) : FX s := by
  rcases hR with ⟨hc, -, -, rfl⟩ | ⟨hc, -, rfl⟩
  · exact hF
  · exact hF
theorem x_op {op w : Int} {c y : Int} {s : Sg} (hF : FX (v, n, A, hi, vi, tp, sz, fa)) (hA : okA v) (hL : lawOK v) (hn : 0 ≤ n ∧ n ≤ 12) (hR : Z_op v n A hi vi tp sz fa op w c y s) : FX s := by
  rcases hR with ⟨hc, -, -, rfl⟩ | ⟨hc, -, rfl⟩ | ⟨hc, -, rfl⟩
  · exact hF
  · exact hF
  · exact hF
theorem x_witness {op w : Int} {c y : Int} {s : Sg} (hF : FX (v, n, A, hi, vi, tp, sz, fa)) (hA : okA v) (hL : lawOK v) (hn : 0 ≤ n ∧ n ≤ 12) (hR : Z_witness v n A hi vi tp sz fa op w c y s) : FX s := by
  rcases hR with ⟨hc, -, -, rfl⟩ | ⟨hc, -, rfl⟩ | ⟨hc, -, rfl⟩
  · exact hF
  · exact hF
  · exact hF
theorem x_done {op st w : Int} {c y : Int} {s : Sg} (hF : FX (v, n, A, hi, vi, tp, sz, fa)) (hA : okA v) (hL : lawOK v) (hn : 0 ≤ n ∧ n ≤ 12) (hR : Z_done v n A hi vi tp sz fa op st w c y s) : FX s := by
  rcases hR with ⟨hc, -, -, rfl⟩ | ⟨hc, -, rfl⟩ | ⟨hc, -, rfl⟩ | ⟨hc, -, rfl⟩
  · exact hF
  · exact hF
  · exact hF
  · exact hF
theorem x_clash {a b : Int} {c y : Int} {s : Sg} (hF : FX (v, n, A, hi, vi, tp, sz, fa)) (hA : okA v) (hL : lawOK v) (hn : 0 ≤ n ∧ n ≤ 12) (hR : Z_clash v n A hi vi tp sz fa a b c y s) : FX s := by
  rcases hR with ⟨hc, -, -, rfl⟩ | ⟨hc, -, rfl⟩ | ⟨hc, -, rfl⟩
  · exact hF
  · exact hF
  · exact hF
theorem x_which {c y : Int} {s : Sg} (hF : FX (v, n, A, hi, vi, tp, sz, fa)) (hA : okA v) (hL : lawOK v) (hn : 0 ≤ n ∧ n ≤ 12) (hR : Z_which v n A hi vi tp sz fa c y s) : FX s := by
  rcases hR with ⟨hc, -, -, rfl⟩ | ⟨hc, -, rfl⟩
  · exact hF
  · exact hF
theorem x_likely {c y : Int} {s : Sg} (hF : FX (v, n, A, hi, vi, tp, sz, fa)) (hA : okA v) (hL : lawOK v) (hn : 0 ≤ n ∧ n ≤ 12) (hR : Z_likely v n A hi vi tp sz fa c y s) : FX s := by
  rcases hR with ⟨hc, -, -, rfl⟩ | ⟨hc, -, rfl⟩
  · exact hF
  · exact hF
theorem x_ask {c y : Int} {s : Sg} (hF : FX (v, n, A, hi, vi, tp, sz, fa)) (hA : okA v) (hL : lawOK v) (hn : 0 ≤ n ∧ n ≤ 12) (hR : Z_ask v n A hi vi tp sz fa c y s) : FX s := by
  rcases hR with ⟨hc, -, -, rfl⟩ | ⟨hc, -, rfl⟩
  · exact hF
  · exact hF
theorem x_vector {k : Int} {c y : Int} {s : Sg} (hF : FX (v, n, A, hi, vi, tp, sz, fa)) (hA : okA v) (hL : lawOK v) (hn : 0 ≤ n ∧ n ≤ 12) (hR : Z_vector v n A hi vi tp sz fa k c y s) : FX s := by
  rcases hR with ⟨hc, -, -, rfl⟩ | ⟨hc, -, rfl⟩
  · exact ⟨(hF.1.us (op := 0) (by omega) (by omega) (by omega) (by omega)).boot, FV.rem hn hF.1 hF.2.1, hF.2.2⟩
  · exact hF
theorem x_cost {k : Int} {c y : Int} {s : Sg} (hF : FX (v, n, A, hi, vi, tp, sz, fa)) (hA : okA v) (hL : lawOK v) (hn : 0 ≤ n ∧ n ≤ 12) (hR : Z_cost v n A hi vi tp sz fa k c y s) : FX s := by
  rcases hR with ⟨hc, -, -, rfl⟩ | ⟨hc, -, rfl⟩
  · exact ⟨(hF.1.us (op := 0) (by omega) (by omega) (by omega) (by omega)).boot, FV.rem hn hF.1 hF.2.1, hF.2.2⟩
  · exact hF
theorem x_alarm {k : Int} {c y : Int} {s : Sg} (hF : FX (v, n, A, hi, vi, tp, sz, fa)) (hA : okA v) (hL : lawOK v) (hn : 0 ≤ n ∧ n ≤ 12) (hR : Z_alarm v n A hi vi tp sz fa k c y s) : FX s := by
  rcases hR with ⟨hc, -, -, rfl⟩ | ⟨hc, -, rfl⟩
  · exact ⟨(hF.1.us (op := 0) (by omega) (by omega) (by omega) (by omega)).boot, FV.rem hn hF.1 hF.2.1, hF.2.2⟩
  · exact hF
theorem x_shift {k : Int} {c y : Int} {s : Sg} (hF : FX (v, n, A, hi, vi, tp, sz, fa)) (hA : okA v) (hL : lawOK v) (hn : 0 ≤ n ∧ n ≤ 12) (hR : Z_shift v n A hi vi tp sz fa k c y s) : FX s := by
  rcases hR with ⟨hc, -, -, rfl⟩ | ⟨hc, -, rfl⟩
  · exact ⟨(hF.1.us (op := 0) (by omega) (by omega) (by omega) (by omega)).boot, FV.rem hn hF.1 hF.2.1, hF.2.2⟩
  · exact hF
theorem x_store {k x : Int} {c y : Int} {s : Sg} (hF : FX (v, n, A, hi, vi, tp, sz, fa)) (hA : okA v) (hL : lawOK v) (hn : 0 ≤ n ∧ n ≤ 12) (hR : Z_store v n A hi vi tp sz fa k x c y s) : FX s := by
  rcases hR with ⟨hc, -, -, rfl⟩ | ⟨hc, -, rfl⟩ | ⟨hc, -, rfl⟩
  · exact ⟨(hF.1.us (op := 0) (by omega) (by omega) (by omega) (by omega)).boot, FV.rem hn hF.1 hF.2.1, hF.2.2⟩
  · exact hF
  · exact hF
theorem x_put {k op : Int} {c y : Int} {s : Sg} (hF : FX (v, n, A, hi, vi, tp, sz, fa)) (hA : okA v) (hL : lawOK v) (hn : 0 ≤ n ∧ n ≤ 12) (hR : Z_put v n A hi vi tp sz fa k op c y s) : FX s := by
  rcases hR with ⟨hc, -, -, rfl⟩ | ⟨hc, -, rfl⟩
  · exact ⟨((hF.1.us (op := 0) (by omega) (by omega) (by omega) (by omega)).boot).us (op := 0) (by omega) (by omega) (by omega) (by omega), FV.rem hn hF.1 hF.2.1, hF.2.2⟩
  · exact hF
theorem x_patch {op b : Int} {c y : Int} {s : Sg} (hF : FX (v, n, A, hi, vi, tp, sz, fa)) (hA : okA v) (hL : lawOK v) (hn : 0 ≤ n ∧ n ≤ 12) (hR : Z_patch v n A hi vi tp sz fa op b c y s) : FX s := by
  rcases hR with ⟨hc, -, -, rfl⟩ | ⟨hc, -, rfl⟩
  · exact ⟨(hF.1.us (op := op) (Or.inr (Or.inr rfl)) (by omega) (by omega) (by have := hA.1.n8; omega)).boot, FV.rem hn hF.1 hF.2.1, hF.2.2⟩
  · exact hF
theorem x_guard {op b : Int} {c y : Int} {s : Sg} (hF : FX (v, n, A, hi, vi, tp, sz, fa)) (hA : okA v) (hL : lawOK v) (hn : 0 ≤ n ∧ n ≤ 12) (hR : Z_guard v n A hi vi tp sz fa op b c y s) : FX s := by
  rcases hR with ⟨hc, -, -, rfl⟩ | ⟨hc, -, rfl⟩
  · exact ⟨(hF.1.us (op := op) (Or.inr (Or.inl rfl)) (by omega) (by omega) (by have := hA.1.n8; omega)).boot, FV.rem hn hF.1 hF.2.1, hF.2.2⟩
  · exact hF
theorem x_ticks {k : Int} {c y : Int} {s : Sg} (hF : FX (v, n, A, hi, vi, tp, sz, fa)) (hA : okA v) (hL : lawOK v) (hn : 0 ≤ n ∧ n ≤ 12) (hR : Z_ticks v n A hi vi tp sz fa k c y s) : FX s := by
  rcases hR with ⟨hc, -, -, rfl⟩ | ⟨hc, -, rfl⟩
  · exact ⟨hF.1.go hA hL _, FV.rem hn hF.1 hF.2.1, hF.2.2⟩
  · exact hF
theorem x_fault {c y : Int} {s : Sg} (hF : FX (v, n, A, hi, vi, tp, sz, fa)) (hA : okA v) (hL : lawOK v) (hn : 0 ≤ n ∧ n ≤ 12) (hR : Z_fault v n A hi vi tp sz fa c y s) : FX s := by
  obtain ⟨-, -, rfl⟩ := hR
  exact hF
theorem x_program {k : Int} {c y : Int} {s : Sg} (hF : FX (v, n, A, hi, vi, tp, sz, fa)) (hA : okA v) (hL : lawOK v) (hn : 0 ≤ n ∧ n ≤ 12) (hR : Z_program v n A hi vi tp sz fa k c y s) : FX s := by
  obtain ⟨-, -, rfl⟩ := hR
  exact hF
theorem x_count {w : Int} {c y : Int} {s : Sg} (hF : FX (v, n, A, hi, vi, tp, sz, fa)) (hA : okA v) (hL : lawOK v) (hn : 0 ≤ n ∧ n ≤ 12) (hR : Z_count v n A hi vi tp sz fa w c y s) : FX s := by
  obtain ⟨-, -, rfl⟩ := hR
  exact hF
theorem x_alike {c y : Int} {s : Sg} (hF : FX (v, n, A, hi, vi, tp, sz, fa)) (hA : okA v) (hL : lawOK v) (hn : 0 ≤ n ∧ n ≤ 12) (hR : Z_alike v n A hi vi tp sz fa c y s) : FX s := by
  obtain ⟨-, -, rfl⟩ := hR
  exact hF
theorem x_hostable {c y : Int} {s : Sg} (hF : FX (v, n, A, hi, vi, tp, sz, fa)) (hA : okA v) (hL : lawOK v) (hn : 0 ≤ n ∧ n ≤ 12) (hR : Z_hostable v n A hi vi tp sz fa c y s) : FX s := by
  obtain ⟨-, -, rfl⟩ := hR
  exact hF
theorem x_open {c y : Int} {s : Sg} (hF : FX (v, n, A, hi, vi, tp, sz, fa)) (hA : okA v) (hL : lawOK v) (hn : 0 ≤ n ∧ n ≤ 12) (hR : Z_open v n A hi vi tp sz fa c y s) : FX s := by
  obtain ⟨-, -, rfl⟩ := hR
  exact hF
theorem x_least {c y : Int} {s : Sg} (hF : FX (v, n, A, hi, vi, tp, sz, fa)) (hA : okA v) (hL : lawOK v) (hn : 0 ≤ n ∧ n ≤ 12) (hR : Z_least v n A hi vi tp sz fa c y s) : FX s := by
  obtain ⟨-, -, rfl⟩ := hR
  exact hF
theorem x_leaks {c y : Int} {s : Sg} (hF : FX (v, n, A, hi, vi, tp, sz, fa)) (hA : okA v) (hL : lawOK v) (hn : 0 ≤ n ∧ n ≤ 12) (hR : Z_leaks v n A hi vi tp sz fa c y s) : FX s := by
  obtain ⟨-, -, rfl⟩ := hR
  exact hF
theorem x_twins {c y : Int} {s : Sg} (hF : FX (v, n, A, hi, vi, tp, sz, fa)) (hA : okA v) (hL : lawOK v) (hn : 0 ≤ n ∧ n ≤ 12) (hR : Z_twins v n A hi vi tp sz fa c y s) : FX s := by
  obtain ⟨-, -, rfl⟩ := hR
  exact hF
theorem x_beside {c y : Int} {s : Sg} (hF : FX (v, n, A, hi, vi, tp, sz, fa)) (hA : okA v) (hL : lawOK v) (hn : 0 ≤ n ∧ n ≤ 12) (hR : Z_beside v n A hi vi tp sz fa c y s) : FX s := by
  obtain ⟨-, -, rfl⟩ := hR
  exact hF
theorem x_proof {c y : Int} {s : Sg} (hF : FX (v, n, A, hi, vi, tp, sz, fa)) (hA : okA v) (hL : lawOK v) (hn : 0 ≤ n ∧ n ≤ 12) (hR : Z_proof v n A hi vi tp sz fa c y s) : FX s := by
  obtain ⟨-, -, rfl⟩ := hR
  exact hF
theorem x_lead {c y : Int} {s : Sg} (hF : FX (v, n, A, hi, vi, tp, sz, fa)) (hA : okA v) (hL : lawOK v) (hn : 0 ≤ n ∧ n ≤ 12) (hR : Z_lead v n A hi vi tp sz fa c y s) : FX s := by
  obtain ⟨-, -, rfl⟩ := hR
  exact hF
theorem x_side {c y : Int} {s : Sg} (hF : FX (v, n, A, hi, vi, tp, sz, fa)) (hA : okA v) (hL : lawOK v) (hn : 0 ≤ n ∧ n ≤ 12) (hR : Z_side v n A hi vi tp sz fa c y s) : FX s := by
  obtain ⟨-, -, rfl⟩ := hR
  exact hF
end U

