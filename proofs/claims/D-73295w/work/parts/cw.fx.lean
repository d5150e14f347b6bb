/-! GuestViewLaw: what lasts -/
section U
variable {n hi sz fa : Int} {v vi : Vw} {A : Int → Vw} {tp : Int → Int}
theorem xc_micro {op k b : Int} {c y : Int} {s : Sg} (hF : FX (v, n, A, hi, vi, tp, sz, fa)) (hA : okA v) (hL : lawOK v) (hn : 0 ≤ n ∧ n ≤ 12) (hR : Z_micro v n A hi vi tp sz fa op k b c y s) : FX s := by
  rcases hR with ⟨hc, -, -, rfl⟩ | ⟨hc, -, rfl⟩
  · exact hF
  · exact hF
theorem xc_cell {k : Int} {c y : Int} {s : Sg} (hF : FX (v, n, A, hi, vi, tp, sz, fa)) (hA : okA v) (hL : lawOK v) (hn : 0 ≤ n ∧ n ≤ 12) (hR : Z_cell v n A hi vi tp sz fa k c y s) : FX s := by
  rcases hR with ⟨hc, -, -, rfl⟩ | ⟨hc, -, rfl⟩
  · exact hF
  · exact hF
theorem xc_guest {b w : Int} {c y : Int} {s : Sg} (hF : FX (v, n, A, hi, vi, tp, sz, fa)) (hA : okA v) (hL : lawOK v) (hn : 0 ≤ n ∧ n ≤ 12) (hR : Z_guest v n A hi vi tp sz fa b w c y s) : FX s := by
  rcases hR with ⟨hc, -, -, rfl⟩ | ⟨hc, -, rfl⟩
  · exact hF
  · exact hF
theorem xc_traps {k : Int} {c y : Int} {s : Sg} (hF : FX (v, n, A, hi, vi, tp, sz, fa)) (hA : okA v) (hL : lawOK v) (hn : 0 ≤ n ∧ n ≤ 12) (hR : Z_traps v n A hi vi tp sz fa k c y s) : FX s := by
  rcases hR with ⟨hc, -, -, rfl⟩ | ⟨hc, -, rfl⟩
  · exact hF
  · exact hF
theorem xc_depth {k x : Int} {c y : Int} {s : Sg} (hF : FX (v, n, A, hi, vi, tp, sz, fa)) (hA : okA v) (hL : lawOK v) (hn : 0 ≤ n ∧ n ≤ 12) (hR : Z_depth v n A hi vi tp sz fa k x c y s) : FX s := by
  rcases hR with ⟨hc, -, -, rfl⟩ | ⟨hc, -, rfl⟩
  · exact hF
  · exact hF
theorem xc_pairs {p : Int} {c y : Int} {s : Sg} (hF : FX (v, n, A, hi, vi, tp, sz, fa)) (hA : okA v) (hL : lawOK v) (hn : 0 ≤ n ∧ n ≤ 12) (hR : Z_pairs v n A hi vi tp sz fa p c y s) : FX s := by
  rcases hR with ⟨hc, -, -, rfl⟩ | ⟨hc, -, rfl⟩
  · exact hF
  · exact hF
theorem xc_rests {op : Int} {c y : Int} {s : Sg} (hF : FX (v, n, A, hi, vi, tp, sz, fa)) (hA : okA v) (hL : lawOK v) (hn : 0 ≤ n ∧ n ≤ 12) (hR : Z_rests v n A hi vi tp sz fa op c y s) : FX s := by
  rcases hR with ⟨hc, -, -, rfl⟩ | ⟨hc, -, rfl⟩
  · exact hF
  · exact hF
theorem xc_odds {j k : Int} {c y : Int} {s : Sg} (hF : FX (v, n, A, hi, vi, tp, sz, fa)) (hA : okA v) (hL : lawOK v) (hn : 0 ≤ n ∧ n ≤ 12) (hR : Z_odds v n A hi vi tp sz fa j k c y s) : FX s := by
  rcases hR with ⟨hc, -, -, rfl⟩ | ⟨hc, -, rfl⟩
  · exact hF
  · exact hF
theorem xc_most {w : Int} {c y : Int} {s : Sg} (hF : FX (v, n, A, hi, vi, tp, sz, fa)) (hA : okA v) (hL : lawOK v) (hn : 0 ≤ n ∧ n ≤ 12) (hR : Z_most v n A hi vi tp sz fa w c y s) : FX s := by
  rcases hR with ⟨hc, -, -, rfl⟩ | ⟨hc, -, rfl⟩
  · exact hF
  · exact hF
theorem xc_ahead {k b : Int} {c y : Int} {s : Sg} (hF : FX (v, n, A, hi, vi, tp, sz, fa)) (hA : okA v) (hL : lawOK v) (hn : 0 ≤ n ∧ n ≤ 12) (hR : Z_ahead v n A hi vi tp sz fa k b c y s) : FX s := by
  rcases hR with ⟨hc, -, -, rfl⟩ | ⟨hc, -, rfl⟩
  · exact hF
  · exact hF
theorem xc_trial {k b : Int} {c y : Int} {s : Sg} (hF : FX (v, n, A, hi, vi, tp, sz, fa)) (hA : okA v) (hL : lawOK v) (hn : 0 ≤ n ∧ n ≤ 12) (hR : Z_trial v n A hi vi tp sz fa k b c y s) : FX s := by
  rcases hR with ⟨hc, -, -, rfl⟩ | ⟨hc, -, rfl⟩
  · exact hF
  · exact hF
theorem xc_span {k b : Int} {c y : Int} {s : Sg} (hF : FX (v, n, A, hi, vi, tp, sz, fa)) (hA : okA v) (hL : lawOK v) (hn : 0 ≤ n ∧ n ≤ 12) (hR : Z_span v n A hi vi tp sz fa k b c y s) : FX s := by
  rcases hR with ⟨hc, -, -, rfl⟩ | ⟨hc, -, rfl⟩
  · exact hF
  · exact hF
theorem xc_led {op b : Int} {c y : Int} {s : Sg} (hF : FX (v, n, A, hi, vi, tp, sz, fa)) (hA : okA v) (hL : lawOK v) (hn : 0 ≤ n ∧ n ≤ 12) (hR : Z_led v n A hi vi tp sz fa op b c y s) : FX s := by
  rcases hR with ⟨hc, -, -, rfl⟩ | ⟨hc, -, rfl⟩
  · exact hF
  · exact hF
theorem xc_log {k w : Int} {c y : Int} {s : Sg} (hF : FX (v, n, A, hi, vi, tp, sz, fa)) (hA : okA v) (hL : lawOK v) (hn : 0 ≤ n ∧ n ≤ 12) (hR : Z_log v n A hi vi tp sz fa k w c y s) : FX s := by
  rcases hR with ⟨hc, -, -, rfl⟩ | ⟨hc, -, rfl⟩
  · exact hF
  · exact hF
theorem xc_op {op w : Int} {c y : Int} {s : Sg} (hF : FX (v, n, A, hi, vi, tp, sz, fa)) (hA : okA v) (hL : lawOK v) (hn : 0 ≤ n ∧ n ≤ 12) (hR : Z_op v n A hi vi tp sz fa op w c y s) : FX s := by
  rcases hR with ⟨hc, -, -, rfl⟩ | ⟨hc, -, rfl⟩ | ⟨hc, -, rfl⟩
  · exact hF
  · exact hF
  · exact hF
theorem xc_witness {op w : Int} {c y : Int} {s : Sg} (hF : FX (v, n, A, hi, vi, tp, sz, fa)) (hA : okA v) (hL : lawOK v) (hn : 0 ≤ n ∧ n ≤ 12) (hR : Z_witness v n A hi vi tp sz fa op w c y s) : FX s := by
  rcases hR with ⟨hc, -, -, rfl⟩ | ⟨hc, -, rfl⟩ | ⟨hc, -, rfl⟩
  · exact hF
  · exact hF
  · exact hF
theorem xc_done {op st w : Int} {c y : Int} {s : Sg} (hF : FX (v, n, A, hi, vi, tp, sz, fa)) (hA : okA v) (hL : lawOK v) (hn : 0 ≤ n ∧ n ≤ 12) (hR : Z_done v n A hi vi tp sz fa op st w c y s) : FX s := by
  rcases hR with ⟨hc, -, -, rfl⟩ | ⟨hc, -, rfl⟩ | ⟨hc, -, rfl⟩ | ⟨hc, -, rfl⟩
  · exact hF
  · exact hF
  · exact hF
  · exact hF
theorem xc_clash {a b : Int} {c y : Int} {s : Sg} (hF : FX (v, n, A, hi, vi, tp, sz, fa)) (hA : okA v) (hL : lawOK v) (hn : 0 ≤ n ∧ n ≤ 12) (hR : Z_clash v n A hi vi tp sz fa a b c y s) : FX s := by
  rcases hR with ⟨hc, -, -, rfl⟩ | ⟨hc, -, rfl⟩ | ⟨hc, -, rfl⟩
  · exact hF
  · exact hF
  · exact hF
theorem xc_which {c y : Int} {s : Sg} (hF : FX (v, n, A, hi, vi, tp, sz, fa)) (hA : okA v) (hL : lawOK v) (hn : 0 ≤ n ∧ n ≤ 12) (hR : Z_which v n A hi vi tp sz fa c y s) : FX s := by
  rcases hR with ⟨hc, -, -, rfl⟩ | ⟨hc, -, rfl⟩
  · exact hF
  · exact hF
theorem xc_likely {c y : Int} {s : Sg} (hF : FX (v, n, A, hi, vi, tp, sz, fa)) (hA : okA v) (hL : lawOK v) (hn : 0 ≤ n ∧ n ≤ 12) (hR : Z_likely v n A hi vi tp sz fa c y s) : FX s := by
  rcases hR with ⟨hc, -, -, rfl⟩ | ⟨hc, -, rfl⟩
  · exact hF
  · exact hF
theorem xc_ask {c y : Int} {s : Sg} (hF : FX (v, n, A, hi, vi, tp, sz, fa)) (hA : okA v) (hL : lawOK v) (hn : 0 ≤ n ∧ n ≤ 12) (hR : Z_ask v n A hi vi tp sz fa c y s) : FX s := by
  rcases hR with ⟨hc, -, -, rfl⟩ | ⟨hc, -, rfl⟩
  · exact hF
  · exact hF
theorem xc_vector {k : Int} {c y : Int} {s : Sg} (hF : FX (v, n, A, hi, vi, tp, sz, fa)) (hA : okA v) (hL : lawOK v) (hn : 0 ≤ n ∧ n ≤ 12) (hR : Z_vector v n A hi vi tp sz fa k c y s) : FX s := by
  rcases hR with ⟨hc, -, -, rfl⟩ | ⟨hc, -, rfl⟩
  · exact ⟨(hF.1.set (op := 0) (by omega) (by omega) (by omega) (by omega)).boot, FV.rem hn hF.1 hF.2.1, hF.2.2⟩
  · exact hF
theorem xc_cost {k : Int} {c y : Int} {s : Sg} (hF : FX (v, n, A, hi, vi, tp, sz, fa)) (hA : okA v) (hL : lawOK v) (hn : 0 ≤ n ∧ n ≤ 12) (hR : Z_cost v n A hi vi tp sz fa k c y s) : FX s := by
  rcases hR with ⟨hc, -, -, rfl⟩ | ⟨hc, -, rfl⟩
  · exact ⟨(hF.1.set (op := 0) (by omega) (by omega) (by omega) (by omega)).boot, FV.rem hn hF.1 hF.2.1, hF.2.2⟩
  · exact hF
theorem xc_alarm {k : Int} {c y : Int} {s : Sg} (hF : FX (v, n, A, hi, vi, tp, sz, fa)) (hA : okA v) (hL : lawOK v) (hn : 0 ≤ n ∧ n ≤ 12) (hR : Z_alarm v n A hi vi tp sz fa k c y s) : FX s := by
  rcases hR with ⟨hc, -, -, rfl⟩ | ⟨hc, -, rfl⟩
  · exact ⟨(hF.1.set (op := 0) (by omega) (by omega) (by omega) (by omega)).boot, FV.rem hn hF.1 hF.2.1, hF.2.2⟩
  · exact hF
theorem xc_shift {k : Int} {c y : Int} {s : Sg} (hF : FX (v, n, A, hi, vi, tp, sz, fa)) (hA : okA v) (hL : lawOK v) (hn : 0 ≤ n ∧ n ≤ 12) (hR : Z_shift v n A hi vi tp sz fa k c y s) : FX s := by
  rcases hR with ⟨hc, -, -, rfl⟩ | ⟨hc, -, rfl⟩
  · exact ⟨(hF.1.set (op := 0) (by omega) (by omega) (by omega) (by omega)).boot, FV.rem hn hF.1 hF.2.1, hF.2.2⟩
  · exact hF
theorem xc_store {k x : Int} {c y : Int} {s : Sg} (hF : FX (v, n, A, hi, vi, tp, sz, fa)) (hA : okA v) (hL : lawOK v) (hn : 0 ≤ n ∧ n ≤ 12) (hR : Z_store v n A hi vi tp sz fa k x c y s) : FX s := by
  rcases hR with ⟨hc, -, -, rfl⟩ | ⟨hc, -, rfl⟩ | ⟨hc, -, rfl⟩
  · exact ⟨(hF.1.set (op := 0) (by omega) (by omega) (by omega) (by omega)).boot, FV.rem hn hF.1 hF.2.1, hF.2.2⟩
  · exact hF
  · exact hF
theorem xc_put {k op : Int} {c y : Int} {s : Sg} (hF : FX (v, n, A, hi, vi, tp, sz, fa)) (hA : okA v) (hL : lawOK v) (hn : 0 ≤ n ∧ n ≤ 12) (hR : Z_put v n A hi vi tp sz fa k op c y s) : FX s := by
  rcases hR with ⟨hc, -, -, rfl⟩ | ⟨hc, -, rfl⟩
  · exact ⟨((hF.1.set (op := 0) (by omega) (by omega) (by omega) (by omega)).boot).set (op := 0) (by omega) (by omega) (by omega) (by omega), FV.rem hn hF.1 hF.2.1, hF.2.2⟩
  · exact hF
theorem xc_patch {op b : Int} {c y : Int} {s : Sg} (hF : FX (v, n, A, hi, vi, tp, sz, fa)) (hA : okA v) (hL : lawOK v) (hn : 0 ≤ n ∧ n ≤ 12) (hR : Z_patch v n A hi vi tp sz fa op b c y s) : FX s := by
  rcases hR with ⟨hc, -, -, rfl⟩ | ⟨hc, -, rfl⟩
  · exact ⟨(hF.1.set (op := op) (Or.inr (Or.inr rfl)) (by omega) (by omega) (by have := hA.1.n8; omega)).boot, FV.rem hn hF.1 hF.2.1, hF.2.2⟩
  · exact hF
theorem xc_guard {op b : Int} {c y : Int} {s : Sg} (hF : FX (v, n, A, hi, vi, tp, sz, fa)) (hA : okA v) (hL : lawOK v) (hn : 0 ≤ n ∧ n ≤ 12) (hR : Z_guard v n A hi vi tp sz fa op b c y s) : FX s := by
  rcases hR with ⟨hc, -, -, rfl⟩ | ⟨hc, -, rfl⟩
  · exact ⟨(hF.1.set (op := op) (Or.inr (Or.inl rfl)) (by omega) (by omega) (by have := hA.1.n8; omega)).boot, FV.rem hn hF.1 hF.2.1, hF.2.2⟩
  · exact hF
theorem xc_ticks {k : Int} {c y : Int} {s : Sg} (hF : FX (v, n, A, hi, vi, tp, sz, fa)) (hA : okA v) (hL : lawOK v) (hn : 0 ≤ n ∧ n ≤ 12) (hR : Z_ticks v n A hi vi tp sz fa k c y s) : FX s := by
  rcases hR with ⟨hc, -, -, rfl⟩ | ⟨hc, -, rfl⟩
  · exact ⟨hF.1.go hA hL _, FV.rem hn hF.1 hF.2.1, hF.2.2⟩
  · exact hF
theorem xc_fault {c y : Int} {s : Sg} (hF : FX (v, n, A, hi, vi, tp, sz, fa)) (hA : okA v) (hL : lawOK v) (hn : 0 ≤ n ∧ n ≤ 12) (hR : Z_fault v n A hi vi tp sz fa c y s) : FX s := by
  obtain ⟨-, -, rfl⟩ := hR
  exact hF
theorem xc_program {k : Int} {c y : Int} {s : Sg} (hF : FX (v, n, A, hi, vi, tp, sz, fa)) (hA : okA v) (hL : lawOK v) (hn : 0 ≤ n ∧ n ≤ 12) (hR : Z_program v n A hi vi tp sz fa k c y s) : FX s := by
  obtain ⟨-, -, rfl⟩ := hR
  exact hF
theorem xc_count {w : Int} {c y : Int} {s : Sg} (hF : FX (v, n, A, hi, vi, tp, sz, fa)) (hA : okA v) (hL : lawOK v) (hn : 0 ≤ n ∧ n ≤ 12) (hR : Z_count v n A hi vi tp sz fa w c y s) : FX s := by
  obtain ⟨-, -, rfl⟩ := hR
  exact hF
theorem xc_alike {c y : Int} {s : Sg} (hF : FX (v, n, A, hi, vi, tp, sz, fa)) (hA : okA v) (hL : lawOK v) (hn : 0 ≤ n ∧ n ≤ 12) (hR : Z_alike v n A hi vi tp sz fa c y s) : FX s := by
  obtain ⟨-, -, rfl⟩ := hR
  exact hF
theorem xc_hostable {c y : Int} {s : Sg} (hF : FX (v, n, A, hi, vi, tp, sz, fa)) (hA : okA v) (hL : lawOK v) (hn : 0 ≤ n ∧ n ≤ 12) (hR : Z_hostable v n A hi vi tp sz fa c y s) : FX s := by
  obtain ⟨-, -, rfl⟩ := hR
  exact hF
theorem xc_open {c y : Int} {s : Sg} (hF : FX (v, n, A, hi, vi, tp, sz, fa)) (hA : okA v) (hL : lawOK v) (hn : 0 ≤ n ∧ n ≤ 12) (hR : Z_open v n A hi vi tp sz fa c y s) : FX s := by
  obtain ⟨-, -, rfl⟩ := hR
  exact hF
theorem xc_least {c y : Int} {s : Sg} (hF : FX (v, n, A, hi, vi, tp, sz, fa)) (hA : okA v) (hL : lawOK v) (hn : 0 ≤ n ∧ n ≤ 12) (hR : Z_least v n A hi vi tp sz fa c y s) : FX s := by
  obtain ⟨-, -, rfl⟩ := hR
  exact hF
theorem xc_leaks {c y : Int} {s : Sg} (hF : FX (v, n, A, hi, vi, tp, sz, fa)) (hA : okA v) (hL : lawOK v) (hn : 0 ≤ n ∧ n ≤ 12) (hR : Z_leaks v n A hi vi tp sz fa c y s) : FX s := by
  obtain ⟨-, -, rfl⟩ := hR
  exact hF
theorem xc_twins {c y : Int} {s : Sg} (hF : FX (v, n, A, hi, vi, tp, sz, fa)) (hA : okA v) (hL : lawOK v) (hn : 0 ≤ n ∧ n ≤ 12) (hR : Z_twins v n A hi vi tp sz fa c y s) : FX s := by
  obtain ⟨-, -, rfl⟩ := hR
  exact hF
theorem xc_beside {c y : Int} {s : Sg} (hF : FX (v, n, A, hi, vi, tp, sz, fa)) (hA : okA v) (hL : lawOK v) (hn : 0 ≤ n ∧ n ≤ 12) (hR : Z_beside v n A hi vi tp sz fa c y s) : FX s := by
  obtain ⟨-, -, rfl⟩ := hR
  exact hF
theorem xc_proof {c y : Int} {s : Sg} (hF : FX (v, n, A, hi, vi, tp, sz, fa)) (hA : okA v) (hL : lawOK v) (hn : 0 ≤ n ∧ n ≤ 12) (hR : Z_proof v n A hi vi tp sz fa c y s) : FX s := by
  obtain ⟨-, -, rfl⟩ := hR
  exact hF
theorem xc_lead {c y : Int} {s : Sg} (hF : FX (v, n, A, hi, vi, tp, sz, fa)) (hA : okA v) (hL : lawOK v) (hn : 0 ≤ n ∧ n ≤ 12) (hR : Z_lead v n A hi vi tp sz fa c y s) : FX s := by
  obtain ⟨-, -, rfl⟩ := hR
  exact hF
theorem xc_side {c y : Int} {s : Sg} (hF : FX (v, n, A, hi, vi, tp, sz, fa)) (hA : okA v) (hL : lawOK v) (hn : 0 ≤ n ∧ n ≤ 12) (hR : Z_side v n A hi vi tp sz fa c y s) : FX s := by
  obtain ⟨-, -, rfl⟩ := hR
  exact hF
end U

