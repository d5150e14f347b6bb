/-! GuestViewLaw: what stands between two calls -/
abbrev Sg : Type := Vw × Int × (Int → Vw) × Int × Vw × (Int → Int) × Int × Int
def CJ (M : Mem) (s : Sg) (N : Int) : Prop := CI M s.1 s.2.1 s.2.2.1 s.2.2.2.1 s.2.2.2.2.1 s.2.2.2.2.2.1 s.2.2.2.2.2.2.1 s.2.2.2.2.2.2.2 N
def TJ (M : Mem) (s : Sg) : Prop := TI M 744 s.1 s.2.1 s.2.2.1 s.2.2.2.1 s.2.2.2.2.1 s.2.2.2.2.2.1 s.2.2.2.2.2.2.1 s.2.2.2.2.2.2.2
/-- facts of a bench that its reading gives: no operation without a micro operation, no row of the log with a tick below zero -/
def FV (v : Vw) : Prop := (∀ p, 0 ≤ p → p < 8 → p < v 0 → 1 ≤ opN v p) ∧ ∀ k, 0 ≤ k → k < 60 → k < v 10 → 0 ≤ v (128 + 4 * k)
def FX (s : Sg) : Prop := FV s.1 ∧ (∀ r, 0 ≤ r → r < s.2.1 → FV (s.2.2.1 r)) ∧ (s.2.2.2.1 = 1 → FV s.2.2.2.2.1) ∧ TpOk s.2.2.2.2.2.1
section FVs
variable {v v' : Vw} {i x op w pc : Int}
theorem FV.of (h : FV v) (h0 : v' 0 = v 0) (h10 : v' 10 = v 10) (hN : ∀ p, 0 ≤ p → p < 8 → opN v' p = opN v p) (hl : ∀ k, 128 ≤ k → k < 368 → v' k = v k) : FV v' :=
  ⟨fun p a b c => by rw [hN p a b]; exact h.1 p a b (by omega), fun k a b c => by rw [hl _ (by omega) (by omega)]; exact h.2 k a b (by omega)⟩
theorem FV.eqB (h : FV v) (he : eqB v v') : FV v' := h.of (he 0 (by omega)) (he 10 (by omega)) (fun p a b => he _ (by omega)) fun k a b => he k (by omega)
theorem FV.boot (h : FV v) : FV (bootV v) := h.eqB bootV_eqB
theorem FV.set (h : FV v) (hi : i < 30 ∨ i = 31 + 9 * op ∨ i = 32 + 9 * op) (h0 : ¬ i = 0) (h10 : ¬ i = 10) (hi2 : i < 128) : FV (us v i x) :=
  h.of (us_n (by omega)) (us_n (by omega)) (fun p a b => us_n (by omega)) fun k a b => us_n (by omega)
theorem FV.lo (h : FV v) (he : ∀ k, 0 ≤ k → k < 368 → v' k = v k) : FV v' := h.of (he _ (by omega) (by omega)) (he _ (by omega) (by omega)) (fun p a b => he _ (by omega) (by omega)) fun k a b => he k (by omega) (by omega)
theorem FV.ovr {a : Vw} (h : FV a) : FV (ov a v) := h.lo fun k k0 k1 => ov_i ⟨k0, k1⟩
theorem FV.n1 (h : FV v) (hv : okB v) : ∀ p, 0 ≤ p → p < v 0 → 1 ≤ opN v p := fun p a b => h.1 p a (by have := hv.n8; omega) b
theorem FV.t1 (h : FV v) (hv : okB v) : ∀ k, 0 ≤ k → k < v 10 → 0 ≤ v (128 + 4 * k) := fun k a b => h.2 k a (by have := hv.l60; omega) b
theorem FV.tell (h : FV v) (h8 : 0 ≤ v 8) : FV (tellV v op w pc) := by
  refine ⟨fun p a b c => ?_, fun k a b c => ?_⟩
  · have e : opN (tellV v op w pc) p = opN v p := tellV_o (by omega) (by omega)
    rw [e]
    rw [tellV_o (by omega) (by omega)] at c
    exact h.1 p a b c
  · rw [tellV_10] at c
    rcases (show k = 0 ∨ 1 ≤ k by omega) with q | q
    · subst q
      exact (show (0 : Int) ≤ tellV v op w pc 128 by rw [tellV_0.1]; exact h8)
    · rw [tellV_s (by omega), show (128 + 4 * k - 4 : Int) = 128 + 4 * (k - 1) by omega]
      refine h.2 (k - 1) (by omega) (by omega) ?_
      split at c <;> omega
theorem okB.t8 (h : okB v) : 0 ≤ v 8 := h.2.2.2.2.2.2.2.2.1.1
theorem FV.cgt {j : Int} (h : FV v) (hj : j = 0 ∨ j = 1) : FV (caughtV v j) := h.eqB (caughtV_eqB hj)
theorem FV.after {w' : Vw} {al : Int} (h : FV w') (h8 : 0 ≤ w' 8) : FV (afterV v w' al) := by
  unfold afterV
  refine FV.set (op := 0) ?_ (by omega) (by omega) (by omega) (by omega)
  by_cases q : likeG v ∧ ¬ likeG w'
  · rw [iV_t q]; exact h.tell h8
  · rw [iV_f q]; exact h
theorem FV.tk0 {al : Prop} (h : FV v) (h8 : 0 ≤ v 8) : FV (tick0 v al) := by
  unfold tick0
  by_cases q : al
  · rw [iV_t q]
    refine FV.after (((h.tell h8).cgt (Or.inl rfl)).cgt (Or.inr rfl)) ?_
    show 0 ≤ caughtV (caughtV (tellV v (-1) 4 (v (guA 1))) 0) 1 8
    rw [caughtV_eqB (Or.inr rfl) 8 (by omega), caughtV_eqB (Or.inl rfl) 8 (by omega), tellV_o (by omega) (by omega)]
    exact h8
  · rw [iV_f q]
    have s8 : 0 ≤ stepV v 8 := by rw [stepV_eqB 8 (by omega)]; exact h8
    have hs : FV (stepV v) := h.eqB stepV_eqB
    have hw : FV (tickW v) ∧ 0 ≤ tickW v 8 := by
      unfold tickW
      split
      · exact ⟨hs.tell s8, by rw [tellV_o (by omega) (by omega)]; exact s8⟩
      · exact ⟨hs, s8⟩
    have hp : FV (tickP v) ∧ 0 ≤ tickP v 8 := by
      unfold tickP
      split
      · exact ⟨hw.1.set (op := 0) (by omega) (by omega) (by omega) (by omega), by rw [us_n (by omega)]; exact hw.2⟩
      · exact hw
    exact hp.1.after hp.2
theorem FV.tick {dr : Prop} (h : FV v) (h8 : 0 ≤ v 8) : FV (tickV v dr) := by
  unfold tickV
  by_cases q : dr
  · rw [iV_t q]
    refine FV.tk0 ?_ ?_
    · exact h.set (op := 0) (by omega) (by omega) (by omega) (by omega)
    · show 0 ≤ us v 11 (seedV (v 11)) 8
      rw [us_n (by omega)]
      exact h8
  · rw [iV_f q]
    exact h.tk0 h8
theorem FV.go {dr : Prop} (h : FV v) (hA : okA v) (hL : lawOK v) : ∀ t : Nat, FV (goT v dr t)
  | 0 => h
  | t + 1 => (FV.go h hA hL t).tick (okA_goT hA hL t).1.1.t8
theorem FV.rem {A : Int → Vw} {n : Int} (hn : 0 ≤ n ∧ n ≤ 12) (h : FV v) (hA : ∀ r, 0 ≤ r → r < n → FV (A r)) : ∀ r, 0 ≤ r → r < remN n → FV (remA A n v r) := fun r a b => by
  unfold remA
  unfold remN at b ⊢
  by_cases q : r = (if n = 12 then 12 else n + 1) - 1
  · rw [if_pos q]; exact h
  · rw [if_neg q]
    by_cases q12 : n = 12
    · rw [if_pos q12]
      rw [if_pos q12] at b q
      exact hA _ (by omega) (by omega)
    · rw [if_neg q12]
      rw [if_neg q12] at b q
      exact hA _ (by omega) (by omega)
end FVs
/-- after a call of the component: what stands, and what is as it was -/
def CH (M : Mem) (s : Sg) (N : Int) (M1 : Mem) : Prop := CJ M1 s N ∧ Kp (fun b => b < 0 ∨ 744 ≤ b ∧ b ≤ 759) M M1 ∧ msh M1 760 = some (102, 1) ∧ mnx M ≤ mnx M1 ∧ mnx M1 ≤ mnx M + 1400 ∧ mns M1 ≤ mns M + 6000
section CHs
variable {G : GW} {d : Nat} {M M1 : Mem} {n hi sz fa N y : Int} {v vi v1 vi1 : Vw} {A A1 : Int → Vw} {tp tp1 : Int → Int} {n1 hi1 sz1 fa1 N1 : Int} {c sl : Nat}
theorem CO.h7 (hC : CI M v n A hi vi tp sz fa N) (h7 : msh M 760 = some (102, 1)) (h : CO M v1 n1 A1 hi1 vi1 tp1 sz1 fa1 N1 c sl M1) : msh M1 760 = some (102, 1) := by
  have hn := hC.1.2.2.2.2.2
  exact ((h.2.1 760 (Or.inr ⟨by omega, by omega⟩)).1).trans h7
theorem CH.co (hC : CI M v n A hi vi tp sz fa N) (h7 : msh M 760 = some (102, 1)) (h : CO M v1 n1 A1 hi1 vi1 tp1 sz1 fa1 N1 c sl M1) (hc : c ≤ 1400) (hs : sl ≤ 6000) : CH M (v1, n1, A1, hi1, vi1, tp1, sz1, fa1) N1 M1 := by
  have hn := hC.1.2.2.2.2.2
  obtain ⟨h1, h2, h3, h4, h5⟩ := id h
  exact ⟨h1, h2.mono fun b hb => by omega, CO.h7 hC h7 h, h3, by omega, by omega⟩
theorem CH.id (hC : CI M v n A hi vi tp sz fa N) (h7 : msh M 760 = some (102, 1)) : CH M (v, n, A, hi, vi, tp, sz, fa) N M := CH.co hC h7 (CO.r hC) (by omega) (by omega)
theorem CH.l {s : Sg} (h : CH M s N M1) : CH M s N (mL M1 760 0 y) := by
  obtain ⟨h1, h2, h3, h4, h5, h6⟩ := h
  have hk : ∀ P : Int → Prop, ¬ P 760 → Kp P M1 (mL M1 760 0 y) := fun P hP b hb => ⟨rfl, fun k => rfl, fun k => rfl, fun k => if_neg (fun q : b = 760 ∧ k = 0 => hP (q.1 ▸ hb))⟩
  exact ⟨CI.kp h1 (hk _ (by omega)) (Nat.le_refl _), fun b hb => ⟨(h2 b hb).1, (h2 b hb).2.1, (h2 b hb).2.2.1, fun k => ((hk (fun b => b < 0 ∨ 744 ≤ b ∧ b ≤ 759) (by omega) b hb).2.2.2 k).trans ((h2 b hb).2.2.2 k)⟩, h3, h4, h5, h6⟩
theorem mL_v {a i : Int} : mcl (mL M a i y) a i = y := if_pos ⟨rfl, rfl⟩
/-- what a small method of the law leaves -/
def UW (M : Mem) (N : Int) (R : Int → Int → Sg → Prop) : Res → Mem → Prop := postI fun k M1 => ∃ (y : Int) (s : Sg) (N1 : Int), R k y s ∧ (k = 0 → mcl M1 760 0 = y) ∧ N1 ≤ N + 120 ∧ CH M s N1 M1
/-- what a call of GuestView itself leaves -/
def UP (M : Mem) (N : Int) (R : Int → Int → Sg → Prop) : Res → Mem → Prop := postI fun y M1 => ∃ (s : Sg) (N1 : Int), R 0 y s ∧ N1 ≤ N + 120 ∧ CH M s N1 M1
def UN (M : Mem) (N : Int) (R : Int → Int → Sg → Prop) : Res → Mem → Prop := postN fun M1 => ∃ (s : Sg) (N1 : Int), R 0 0 s ∧ N1 ≤ N + 120 ∧ CH M s N1 M1
/-- what a call of the reference leaves -/
def VW (M : Mem) (c y : Int) (s : Sg) : Res → Mem → Prop := postI fun b M1 => mci M1 744 0 = c ∧ (c = 0 → b = y) ∧ (∃ v', (∀ k, 0 ≤ k → k < 1217 → v' k = s.1 k) ∧ TJ M1 (v', s.2)) ∧ TR 744 M M1
def VP (M : Mem) (y : Int) (s : Sg) : Res → Mem → Prop := postI fun b M1 => b = y ∧ TJ M1 s ∧ TR 744 M M1
def VN (M : Mem) (s : Sg) : Res → Mem → Prop := postN fun M1 => TJ M1 s ∧ TR 744 M M1
end CHs

