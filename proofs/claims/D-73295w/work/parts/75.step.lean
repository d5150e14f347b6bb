/-! PURE: the reference's own order of writing a guest -/
theorem us_ov {v : Vw} {i x y : Int} : us (us v i x) i y = us v i y := funext fun k => by
  unfold us
  by_cases h : k = i
  · rw [if_pos h, if_pos h]
  · rw [if_neg h, if_neg h, if_neg h]
theorem us_id {v : Vw} {i : Int} : us v i (v i) = v := funext fun k => by
  unfold us
  by_cases h : k = i
  · rw [if_pos h, h]
  · rw [if_neg h]
theorem us_cm {v : Vw} {i j x y : Int} (h : ¬ i = j) : us (us v i x) j y = us (us v j y) i x := funext fun k => by
  unfold us
  by_cases h1 : k = i
  · rw [if_neg (by omega), if_pos h1, if_pos h1]
  · rw [if_neg h1]
    by_cases h2 : k = j
    · rw [if_pos h2, if_neg h1]
    · rw [if_neg h2, if_neg h1]
/-- so many cells from a on are others -/
def blkN (w : Vw) (a : Int) (c : Int → Int) (n : Int) : Vw := fun k => if a ≤ k ∧ k < a + n then c (k - a) else w k
theorem blkN_0 {w : Vw} {a : Int} {c : Int → Int} : blkN w a c 0 = w := funext fun k => if_neg (by omega)
theorem blkN_s {w : Vw} {a : Int} {c : Int → Int} {n i x : Int} (hn : 0 ≤ n) (hi : i = a + n) (hx : x = c n) : us (blkN w a c n) i x = blkN w a c (n + 1) := funext fun k => by
  subst hi
  subst hx
  unfold us blkN
  by_cases h : k = a + n
  · rw [if_pos h, if_pos (by omega), show k - a = n by omega]
  · rw [if_neg h]
    by_cases h2 : a ≤ k ∧ k < a + n
    · rw [if_pos h2, if_pos (by omega)]
    · rw [if_neg h2, if_neg (by omega)]
theorem setG_us {w v : Vw} {i r b pc cl : Int} {c : Int → Int} {x : Ms} (hw : ∀ k, ¬ (guA i ≤ k ∧ k < guA i + 13) → w k = v k) (hm : w (guA i + 2) = x.2.1) (h1 : r = x.1) (h3 : b = x.2.2.1) (hc : ∀ k, 0 ≤ k → k < 8 → c k = x.2.2.2.2.2 k) :
    us (us (blkN (us (us w (guA i + 1) r) (guA i + 3) b) (guA i + 5) c 8) (guA i) pc) (guA i + 4) cl = setG v i pc x cl := funext fun k => by
  unfold setG
  by_cases k0 : k = guA i
  · rw [if_pos k0, us_n (by omega), us_e k0]
  rw [if_neg k0]
  by_cases k1 : k = guA i + 1
  · rw [if_pos k1, us_n (by omega), us_n (by omega)]
    unfold blkN
    rw [if_neg (by omega), us_n (by omega), us_e k1, h1]
  rw [if_neg k1]
  by_cases k2 : k = guA i + 2
  · rw [if_pos k2, us_n (by omega), us_n (by omega)]
    unfold blkN
    rw [if_neg (by omega), us_n (by omega), us_n (by omega), k2, hm]
  rw [if_neg k2]
  by_cases k3 : k = guA i + 3
  · rw [if_pos k3, us_n (by omega), us_n (by omega)]
    unfold blkN
    rw [if_neg (by omega), us_e k3, h3]
  rw [if_neg k3]
  by_cases k4 : k = guA i + 4
  · rw [if_pos k4, us_e k4]
  rw [if_neg k4]
  by_cases k5 : guA i + 5 ≤ k ∧ k < guA i + 13
  · rw [if_pos k5, us_n (by omega), us_n (by omega)]
    unfold blkN
    rw [if_pos (by omega)]
    exact hc _ (by omega) (by omega)
  · rw [if_neg k5, us_n (by omega), us_n (by omega)]
    unfold blkN
    rw [if_neg (by omega), us_n (by omega), us_n (by omega)]
    exact hw k (by omega)
theorem setG_caught {v : Vw} {i cl : Int} : us (caughtV v i) (guA i + 4) cl = setG v i (v 4) (mdM (guM v i) 1) cl := funext fun k => by
  unfold setG
  by_cases k0 : k = guA i
  · rw [if_pos k0, us_n (by omega), k0, caughtV_p]
  rw [if_neg k0]
  by_cases k1 : k = guA i + 1
  · rw [if_pos k1, us_n (by omega), caughtV_o (by omega) (by omega), k1]
    rfl
  rw [if_neg k1]
  by_cases k2 : k = guA i + 2
  · rw [if_pos k2, us_n (by omega), k2, caughtV_m]
    rfl
  rw [if_neg k2]
  by_cases k3 : k = guA i + 3
  · rw [if_pos k3, us_n (by omega), caughtV_o (by omega) (by omega), k3]
    rfl
  rw [if_neg k3]
  by_cases k4 : k = guA i + 4
  · rw [if_pos k4, us_e k4]
  rw [if_neg k4, us_n k4, caughtV_o k0 k2]
  by_cases k5 : guA i + 5 ≤ k ∧ k < guA i + 13
  · rw [if_pos k5]
    show _ = v (guA i + 5 + (k - (guA i + 5)) % 8)
    rw [show guA i + 5 + (k - (guA i + 5)) % 8 = k by omega]
  · rw [if_neg k5]
theorem trM_0 {v : Vw} {i x : Int} (h : okGu v i) : trM (mdM (guM v i) x) 0 = mdM (guM v i) x := by
  have h3 : 0 ≤ v (guA i + 3) ∧ v (guA i + 3) < 8 := h.2.2.2.1
  have e : (fun k : Int => v (guA i + 5 + (k - 0) % 8)) = fun k => v (guA i + 5 + k % 8) := funext fun k => by rw [Int.sub_zero]
  show (v (guA i + 1), x, (v (guA i + 3) + 0) % 8, v (guA i + 4), (0 : Int), fun k : Int => v (guA i + 5 + (k - 0) % 8)) = (v (guA i + 1), x, v (guA i + 3), v (guA i + 4), (0 : Int), fun k : Int => v (guA i + 5 + k % 8))
  rw [e, Int.add_zero, show v (guA i + 3) % 8 = v (guA i + 3) by omega]
theorem mdM_id {v : Vw} {i : Int} : mdM (guM v i) (v (guA i + 2)) = guM v i := rfl
/-- whether something is skipped is another thing -/
def skM (x : Ms) (s : Int) : Ms := (x.1, x.2.1, x.2.2.1, x.2.2.2.1, s, x.2.2.2.2.2)
theorem opD_sk {v : Vw} {p s : Int} {x : Ms} : opD v p (skM x s) = opD v p x := rfl
theorem skM_ok {x : Ms} {s : Int} (h : okM x) (hs : s = 0 ∨ s = 1) : okM (skM x s) := ⟨h.1, h.2.1, h.2.2.1, h.2.2.2.1, hs, h.2.2.2.2.2⟩
/-! the log by turns -/
/-- of the rows those behind k are pushed on -/
def shV (v : Vw) (k : Int) : Vw := fun j => if 128 + k < j ∧ j < 368 then v (j - 4) else v j
theorem shV_0 {v : Vw} : shV v 239 = v := funext fun k => if_neg (by omega)
theorem shV_s {v : Vw} {k i x : Int} (hk : 4 ≤ k ∧ k ≤ 239) (hi : i = 128 + k) (hx : x = v (128 + k - 4)) : us (shV v k) i x = shV v (k - 1) := funext fun j => by
  subst hi
  subst hx
  unfold us shV
  by_cases h : j = 128 + k
  · rw [if_pos h, if_pos (by omega), h]
  · rw [if_neg h]
    by_cases h2 : 128 + k < j ∧ j < 368
    · rw [if_pos h2, if_pos (by omega)]
    · rw [if_neg h2, if_neg (by omega)]
theorem tellV_us {v : Vw} {op what pc : Int} : us (us (us (us (us (shV v 3) 128 (v 8)) 129 op) 130 what) 131 pc) 10 (if v 10 < 60 then v 10 + 1 else 60) = tellV v op what pc := funext fun k => by
  unfold tellV
  by_cases k10 : k = 10
  · rw [if_pos k10, us_e k10]
  rw [if_neg k10, us_n k10]
  by_cases k131 : k = 131
  · rw [us_e k131, if_neg (by omega), if_neg (by omega), if_neg (by omega), if_pos k131]
  rw [us_n k131]
  by_cases k130 : k = 130
  · rw [us_e k130, if_neg (by omega), if_neg (by omega), if_pos k130]
  rw [us_n k130]
  by_cases k129 : k = 129
  · rw [us_e k129, if_neg (by omega), if_pos k129]
  rw [us_n k129]
  by_cases k128 : k = 128
  · rw [us_e k128, if_pos k128]
  rw [us_n k128, if_neg k128, if_neg k129, if_neg k130, if_neg k131]
  unfold shV
  by_cases h : 132 ≤ k ∧ k < 368
  · rw [if_pos h, if_pos (by omega)]
  · rw [if_neg h, if_neg (by omega)]
/-- a row told of a bench of which the purse is another one -/
theorem tellV_9 {v : Vw} {op what pc x : Int} : us (tellV v op what pc) 9 x = tellV (us v 9 x) op what pc := funext fun k => by
  by_cases h9 : k = 9
  · rw [us_e h9, tellV_o (by omega) (by omega), us_e h9]
  · rw [us_n h9]
    unfold tellV
    rw [us_n (show ¬ (10 : Int) = 9 by omega), us_n (show ¬ (8 : Int) = 9 by omega), us_n h9]
    by_cases h : 132 ≤ k ∧ k < 368
    · rw [us_n (show ¬ k - 4 = 9 by omega)]
    · rw [if_neg h, if_neg h]
theorem likeG_us2 {v : Vw} {i x : Int} (h : i < 102) : likeG (us v i x) ↔ likeG v := by
  unfold likeG guA
  rw [us_n (by omega), us_n (by omega), us_n (by omega), us_n (by omega), us_n (by omega), us_n (by omega), us_n (by omega), us_n (by omega)]
  constructor
  · rintro ⟨a, b, c, d, e⟩
    refine ⟨a, b, c, d, fun k k0 k1 => ?_⟩
    have := e k k0 k1
    rw [us_n (by omega), us_n (by omega)] at this
    exact this
  · rintro ⟨a, b, c, d, e⟩
    refine ⟨a, b, c, d, fun k k0 k1 => ?_⟩
    rw [us_n (by omega), us_n (by omega)]
    exact e k k0 k1
theorem likeG_13 {v : Vw} : likeG v ↔ ∀ j, 0 ≤ j → j < 13 → j = 4 ∨ v (guA 0 + j) = v (guA 1 + j) := by
  constructor
  · rintro ⟨a, b, c, d, e⟩ j j0 j1
    by_cases h4 : j = 4
    · exact Or.inl h4
    · right
      by_cases h5 : 5 ≤ j
      · have := e (j - 5) (by omega) (by omega)
        rw [show guA 0 + 5 + (j - 5) = guA 0 + j by omega, show guA 1 + 5 + (j - 5) = guA 1 + j by omega] at this
        exact this
      · rcases (show j = 0 ∨ j = 1 ∨ j = 2 ∨ j = 3 by omega) with rfl | rfl | rfl | rfl
        · rw [Int.add_zero, Int.add_zero]; exact a
        · exact b
        · exact c
        · exact d
  · intro h
    have f : ∀ j, 0 ≤ j → j < 13 → ¬ j = 4 → v (guA 0 + j) = v (guA 1 + j) := fun j a b c => (h j a b).resolve_left c
    have h0 := f 0 (by omega) (by omega) (by omega)
    rw [Int.add_zero, Int.add_zero] at h0
    refine ⟨h0, f 1 (by omega) (by omega) (by omega), f 2 (by omega) (by omega) (by omega), f 3 (by omega) (by omega) (by omega), fun k k0 k1 => ?_⟩
    have := f (5 + k) (by omega) (by omega) (by omega)
    rw [show guA 0 + (5 + k) = guA 0 + 5 + k by omega, show guA 1 + (5 + k) = guA 1 + 5 + k by omega] at this
    exact this
/-! ranges -/
theorem okA_tickA {v : Vw} (h : okA v) : okA (tickA v) := by
  unfold tickA
  exact (h.tell.caught0).caught1
theorem okA_stepV {v : Vw} (h : okA v) : okA (stepV v) := by
  have h1 : okB (bareV v 0) := h.1.eqB (bareV_eqB (Or.inl rfl))
  have g0 : okGu (bareV v 0) 0 := bareV_ok h.1 h.2.1
  have g1 : okGu (bareV v 0) 1 := h.2.2.eqv fun k a b => bareV_o (by unfold guA at *; omega)
  exact ⟨h1.eqB hostV_eqB, g0.eqv fun k a b => hostV_o (by unfold guA at *; omega), hostV_ok h1 g1⟩
theorem okA_bareV {v : Vw} (h : okA v) : okA (bareV v 0) := ⟨h.1.eqB (bareV_eqB (Or.inl rfl)), bareV_ok h.1 h.2.1, h.2.2.eqv fun k a b => bareV_o (by unfold guA at *; omega)⟩
/-- the law's sums are those of a bench like it -/
theorem sumV_eqL {v v' : Vw} {w p : Int} (hv : okB v) (hp : 0 ≤ p ∧ p < v 0) (he : eqM v v') (hL : lawOK v) : sumV v' w p = sumV v w p := by
  unfold sumV
  rw [he 2 (by omega) (by omega) (by omega), he 368 (by omega) (by omega) (by omega), factV_eq hv hp he]
  by_cases a : v 2 = 1
  · obtain ⟨l1, l2⟩ := hL.2 a
    rw [if_pos a, if_pos a]
    have : ∀ t : Nat, (t : Int) ≤ v 368 → sumR v' (factV v p) w t = sumR v (factV v p) w t := by
      intro t
      induction t with
      | zero => intro _; rfl
      | succ t ih =>
        intro ht
        have l := (l2 t (by omega) (by omega)).2.2.1.1
        unfold sumR
        rw [ih (by omega), he (369 + 4 * t) (by omega) (by omega) (by omega), he (370 + 4 * t) (by omega) (by omega) (by omega)]
        have := propext (@holdV_eq v v' (factV v p) t he (by omega) l)
        rw [this]
    exact this _ (by omega)
  · rw [if_neg a, if_neg a]
theorem emuV_eqL {v v' : Vw} {p : Int} (hv : okB v) (hp : 0 ≤ p ∧ p < v 0) (he : eqM v v') (hL : lawOK v) : emuV v' p = emuV v p := by
  unfold emuV
  rw [sumV_eqL hv hp he hL, he 6 (by omega) (by omega) (by omega)]
theorem worV_eqL {v v' : Vw} {p : Int} (hv : okB v) (hp : 0 ≤ p ∧ p < v 0) (he : eqM v v') (hL : lawOK v) : worV v' p = worV v p := by
  unfold worV
  rw [sumV_eqL hv hp he hL]
theorem wfC_eq {v v' : Vw} (he : eqM v v') : ∀ (t : Nat) (i : Int) (n : Nat), 0 ≤ i → wfC v t i n → wfC v' t i n := by
  intro t
  induction t with
  | zero => intro i n _ _; trivial
  | succ t ih =>
    intro i n hi h
    unfold wfC at h ⊢
    rw [he (417 + 2 * i) (by omega) (by omega) (by omega)]
    split
    · rename_i q
      rw [if_pos q] at h
      exact ih _ _ (by omega) h
    · rename_i q
      rw [if_neg q] at h
      split
      · rename_i q2
        rw [if_pos q2] at h
        exact ⟨h.1, ih _ _ (by omega) h.2⟩
      · rename_i q2
        rw [if_neg q2] at h
        exact ⟨h.1, ih _ _ (by omega) h.2⟩
theorem lawOK.eqM {v v' : Vw} (h : lawOK v) (he : eqM v v') : lawOK v' := by
  obtain ⟨h1, h2⟩ := h
  have e2 := he 2 (by omega) (by omega) (by omega)
  have e368 := he 368 (by omega) (by omega) (by omega)
  refine ⟨by rw [e2]; exact h1, fun q => ?_⟩
  rw [e2] at q
  obtain ⟨l1, l2⟩ := h2 q
  rw [e368]
  refine ⟨l1, fun n n0 n1 => ?_⟩
  obtain ⟨a1, a2, a3, a4, a5⟩ := l2 n n0 n1
  have e := fun k (q : 368 ≤ k) => he k (by omega) (by omega) (by omega)
  unfold lineOK
  rw [e (369 + 4 * n) (by omega), e (370 + 4 * n) (by omega), e (371 + 4 * n) (by omega), e (372 + 4 * n) (by omega)]
  refine ⟨a1, a2, a3, fun i i0 i1 => ?_, wfC_eq he _ _ _ a3.1 a5⟩
  rw [e (417 + 2 * i) (by omega), e (418 + 2 * i) (by omega)]
  exact a4 i i0 i1
theorem traV_eqM {v v' : Vw} {p : Int} (h : okOp v p) (he : eqM v v') (hp : 0 ≤ p ∧ p < 8) : traV v' p = traV v p := by
  unfold traV trtV
  rw [witV_eq h he hp, witV_eq h he hp, witV_eq h he hp, witV_eq h he hp]
theorem TrOk.eqM {f : Ci} {m : Int} {v v' : Vw} (h : TrOk f m v) (hv : okB v) (he : eqM v v') : TrOk f m v' := fun p a b => by
  have h8 := hv.n8
  rw [he 0 (by omega) (by omega) (by omega)] at b
  rw [traV_eqM (hv.op p a b) he (by omega)]
  exact h p a b
theorem eqM.refl (v : Vw) : eqM v v := fun _ _ _ _ => rfl
theorem eqM_tickA {v : Vw} : eqM v (tickA v) := by
  unfold tickA
  exact (eqM_tell.trans (caughtV_eqB (Or.inl rfl)).m).trans (caughtV_eqB (Or.inr rfl)).m
theorem eqM_stepV {v : Vw} : eqM v (stepV v) := (bareV_eqB (Or.inl rfl)).m.trans hostV_eqB.m
theorem eqM_tickP {v : Vw} : eqM v (tickP v) := by
  have h : eqM v (tickW v) := by
    unfold tickW
    split
    · exact eqM_stepV.trans eqM_tell
    · exact eqM_stepV
  unfold tickP
  split
  · exact h.trans (eqM_us (by omega))
  · exact h
theorem eqM_afterV {v w : Vw} {op : Int} : eqM w (afterV v w op) := by
  have h : eqM w (iV (likeG v ∧ ¬ likeG w) (tellV w op 3 (v (guA 1))) w) := by
    by_cases q : likeG v ∧ ¬ likeG w
    · rw [iV_t q]; exact eqM_tell
    · rw [iV_f q]; exact eqM.refl w
  exact h.trans (eqM_us (by omega))
theorem eqM_tick0 {v : Vw} {a : Prop} : eqM v (tick0 v a) := by
  unfold tick0
  by_cases q : a
  · rw [iV_t q]; exact eqM_tickA.trans eqM_afterV
  · rw [iV_f q]; exact eqM_tickP.trans eqM_afterV
theorem eqM_drawn {v : Vw} : eqM v (drawnV v) := eqM_us (by omega)
theorem eqM_tickV {v : Vw} {dr : Prop} : eqM v (tickV v dr) := by
  unfold tickV
  by_cases q : dr
  · rw [iV_t q]; exact eqM_drawn.trans eqM_tick0
  · rw [iV_f q]; exact eqM_tick0
theorem whatV_r (v : Vw) : whatV v = 0 ∨ whatV v = 1 ∨ whatV v = 2 ∨ whatV v = 5 ∨ whatV v = 6 := by
  unfold whatV hostH
  split
  · omega
  · split
    · omega
    · split
      · omega
      · split <;> omega
theorem sumV_nn {v : Vw} {w p : Int} (hL : lawOK v) : 0 ≤ sumV v w p := by
  unfold sumV
  by_cases a : v 2 = 1
  · rw [if_pos a]
    obtain ⟨l1, l2⟩ := hL.2 a
    have : ∀ t : Nat, (t : Int) ≤ v 368 → 0 ≤ sumR v (factV v p) w t := by
      intro t
      induction t with
      | zero => intro _; exact Int.le_refl 0
      | succ t ih =>
        intro ht
        have l := (l2 t (by omega) (by omega)).2.1
        have i := ih (by omega)
        unfold sumR
        split <;> omega
    exact this _ (by omega)
  · rw [if_neg a]
    exact Int.le_refl 0
theorem okA_tickP {v : Vw} (h : okA v) (hL : lawOK v) : okA (tickP v) := by
  have hs := okA_stepV h
  have hw : okA (tickW v) := by
    unfold tickW
    split
    · exact hs.tell
    · exact hs
  have h9 := h.1.2.2.2.2.2.2.2.2.2.1
  have hn := sumV_nn (v := v) (w := 2) (p := opH v) hL
  have e : worV v (opH v) = 1 + sumV v 2 (opH v) := rfl
  unfold tickP
  split
  · exact hw.us (Or.inr (Or.inl ⟨rfl, by split <;> omega, by split <;> omega⟩))
  · exact hw
theorem okA_afterV {v w : Vw} {op : Int} (h : okA v) (hw : okA w) : okA (afterV v w op) := by
  have h8 := h.1.2.2.2.2.2.2.2.2.1
  have hx : okA (iV (likeG v ∧ ¬ likeG w) (tellV w op 3 (v (guA 1))) w) := by
    by_cases q : likeG v ∧ ¬ likeG w
    · rw [iV_t q]; exact hw.tell
    · rw [iV_f q]; exact hw
  unfold afterV
  exact hx.us (Or.inl ⟨rfl, by split <;> omega, by split <;> omega⟩)
theorem okA_tick0 {v : Vw} {a : Prop} (h : okA v) (hL : lawOK v) : okA (tick0 v a) := by
  unfold tick0
  by_cases q : a
  · rw [iV_t q]; exact okA_afterV h (okA_tickA h)
  · rw [iV_f q]; exact okA_afterV h (okA_tickP h hL)
theorem okA_tickV {v : Vw} {dr : Prop} (h : okA v) (hL : lawOK v) : okA (tickV v dr) := by
  unfold tickV
  by_cases q : dr
  · rw [iV_t q]
    exact okA_tick0 (h.us (Or.inr (Or.inr rfl))) (hL.eqM eqM_drawn)
  · rw [iV_f q]; exact okA_tick0 h hL
/-! nothing lies ahead of the row -/
theorem stepV_n {v : Vw} {k : Int} (h : k < 0) : stepV v k = v k := (hostV_o (by unfold guA; omega)).trans (bareV_o (by unfold guA; omega))
theorem tickP_n {v : Vw} {k : Int} (h : k < 0) : tickP v k = v k := by
  have hw : tickW v k = v k := by
    unfold tickW
    split
    · exact (tellV_o (by omega) (by omega)).trans (stepV_n h)
    · exact stepV_n h
  unfold tickP
  split
  · exact (us_n (by omega)).trans hw
  · exact hw
theorem tickA_n {v : Vw} {k : Int} (h : k < 0) : tickA v k = v k := by
  unfold tickA
  rw [caughtV_o (by unfold guA; omega) (by unfold guA; omega), caughtV_o (by unfold guA; omega) (by unfold guA; omega), tellV_o (by omega) (by omega)]
theorem afterV_n {v w : Vw} {op k : Int} (h : k < 0) : afterV v w op k = w k := by
  have hx : iV (likeG v ∧ ¬ likeG w) (tellV w op 3 (v (guA 1))) w k = w k := by
    by_cases q : likeG v ∧ ¬ likeG w
    · rw [iV_t q]; exact tellV_o (by omega) (by omega)
    · rw [iV_f q]
  unfold afterV
  exact (us_n (by omega)).trans hx
theorem tick0_n {v : Vw} {a : Prop} {k : Int} (h : k < 0) : tick0 v a k = v k := by
  unfold tick0
  by_cases q : a
  · rw [iV_t q]; exact (afterV_n h).trans (tickA_n h)
  · rw [iV_f q]; exact (afterV_n h).trans (tickP_n h)
theorem tickV_n {v : Vw} {dr : Prop} {k : Int} (h : k < 0) : tickV v dr k = v k := by
  unfold tickV
  by_cases q : dr
  · rw [iV_t q]; exact (tick0_n h).trans (us_n (by omega))
  · rw [iV_f q]; exact tick0_n h
