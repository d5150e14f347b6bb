/-! CONTRACTS over memories -/
theorem Wd.warm {G : GW} {s U : State} (hW : s.WarmedH U.vm) (h : Wd G s) : Wd G U := by
  obtain ⟨h1, h2, h3, h4, h5, h6, h7, h8, h9⟩ := h
  have hv := hW.alike
  refine ⟨va_K.moved hv h1, h2.warm hW, fun t ht C e => va_AO.moved hv (h3 t ht C e), ⟨h4.1, fun a t n ha hs => ?_⟩, fun x hx => va_Z.moved hv (h5 x hx), ⟨h6.1, vx_Zq.moved hv h6.2.1, vx_Zq.moved hv h6.2.2⟩, fun own k tx a hm => ?_, fun x hx => va_Nc.moved hv (h8 x hx), fun x hx => va_Fw.moved (by decide) hv (h9 x hx)⟩
  · obtain ⟨n0, n1, e1, e2⟩ := h4.2 a t n ha hs
    refine ⟨n0, n1, fun ht => ?_, fun ht => ?_⟩
    · obtain ⟨q, a1, a2, ⟨cell, b1, b2, b3⟩, a3, a4⟩ := e1 ht
      exact ⟨q, a1, a2, ⟨cell, b1, b2, by rw [hv.findClass]; exact b3⟩, va_OF.moved hv a3, va_OF.moved hv a4⟩
    · obtain ⟨t0, t2, q, cell, a1, a2, a3, a4, a5⟩ := e2 ht
      exact ⟨t0, t2, q, cell, a1, a2, a3, State.isArrayOf_alike hv a4, a5⟩
  · obtain ⟨q, a1, a2⟩ := h7 own k tx a hm
    exact ⟨q, a1, a2.warm hW⟩
theorem Wd.same {G : GW} {s U : State} (hv : s.vm = U.vm) (h : Wd G s) : Wd G U := Wd.warm (by rw [← hv]; exact State.WarmedH.refl s) h
/-- a method: its name, code, number of locals, what it returns, its table of handlers -/
abbrev MI : Type := MethodName × ByteArray × Nat × Option FieldType × List (Nat × Nat × Nat × Nat)
def wsM (j : MI) : List Cond := match j.2.2.2.2 with
  | [] => ws_ j.1 j.2.1 j.2.2.1 j.2.2.2.1
  | hh => wsW_ j.1 j.2.1 j.2.2.1 j.2.2.2.1 hh
/-- what comes of a run: a value or none, or a thrown cell (-7: just any) and its class -/
abbrev Res : Type := Option DV ⊕ (Int × String)
abbrev rV (v : DV) : Res := Sum.inl (some v)
abbrev rN : Res := Sum.inl none
abbrev rT (a : Int) (E : String) : Res := Sum.inr (a, E)
def Qret (G : GW) (r : Res) (M' : Mem) : Array Value → State → Outcome → State → Prop := fun _ st o t =>
  ∃ v : Option DV, r = .inl v ∧ o = .returned (v.map (tv G)) ∧ (∀ x, v = some x → okV x) ∧ Rp G M' t.heap ∧ st.heap.size ≤ t.heap.size
def Qthr (G : GW) (r : Res) (M' : Mem) : Nat → String → State → State → Prop := fun q E st t =>
  ∃ a : Int, r = .inr (a, E) ∧ (0 ≤ a → q = gB G + a.toNat) ∧ Rp G M' t.heap ∧ st.heap.size ≤ t.heap.size
def frG (G : GW) : Nat → Prop := fun q => gB G ≤ q
def PcM (G : GW) (vs : List DV) (M : Mem) : Array Value → State → Prop := fun a U => a = (vs.map (tv G)).toArray ∧ Wd G U ∧ Rp G M U.heap
def PQ (G : GW) (r : Res) (M' : Mem) (below : List Frame) (args : Array Value) (s : State) (mc ms : Nat) : State → Prop := vx_MQ below (Qret G r M') (Qthr G r M') args s mc ms (frG G)
/-- the frame of a run of method j -/
def Fr (G : GW) (d : Nat) (j : MI) (p : Program) (R : Room) (s : State) (m : MethodId) (args : Array Value) (meth : Method) (c : Code) : Prop :=
  p.tables.exec = Jvm.exec ∧ c.code = j.2.1 ∧ meth.sig.returnType = j.2.2.2.1 ∧ meth.locks = false ∧ c.maxLocals = j.2.2.1 ∧ s.vm.findClass j.1.cls = some m.cls ∧
  (∀ w ∈ lw_all, w.before args s = true) ∧ Wd G s ∧ meth.name = j.1.name ∧ c.exceptionTable.toList = tableOf j.2.2.2.2 ∧ d ≤ R.frames ∧ 64 * d ≤ R.locals ∧ gB G ≤ s.heap.size ∧ ∀ q : Nat, q < gB G → s.heap[q]? = (gH G)[q]?
/-- one step (or some) of method j: from (pc, L, S, M) to (pc', L', S', M') -/
def Sx (G : GW) (d : Nat) (j : MI) (pc : Nat) (L : LV) (S : List DV) (M : Mem) (pc' : Nat) (L' : LV) (S' : List DV) (M' : Mem) : Prop :=
  mnx M ≤ mnx M' ∧ mns M ≤ mns M' ∧ ∀ (p : Program) (e : Env) (R : Room) (s : State) (m : MethodId) (args : Array Value) (below : List Frame) (meth : Method) (c : Code) (H : Heap) (locs : List Loc) (cells slots : Nat) (ls : Array Slot) (Q : State → Prop),
    Fr G d j p R s m args meth c → s.heap.size ≤ H.size → Rp G M H → okLoc G locs → lrep G ls j.2.2.1 L → okS S → cells + (mnx M' - mnx M) ≤ R.cells → slots + (mns M' - mns M) ≤ R.slots →
    (∀ (H1 : Heap) (locs1 : List Loc) (ls1 : Array Slot), Rp G M' H1 → H.size ≤ H1.size → okLoc G locs1 → lrep G ls1 j.2.2.1 L' → okS S' →
      W p (gl G) e R s m args below meth c H1 locs1 (cells + (mnx M' - mnx M)) (slots + (mns M' - mns M)) Q (F0 m pc' ls1 (S'.map (tv G)))) →
    W p (gl G) e R s m args below meth c H locs cells slots Q (F0 m pc ls (S.map (tv G)))
/-- a run of method j to its end -/
def Ex (G : GW) (d : Nat) (j : MI) (pc : Nat) (L : LV) (S : List DV) (M : Mem) (r : Res) (M' : Mem) : Prop :=
  mnx M ≤ mnx M' ∧ mns M ≤ mns M' ∧ ∀ (p : Program) (e : Env) (R : Room) (s : State) (m : MethodId) (args : Array Value) (below : List Frame) (meth : Method) (c : Code) (H : Heap) (locs : List Loc) (cells slots : Nat) (ls : Array Slot),
    Fr G d j p R s m args meth c → s.heap.size ≤ H.size → Rp G M H → okLoc G locs → lrep G ls j.2.2.1 L → okS S → cells + (mnx M' - mnx M) ≤ R.cells → slots + (mns M' - mns M) ≤ R.slots →
    W p (gl G) e R s m args below meth c H locs cells slots (PQ G r M' below args s (cells + (mnx M' - mnx M)) (slots + (mns M' - mns M))) (F0 m pc ls (S.map (tv G)))
theorem Ex.of {G : GW} {d : Nat} {j : MI} {pc pc' : Nat} {L L' : LV} {S S' : List DV} {M M1 M' : Mem} {r : Res} (h : Sx G d j pc L S M pc' L' S' M1) (k : Ex G d j pc' L' S' M1 r M') : Ex G d j pc L S M r M' := by
  obtain ⟨h1, h2, h3⟩ := h
  obtain ⟨k1, k2, k3⟩ := k
  refine ⟨Nat.le_trans h1 k1, Nat.le_trans h2 k2, fun p e R s m args below meth c H locs cells slots ls F hs hR hl hL hS hc hk => ?_⟩
  refine h3 p e R s m args below meth c H locs cells slots ls _ F hs hR hl hL hS (by omega) (by omega) fun H1 locs1 ls1 hR1 hs1 hl1 hL1 hS1 => ?_
  have h := k3 p e R s m args below meth c H1 locs1 (cells + (mnx M1 - mnx M)) (slots + (mns M1 - mns M)) ls1 F (Nat.le_trans hs hs1) hR1 hl1 hL1 hS1 (by omega) (by omega)
  have e1 : cells + (mnx M1 - mnx M) + (mnx M' - mnx M1) = cells + (mnx M' - mnx M) := by omega
  have e2 : slots + (mns M1 - mns M) + (mns M' - mns M1) = slots + (mns M' - mns M) := by omega
  rw [e1, e2] at h
  exact h
def WP (G : GW) (d : Nat) (j : MI) (pc : Nat) (L : LV) (S : List DV) (M : Mem) (Q : Res → Mem → Prop) : Prop := ∃ (r : Res) (M' : Mem), Q r M' ∧ Ex G d j pc L S M r M'
theorem WP.of {G : GW} {d : Nat} {j : MI} {pc pc' : Nat} {L L' : LV} {S S' : List DV} {M M1 : Mem} {Q : Res → Mem → Prop} (h : Sx G d j pc L S M pc' L' S' M1) (k : WP G d j pc' L' S' M1 Q) : WP G d j pc L S M Q := by
  obtain ⟨r, M', q, k⟩ := k
  exact ⟨r, M', q, Ex.of h k⟩
theorem WP.mono {G : GW} {d : Nat} {j : MI} {pc : Nat} {L : LV} {S : List DV} {M : Mem} {Q Q' : Res → Mem → Prop} (k : WP G d j pc L S M Q) (h : ∀ r M', Q r M' → Q' r M') : WP G d j pc L S M Q' := by
  obtain ⟨r, M', q, k⟩ := k
  exact ⟨r, M', h r M' q, k⟩
/-- the same memory in other words -/
theorem WP.mem {G : GW} {d : Nat} {j : MI} {pc : Nat} {L : LV} {S : List DV} {M M1 : Mem} {Q : Res → Mem → Prop} (h : M = M1) (k : WP G d j pc L S M1 Q) : WP G d j pc L S M Q := by
  subst h
  exact k
/-- what the heap gives of the memory: its ints are in range -/
theorem WP.rng {G : GW} {d : Nat} {j : MI} {pc : Nat} {L : LV} {S : List DV} {M : Mem} {Q : Res → Mem → Prop} (k : (∀ a i, i32 (mci M a i)) → okL L → okS S → WP G d j pc L S M Q) (r0 : Res) (M0 : Mem) (hq : Q r0 M0) (h1 : mnx M ≤ mnx M0) (h2 : mns M ≤ mns M0) : WP G d j pc L S M Q := by
  by_cases h : (∀ a i, i32 (mci M a i)) ∧ okL L ∧ okS S
  · exact k h.1 h.2.1 h.2.2
  · refine ⟨r0, M0, hq, h1, h2, fun p e R s m args below meth c H locs cells slots ls F hs hR hl hL hS hc hk => ?_⟩
    exact absurd ⟨hR.2.2.2.2.2.1, hL.2, hS⟩ h
def CSx (G : GW) (d : Nat) (j : MI) (vs : List DV) (M : Mem) (r : Res) (M' : Mem) : Prop :=
  mnx M ≤ mnx M' ∧ mns M ≤ mns M' ∧ (okS vs → vx_Met (gl G) j.1 (wsM j) { frames := d, cells := mnx M' - mnx M, slots := mns M' - mns M, locals := 64 * d } (PcM G vs M) (Qret G r M') (Qthr G r M') (mnx M' - mnx M) (mns M' - mns M) (frG G))
/-- a call of method j with these arguments over this memory ends with Q -/
def CS (G : GW) (d : Nat) (j : MI) (vs : List DV) (M : Mem) (Q : Res → Mem → Prop) : Prop := ∃ (r : Res) (M' : Mem), Q r M' ∧ CSx G d j vs M r M'
theorem CS.mono {G : GW} {d : Nat} {j : MI} {vs : List DV} {M : Mem} {Q Q' : Res → Mem → Prop} (k : CS G d j vs M Q) (h : ∀ r M', Q r M' → Q' r M') : CS G d j vs M Q' := by
  obtain ⟨r, M', q, k⟩ := k
  exact ⟨r, M', h r M' q, k⟩
/-- the locals with which a method begins -/
def argL : List DV → LV
  | [] => []
  | v :: vs => if isLg (some v) then some v :: none :: argL vs else some v :: argL vs
def entL (vs : List DV) (n : Nat) : LV := argL vs ++ List.replicate (n - (argL vs).length) none
theorem tv_cases {G : GW} {s : State} (h : Wd G s) (r : Option Int) : tv G (dO r) = .null ∨ ∃ q : Nat, tv G (dO r) = .ref q := by
  rcases r with _ | a
  · exact Or.inl rfl
  · show adv G a = .null ∨ ∃ q : Nat, adv G a = .ref q
    unfold adv
    split
    · exact Or.inr ⟨_, rfl⟩
    · rename_i ha
      rcases h.2.2.2.1.1 a (by omega) with h | ⟨q, -, h⟩
      · exact Or.inl h
      · exact Or.inr ⟨q, h⟩
theorem tv_cat {G : GW} {s : State} (h : Wd G s) (v : DV) : (tv G v).category = if isLg (some v) then 2 else 1 := by
  rcases v with x | r | x
  · rfl
  · show (tv G (dO r)).category = 1
    rcases tv_cases h r with h | ⟨q, h⟩ <;> rw [h] <;> rfl
  · rfl
theorem argL_ok {vs : List DV} (h : okS vs) : ∀ v, some v ∈ argL vs → okV v := by
  induction vs with
  | nil => intro v hv; cases hv
  | cons w vs ih =>
    intro v hv
    have h1 := ih (okS_tail h) v
    unfold argL at hv
    split at hv
    · rcases List.mem_cons.mp hv with e | hv
      · cases e; exact okS_head h
      · rcases List.mem_cons.mp hv with e | hv
        · cases e
        · exact h1 hv
    · rcases List.mem_cons.mp hv with e | hv
      · cases e; exact okS_head h
      · exact h1 hv
theorem argL_sub {G : GW} {s : State} (hW : Wd G s) : ∀ (vs : List DV) (k : Nat) (q : Nat × Value), q ∈ lvO G k (argL vs) → q ∈ lv_args k (vs.map (tv G)) := by
  intro vs
  induction vs with
  | nil => intro k q h; cases h
  | cons v vs ih =>
    intro k q h
    have hc := tv_cat hW v
    unfold argL at h
    show q ∈ (k, tv G v) :: lv_args (if (tv G v).category = 2 then k + 2 else k + 1) (vs.map (tv G))
    split at h
    · rename_i hl
      rw [if_pos hl] at hc
      rw [if_pos hc]
      rcases List.mem_cons.mp h with e | h
      · exact List.mem_cons.mpr (Or.inl e)
      · exact List.mem_cons_of_mem _ (ih (k + 2) q h)
    · rename_i hl
      rw [if_neg hl] at hc
      rw [if_neg (by omega)]
      rcases List.mem_cons.mp h with e | h
      · exact List.mem_cons.mpr (Or.inl e)
      · exact List.mem_cons_of_mem _ (ih (k + 1) q h)
theorem lvO_none (G : GW) : ∀ (n k : Nat), lvO G k (List.replicate n none) = [] := by
  intro n
  induction n with
  | zero => intro k; rfl
  | succ n ih => intro k; exact ih (k + 1)
theorem lvO_app (G : GW) : ∀ (A B : LV) (k : Nat), lvO G k (A ++ B) = lvO G k A ++ lvO G (k + A.length) B := by
  intro A
  induction A with
  | nil => intro B k; rfl
  | cons o A ih =>
    intro B k
    have e : k + (o :: A).length = k + 1 + A.length := by simp; omega
    rw [e]
    cases o with
    | none => exact ih B (k + 1)
    | some v => exact congrArg (List.cons (k, tv G v)) (ih B (k + 1))
theorem lg_len {G : GW} {s : State} (hW : Wd G s) : ∀ vs : List DV, (lg_sl (vs.map (tv G))).length = (argL vs).length := by
  intro vs
  induction vs with
  | nil => rfl
  | cons v vs ih =>
    have hc := tv_cat hW v
    unfold argL
    have e : lg_sl ((v :: vs).map (tv G)) = (if (tv G v).category = 2 then [Slot.val (tv G v), Slot.second] else [Slot.val (tv G v)]) ++ lg_sl (vs.map (tv G)) := rfl
    rw [e]
    by_cases hl : isLg (some v) = true
    · rw [if_pos hl] at hc ⊢
      rw [if_pos hc]
      simp [ih]
    · rw [if_neg hl] at hc ⊢
      rw [if_neg (by omega)]
      simp [ih]
/-- a method's contract out of the walk from its entry -/
theorem CS.mk {G : GW} {d : Nat} {j : MI} {vs : List DV} {M : Mem} {Q : Res → Mem → Prop} (hy : plainName j.1.cls = true) (hn : (argL vs).length ≤ j.2.2.1) (k : WP G d j 0 (entL vs j.2.2.1) [] M Q) : CS G d j vs M Q := by
  obtain ⟨r, M', q, k1, k2, k⟩ := k
  refine ⟨r, M', q, k1, k2, fun hvs => ?_⟩
  have body : ∀ p e s m args below meth c s₁, BodyLoose p (gl G) j.1 (headSpec (wsM j) { frames := d, cells := mnx M' - mnx M, slots := mns M' - mns M, locals := 64 * d }) j.2.1 j.2.2.1 j.2.2.2.1 e s m args below meth c s₁ → c.maxLocals = j.2.2.1 → c.exceptionTable.toList = tableOf j.2.2.2.2 → PcM G vs M args s →
      W p (gl G) e (headSpec (wsM j) { frames := d, cells := mnx M' - mnx M, slots := mns M' - mns M, locals := 64 * d }).room s m args below meth c s.heap [] 0 0 (vx_MQ below (Qret G r M') (Qthr G r M') args s (mnx M' - mnx M) (mns M' - mns M) (frG G)) (entryFrame m args j.2.2.1) := by
    intro p e s m args below meth c s₁ B hml htab hP
    obtain ⟨rfl, hW, hR⟩ := hP
    have hts : ∀ w ∈ lw_all, w.before (vs.map (tv G)).toArray s = true := by
      have h0 := atoms_spec (ws := wsM j) B.pre
      intro w hw
      refine h0 w ?_
      unfold wsM
      split
      · exact List.mem_cons_of_mem _ hw
      · exact List.mem_cons_of_mem _ hw
    have F : Fr G d j p { frames := d, cells := mnx M' - mnx M, slots := mns M' - mns M, locals := 64 * d } s m (vs.map (tv G)).toArray meth c :=
      ⟨B.exec, B.bytes, B.returns, B.notSynchronized, hml, findClass_of_methodNamed B.named, hts, hW, (name_of_methodNamed B.named B.method).1, htab, Nat.le_refl _, Nat.le_refl _, by rw [hR.1]; exact Nat.le_add_right _ _, hR.2.2.2.2.1⟩
    have hl := lv_entry (vs.map (tv G)) (n := j.2.2.1) (by rw [lg_len hW]; exact hn)
    rw [lg_entry_eq]
    have hL : lrep G ((lg_sl (vs.map (tv G)) ++ List.replicate (j.2.2.1 - (lg_sl (vs.map (tv G))).length) Slot.unset).toArray) j.2.2.1 (entL vs j.2.2.1) := by
      refine ⟨⟨hl.1, hl.2.1, fun q hq => hl.2.2 q ?_⟩, fun v hv => ?_⟩
      · unfold entL at hq
        rw [lvO_app, lvO_none, List.append_nil] at hq
        exact argL_sub hW vs 0 q hq
      · unfold entL at hv
        rcases List.mem_append.mp hv with h | h
        · exact argL_ok hvs v h
        · cases List.eq_of_mem_replicate h
    have h := k p e { frames := d, cells := mnx M' - mnx M, slots := mns M' - mns M, locals := 64 * d } s m (vs.map (tv G)).toArray below meth c s.heap [] 0 0 _ F (Nat.le_refl _) hR (fun z hz => nomatch hz) hL okS_nil (by simp) (by simp)
    simp only [Nat.zero_add] at h
    exact h
  unfold wsM at body ⊢
  split at body
  · rename_i he
    refine vx_ofW (cc := j.2.1) (maxL := j.2.2.1) (ret := j.2.2.2.1) hy rfl fun p e s m args below meth c s₁ B hml htab hP => body p e s m args below meth c s₁ B hml ?_ hP
    rw [he]
    have : c.exceptionTable.toList = [] := List.eq_nil_iff_forall_not_mem.mpr htab
    rw [this]
    rfl
  · rename_i hh he
    refine vx_ofWH (cc := j.2.1) (maxL := j.2.2.1) (ret := j.2.2.2.1) (hh := j.2.2.2.2) hy rfl fun p e s m args below meth c s₁ B hml hP => body p e s m args below meth c s₁ B hml ?_ hP
    exact vx_table (x := j.1) B (atoms_spec B.pre _ List.mem_cons_self)
