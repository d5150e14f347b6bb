/-! RULES: statics, old Strings' fields, returns, throws, calls -/
section ST
variable {G : GW} {d : Nat} {j : MI} {pc : Nat} {L : LV} {S : List DV} {M : Mem} {Q : Res → Mem → Prop} {a b i x : Int} {t idx : Nat} {n : Int}
theorem x_gets {C nm dsc : String} {v : DV} (hm : (C, nm, dsc, tv G v) ∈ statV G) (hv : okV v) (hq : Cond.fieldLink j.1.cls idx C nm dsc ∈ lw_all ∨ ∃ host, Cond.fieldLinkNest j.1.cls idx C nm dsc host ∈ lw_tbl) (hd : decode j.2.1 pc = .ok (.getstatic idx, 3)) (kk : WP G d j (pc + 3) L (v :: S) M Q) : WP G d j pc L S M Q := by
  refine WP.of (Sx.st fun p e R s m args below meth c H locs cells slots ls Q F hR hl hS => ⟨okS_cons hv hS, fun w => ?_⟩) kk
  obtain ⟨cf, kf, fi, f, q, cell, h1, h2, h3, h4, h5, h6, h7, h8⟩ := F.W.2.2.2.2.1 _ hm
  have hq5 : H[q]? = some cell := by rw [hR.2.2.2.2.1 q (Array.getElem?_eq_some_iff.mp h5).1]; exact h5
  rcases hq with hq | ⟨host, hq⟩
  · exact W.gets F.1 F.2.1 F.own (F.ts _ hq) h1 h2 h3 h4 hq5 (fun e => by rw [e] at h6; cases h6) h7 rfl hd w
  · exact va_WgetsN F.1 F.2.1 F.own (va_Nw.use rfl (F.W.2.1 _ hq rfl)) h1 h2 h3 h4 hq5 (fun e => by rw [e] at h6; cases h6) h7 rfl hd w
theorem Rp.old {G : GW} {M : Mem} {H : Heap} (hR : Rp G M H) (h0 : a < 0) : msh M a = gsh G a ∧ ∀ i, mci M a i = gci G a i ∧ mcr M a i = gcr G a i := hR.2.2.2.1 a h0
/-- a String's array of bytes -/
theorem x_getSv {r : Option Int} (h0 : a < 0) (hs : msh M a = some (99, n)) (hr : mcr M a 0 = r) (hq : Cond.fieldLink j.1.cls idx "java/lang/String" "value" "[B" ∈ lw_all) (hd : decode j.2.1 pc = .ok (.getfield idx, 3)) (kk : WP G d j (pc + 3) L (dO r :: S) M Q) : WP G d j pc L (dR a :: S) M Q := by
  refine WP.of (Sx.st fun p e R s m args below meth c H locs cells slots ls Q F hR hl hS => ⟨okS_cons (show okV (dO r) from trivial) (okS_tail hS), fun w => ?_⟩) kk
  have ho := hR.old h0
  rw [ho.1] at hs
  obtain ⟨-, -, h, -⟩ := F.W.2.2.2.1.2 a 99 n h0 hs
  obtain ⟨q, a1, a2, -, ⟨cf, k, fi, f, cell, e1, e2, e3, e4, e5, e6⟩, -⟩ := h rfl
  rw [List.map_cons, adv_old h0 a1]
  refine W.getf F.1 F.2.1 F.own (F.ts _ hq) e1 e2 (by rw [hR.2.2.2.2.1 q a2]; exact e3) e4 (v := tv G (dO r)) ?_ rfl rfl hd w
  rw [e5, ← (ho.2 0).2, hr]
theorem x_getSc (h0 : a < 0) (hs : msh M a = some (99, n)) (hq : Cond.fieldLink j.1.cls idx "java/lang/String" "coder" "B" ∈ lw_all) (hd : decode j.2.1 pc = .ok (.getfield idx, 3)) (kk : WP G d j (pc + 3) L (dI (mci M a 1) :: S) M Q) : WP G d j pc L (dR a :: S) M Q := by
  refine WP.of (Sx.st fun p e R s m args below meth c H locs cells slots ls Q F hR hl hS => ⟨okS_cons (okI (hR.2.2.2.2.2.1 a 1)) (okS_tail hS), fun w => ?_⟩) kk
  have ho := hR.old h0
  rw [ho.1] at hs
  obtain ⟨-, -, h, -⟩ := F.W.2.2.2.1.2 a 99 n h0 hs
  obtain ⟨q, a1, a2, -, -, ⟨cf, k, fi, f, cell, e1, e2, e3, e4, e5, e6⟩⟩ := h rfl
  rw [List.map_cons, adv_old h0 a1]
  refine W.getf F.1 F.2.1 F.own (F.ts _ hq) e1 e2 (by rw [hR.2.2.2.2.1 q a2]; exact e3) e4 (v := .int (Int32.ofInt (mci M a 1))) ?_ rfl rfl hd w
  rw [e5, ← (ho.2 1).1]
/-! returns -/
theorem x_ret {v : Option DV} {Sv : List DV} (hq : Q (.inl v) M) (hok : okS Sv → ∀ x, v = some x → okV x)
    (h : ∀ (p : Program) (e : Env) (R : Room) (s : State) (m : MethodId) (args : Array Value) (below : List Frame) (meth : Method) (c : Code) (H : Heap) (locs : List Loc) (cells slots : Nat) (ls : Array Slot) (Qc : Array Value → State → Outcome → State → Prop), Fr G d j p R s m args meth c → okS Sv → (∀ t : State, t.heap = H → s.WarmedH t.vm → Qc args s (.returned (v.map (tv G))) t) → okLoc G locs → W p (gl G) e R s m args below meth c H locs cells slots (MQ below Qc args s cells slots (frG G)) (F0 m pc ls (Sv.map (tv G)))) : WP G d j pc L Sv M Q := by
  refine ⟨.inl v, M, hq, Nat.le_refl _, Nat.le_refl _, fun p e R s m args below meth c H locs cells slots ls F hs hR hl hL hS hc hk => ?_⟩
  simp only [Nat.sub_self, Nat.add_zero]
  exact vx_ret (h p e R s m args below meth c H locs cells slots ls (Qret G (.inl v) M) F hS (fun t ht hW => ⟨v, rfl, rfl, hok hS, by rw [ht]; exact hR, by rw [ht]; exact hs⟩) hl)
theorem x_iret {ty : FieldType} (hr : j.2.2.2.1 = some ty) (hn : narrow ty (.int (Int32.ofInt x)) = .int (Int32.ofInt x)) (hd : decode j.2.1 pc = .ok (.ireturn, 1)) (hq : Q (rV (dI x)) M) : WP G d j pc L [dI x] M Q :=
  x_ret hq (fun hS v hv => by cases hv; exact okS_head hS) fun p e R s m args below meth c H locs cells slots ls Qc F hS h hl => W.zret F.1 F.2.1 (F.rt.trans hr) hn h hl hd F.lk
theorem x_ireturn (hr : j.2.2.2.1 = some .int) (hd : decode j.2.1 pc = .ok (.ireturn, 1)) (hq : Q (rV (dI x)) M) : WP G d j pc L [dI x] M Q := x_iret hr rfl hd hq
theorem x_zreturn (hx : x = 0 ∨ x = 1) (hr : j.2.2.2.1 = some .boolean) (hd : decode j.2.1 pc = .ok (.ireturn, 1)) (hq : Q (rV (dI x)) M) : WP G d j pc L [dI x] M Q := x_iret hr (by rcases hx with rfl | rfl <;> rfl) hd hq
theorem x_lreturn (hr : j.2.2.2.1 = some .long) (hd : decode j.2.1 pc = .ok (.lreturn, 1)) (hq : Q (rV (dL x)) M) : WP G d j pc L [dL x] M Q :=
  x_ret hq (fun hS v hv => by cases hv; exact okS_head hS) fun p e R s m args below meth c H locs cells slots ls Qc F hS h hl => W.lret F.1 F.2.1 (F.rt.trans hr) h hl hd F.lk
theorem x_vreturn (hr : j.2.2.2.1 = none) (hd : decode j.2.1 pc = .ok (.return_, 1)) (hq : Q rN M) : WP G d j pc L [] M Q :=
  x_ret hq (fun hS v hv => by cases hv) fun p e R s m args below meth c H locs cells slots ls Qc F hS h hl => W.vret F.1 F.2.1 (F.rt.trans hr) h hl hd F.lk
theorem x_areturn {rt : FieldType} {r : Option Int} (hr : j.2.2.2.1 = some rt) (hrt : (∃ n, rt = .object n) ∨ ∃ t, rt = .array t) (hd : decode j.2.1 pc = .ok (.areturn, 1)) (hq : Q (rV (dO r)) M) : WP G d j pc L [dO r] M Q :=
  x_ret hq (fun hS v hv => by cases hv; exact okS_head hS) fun p e R s m args below meth c H locs cells slots ls Qc F hS h hl => W.aret F.1 F.2.1 (F.rt.trans hr) hrt (tv_cases F.W r) h hl hd F.lk
/-! throws -/
theorem x_athrow {E : String} {T : u_T} {N : Nat} (hh : j.2.2.2.2 = []) (hs : msh M a = some (t, n)) (hc : clG[t]? = some (E, T, N)) (hd : decode j.2.1 pc = .ok (.athrow, 1)) (hq : Q (rT a E) M) : WP G d j pc L (dR a :: S) M Q := by
  refine ⟨rT a E, M, hq, Nat.le_refl _, Nat.le_refl _, fun p e R s m args below meth c H locs cells slots ls F hs' hR hl hL hS hcc hk => ?_⟩
  simp only [Nat.sub_self, Nat.add_zero]
  obtain ⟨h0, h1, cell, q1, q2, q3, q4⟩ := hR.ob F.W hs hc
  have hcl := (F.W.1.1 t _ hc).2.1
  rw [List.map_cons, tv_r G h0]
  have htab : c.exceptionTable.toList = [] := by rw [F.2.2.2.2.2.2.2.2.2.1, hh]; rfl
  exact vx_athrow F.1 F.2.1 hd (vx_out (fun x hx => by rw [htab] at hx; cases hx) F.lk q1 q3 (hcl.trans (by rw [q2])) (fun t ht hv => ⟨a, rfl, fun _ => rfl, by rw [ht]; exact hR, by rw [ht]; exact hs'⟩) hl (Nat.le_refl _) (Nat.le_refl _))
end ST
/-! calls -/
def vx_RunG (len : Nat) (p : Program) (l : Launch) (e : Env) (R : Room) (s : State) (m : MethodId) (args : Array Value) (below : List Frame) (meth : Method) (c : Code) (H : Heap) (locs : List Loc) (cells slots mc ms : Nat) (g : JFrame) (rest : List Value) (Qa : State → Outcome → State → Prop) (XC : Nat → String → State → State → Prop) (free : Addr → Prop) : Prop :=
  ∀ T : State, T.heap = H → Stand p l e R s m args below meth c T locs cells slots →
    (∃ (v : Option Value) (st₀ t T' : State) (L : List Loc), st₀.heap = H ∧ Stand p l e R s m args below meth c T' (locs ++ L) (cells + mc) (slots + ms) ∧ (∀ q ∈ L, free q.base) ∧ T'.heap = t.heap ∧ T'.vm = t.vm ∧ Qa st₀ (.returned v) t ∧
      Goes p e below T g T' { g with pc := g.pc + len, stack := v.toList ++ rest }) ∨
    (∃ (q : Addr) (st₀ t T' : State) (L : List Loc) (E : String) (ce : Cell), st₀.heap = H ∧ Stand p l e R s m args below meth c T' (locs ++ L) (cells + mc) (slots + ms) ∧ (∀ z ∈ L, free z.base) ∧ T'.heap = t.heap ∧ T'.vm = t.vm ∧ XC q E st₀ t ∧ t.heap[q]? = some ce ∧ ce.vm = .none ∧ s.vm.findClass E = some ce.cls ∧
      Steps p.tables e below (T.setTop g) ((T'.setTop { g with stack := rest }).pushFrame (.throwing q)))
/-- what a call by this instruction asks: the receiver's class, if any; the number of its values -/
def LKs (G : GW) (ins : Instr) (len : Nat) (own : String) (jm : MI) (k : Nat) (rc : Option String) : Prop :=
  ∀ (p : Program) (l : Launch) (e : Env) (R : Room) (s : State) (m : MethodId) (args : Array Value) (below : List Frame) (meth : Method) (c : Code) (H : Heap) (locs : List Loc) (cells slots : Nat) (pc : Nat) (ls : Array Slot) (rest As : List Value) (mc ms : Nat) (Pc : Array Value → State → Prop) (Qc : Array Value → State → Outcome → State → Prop) (XC : Nat → String → State → State → Prop) (free : Addr → Prop) (rm : Room),
    p.tables.exec = Jvm.exec → c.maxLocals = ls.size → s.vm.findClass own = some m.cls → (∀ w ∈ lw_all, w.before args s = true) → Wd G s → rm.cells = mc → rm.slots = ms → rm.frames + 1 ≤ R.frames → 8 + (jm.2.2.1 + 11) + rm.locals ≤ R.locals → vx_Met l jm.1 (wsM jm) rm Pc Qc XC mc ms free → FrameBlind Pc → (∀ U : State, U.heap = H → s.WarmedH U.vm → Pc As.toArray U) →
    (∀ C, rc = some C → ∃ (b : Nat) (As' : List Value) (cellB : Cell), As = .ref b :: As' ∧ H[b]? = some cellB ∧ cellB.vm.isStatics = false ∧ s.vm.findClass C = some cellB.cls) → As.length = k → 2 * 0 + (rest.map fun v => v.category).sum ≤ 8 → decode c.code pc = .ok (ins, len) → cells + mc ≤ R.cells ∧ slots + ms ≤ R.slots →
    vx_RunG len p l e R s m args below meth c H locs cells slots mc ms (F0 m pc ls (As.reverse ++ rest)) rest (Qc As.toArray) XC free
/-- the callee's own words: initialised, its code, no handle, how many parameters -/
def cbk (jm : MI) (n : Nat) : Prop := Cond.initialized jm.1.cls ∈ lw_all ∧ jm.2.2.2.2 = [] ∧ Cond.code jm.1 jm.2.1 jm.2.2.1 jm.2.2.2.1 ∈ lw_all ∧ (jm.1.cls ≠ "java/lang/invoke/MethodHandle" ∧ jm.1.cls ≠ "java/lang/invoke/VarHandle") ∧ (parseMethodDescriptor jm.1.desc).map (fun d => d.parameters.length) = some n
def cbkH (jm : MI) (n : Nat) : Prop := Cond.initialized jm.1.cls ∈ lw_all ∧ jm.2.2.2.2 ≠ [] ∧ Cond.codeWith jm.1 jm.2.1 jm.2.2.1 jm.2.2.2.1 jm.2.2.2.2 ∈ lw_all ∧ (jm.1.cls ≠ "java/lang/invoke/MethodHandle" ∧ jm.1.cls ≠ "java/lang/invoke/VarHandle") ∧ (parseMethodDescriptor jm.1.desc).map (fun d => d.parameters.length) = some n
theorem cb_len {y : MethodName} {n : Nat} (h : (parseMethodDescriptor y.desc).map (fun d => d.parameters.length) = some n) : ∀ sig, parseMethodDescriptor y.desc = some sig → n = sig.parameters.length := by
  intro sig hs
  rw [hs] at h
  exact (Option.some.inj h).symm
theorem wsM_nil {jm : MI} (h : jm.2.2.2.2 = []) : wsM jm = ws_ jm.1 jm.2.1 jm.2.2.1 jm.2.2.2.1 := by
  unfold wsM
  split
  · rfl
  · rename_i hh
    exact absurd h hh
theorem wsM_cons {jm : MI} (h : jm.2.2.2.2 ≠ []) : wsM jm = wsW_ jm.1 jm.2.1 jm.2.2.1 jm.2.2.2.1 jm.2.2.2.2 := by
  unfold wsM
  split
  · rename_i hh
    exact absurd hh h
  · rfl
section LK
variable {G : GW} {s : State} {args : Array Value}
theorem ws_warm {jm : MI} (hts : ∀ w ∈ lw_all, w.before args s = true) (hj : jm.2.2.2.2 = []) (hc : Cond.code jm.1 jm.2.1 jm.2.2.1 jm.2.2.2.1 ∈ lw_all) : ∀ w ∈ wsM jm, ∀ (a' : Array Value) (U : State), s.WarmedH U.vm → w.before a' U = true := by
  rw [wsM_nil hj]
  exact pay_in hts (lw_meth hc)
theorem ws_warmH {jm : MI} (hts : ∀ w ∈ lw_all, w.before args s = true) (hj : jm.2.2.2.2 ≠ []) (hc : Cond.codeWith jm.1 jm.2.1 jm.2.2.1 jm.2.2.2.1 jm.2.2.2.2 ∈ lw_all) : ∀ w ∈ wsM jm, ∀ (a' : Array Value) (U : State), s.WarmedH U.vm → w.before a' U = true := by
  rw [wsM_cons hj]
  exact pay_in hts (lw_methW hc)
theorem LK_V {own C : String} {idx n : Nat} {jm : MI} (h : cbk jm n) (h1 : Cond.methodLink own idx jm.1 ∈ lw_all) (h2 : Cond.instanceMethod jm.1 ∈ lw_all) (h3 : Cond.selects C jm.1 jm.1 ∈ lw_all) : LKs G (.invokevirtual idx) 3 own jm (n + 1) (some C) := by
  intro p l e R s m args below meth c H locs cells slots pc ls rest As mc ms Pc Qc XC free rm hx hml hown hts hN hrc hrs hfr hlo hM hbl hPc hrcv hlen hW hdg hf
  obtain ⟨b, As', cellB, rfl, r1, r2, r3⟩ := hrcv C rfl
  have hc1 : Cond.code jm.1 jm.2.1 jm.2.2.1 jm.2.2.2.1 ∈ wsM jm := by rw [wsM_nil h.2.1]; exact List.mem_cons_self
  have := vx_runV (cells := cells) (slots := slots) (locs := locs) (below := below) (meth := meth) (e := e) ⟨hx, rfl, rfl, hown, hts⟩ hM ⟨⟨hrc, hrs, hfr, hlo, ws_warm hts h.2.1 h.2.2.1, hc1, hts _ h.2.2.1, hts _ h.1, h.2.2.2.1, cb_len h.2.2.2.2, hts _ h1⟩, hts _ h2, hts _ h3⟩ ⟨hbl, ⟨cellB, r1, r2, r3⟩, hPc⟩ (g := F0 m pc ls ((Value.ref b :: As').reverse ++ rest)) rfl (by simpa using hlen) hml.symm (rest := rest) (by simp) hW hdg hf
  exact this
theorem LK_S {own : String} {idx n : Nat} {jm : MI} (h : cbk jm n) (h1 : Cond.methodLink own idx jm.1 ∈ lw_all) (h2 : Cond.static jm.1 ∈ lw_all) : LKs G (.invokestatic idx) 3 own jm n none := by
  intro p l e R s m args below meth c H locs cells slots pc ls rest As mc ms Pc Qc XC free rm hx hml hown hts hN hrc hrs hfr hlo hM hbl hPc hrcv hlen hW hdg hf
  have hc1 : Cond.code jm.1 jm.2.1 jm.2.2.1 jm.2.2.2.1 ∈ wsM jm := by rw [wsM_nil h.2.1]; exact List.mem_cons_self
  have := vx_runS (cells := cells) (slots := slots) (locs := locs) (below := below) (meth := meth) (e := e) ⟨hx, rfl, rfl, hown, hts⟩ hM ⟨⟨hrc, hrs, hfr, hlo, ws_warm hts h.2.1 h.2.2.1, hc1, hts _ h.2.2.1, hts _ h.1, h.2.2.2.1, cb_len h.2.2.2.2, hts _ h1⟩, hts _ h2⟩ ⟨hbl, hPc⟩ (g := F0 m pc ls (As.reverse ++ rest)) rfl hlen hml.symm (rest := rest) rfl hW hdg hf
  exact this
theorem LK_I {own C : String} {idx n : Nat} {jm : MI} (h : cbk jm n) (hr : jm.2.2.2.1 = none) (h1 : Cond.methodLink own idx jm.1 ∈ lw_all) (h2 : Cond.instanceMethod jm.1 ∈ lw_all) (h3 : jm.1.name = "<init>") : LKs G (.invokespecial idx) 3 own jm (n + 1) (some C) := by
  intro p l e R s m args below meth c H locs cells slots pc ls rest As mc ms Pc Qc XC free rm hx hml hown hts hN hrc hrs hfr hlo hM hbl hPc hrcv hlen hW hdg hf
  obtain ⟨b, As', cellB, rfl, r1, r2, r3⟩ := hrcv C rfl
  have hc1 : Cond.code jm.1 jm.2.1 jm.2.2.1 none ∈ wsM jm := by rw [wsM_nil h.2.1, ← hr]; exact List.mem_cons_self
  have := vx_runI (cells := cells) (slots := slots) (locs := locs) (below := below) (meth := meth) (e := e) ⟨hx, rfl, rfl, hown, hts⟩ hM ⟨⟨hrc, hrs, hfr, hlo, ws_warm hts h.2.1 h.2.2.1, hc1, hts _ (hr ▸ h.2.2.1), hts _ h.1, h.2.2.2.1, cb_len h.2.2.2.2, hts _ h1⟩, h3, hts _ h2⟩ ⟨hbl, hPc⟩ (g := F0 m pc ls ((Value.ref b :: As').reverse ++ rest)) rfl (by simpa using hlen) hml.symm (rest := rest) (by simp) hW hdg hf
  exact this
theorem LK_VN {own C host : String} {idx n : Nat} {jm : MI} (h : cbk jm n) (h1 : Cond.methodLinkNest own idx jm.1 host ∈ lw_tbl) (h2 : Cond.instanceMethod jm.1 ∈ lw_all) (h3 : Cond.selects C jm.1 jm.1 ∈ lw_all) : LKs G (.invokevirtual idx) 3 own jm (n + 1) (some C) := by
  intro p l e R s m args below meth c H locs cells slots pc ls rest As mc ms Pc Qc XC free rm hx hml hown hts hN hrc hrs hfr hlo hM hbl hPc hrcv hlen hW hdg hf
  obtain ⟨b, As', cellB, rfl, r1, r2, r3⟩ := hrcv C rfl
  have hc1 : Cond.code jm.1 jm.2.1 jm.2.2.1 jm.2.2.2.1 ∈ wsM jm := by rw [wsM_nil h.2.1]; exact List.mem_cons_self
  have := vx_runVN (cells := cells) (slots := slots) (locs := locs) (below := below) (meth := meth) (e := e) ⟨hx, rfl, rfl, hown, hts⟩ hM ⟨⟨⟨hrc, hrs, hfr, hlo, ws_warm hts h.2.1 h.2.2.1, hc1⟩, hts _ h.2.2.1, hts _ h.1, h.2.2.2.1, cb_len h.2.2.2.2, va_Nw.use rfl (hN.2.1 _ h1 rfl)⟩, hts _ h2, hts _ h3⟩ ⟨hbl, ⟨cellB, r1, r2, r3⟩, hPc⟩ (g := F0 m pc ls ((Value.ref b :: As').reverse ++ rest)) rfl (by simpa using hlen) hml.symm (rest := rest) (by simp) hW hdg hf
  exact this
theorem LK_SN {own host : String} {idx n : Nat} {jm : MI} (h : cbk jm n) (h1 : Cond.methodLinkNest own idx jm.1 host ∈ lw_tbl) (h2 : Cond.static jm.1 ∈ lw_all) : LKs G (.invokestatic idx) 3 own jm n none := by
  intro p l e R s m args below meth c H locs cells slots pc ls rest As mc ms Pc Qc XC free rm hx hml hown hts hN hrc hrs hfr hlo hM hbl hPc hrcv hlen hW hdg hf
  have hc1 : Cond.code jm.1 jm.2.1 jm.2.2.1 jm.2.2.2.1 ∈ wsM jm := by rw [wsM_nil h.2.1]; exact List.mem_cons_self
  have := vx_runSN (cells := cells) (slots := slots) (locs := locs) (below := below) (meth := meth) (e := e) ⟨hx, rfl, rfl, hown, hts⟩ hM ⟨⟨⟨hrc, hrs, hfr, hlo, ws_warm hts h.2.1 h.2.2.1, hc1⟩, hts _ h.2.2.1, hts _ h.1, h.2.2.2.1, cb_len h.2.2.2.2, va_Nw.use rfl (hN.2.1 _ h1 rfl)⟩, hts _ h2, trivial⟩ ⟨hbl, hPc⟩ (g := F0 m pc ls (As.reverse ++ rest)) rfl hlen hml.symm (rest := rest) rfl hW hdg hf
  exact this
theorem LK_IN {own C host : String} {idx n : Nat} {jm : MI} (h : cbk jm n) (hr : jm.2.2.2.1 = none) (h1 : Cond.methodLinkNest own idx jm.1 host ∈ lw_tbl) (h2 : Cond.instanceMethod jm.1 ∈ lw_all) (h3 : jm.1.name = "<init>") : LKs G (.invokespecial idx) 3 own jm (n + 1) (some C) := by
  intro p l e R s m args below meth c H locs cells slots pc ls rest As mc ms Pc Qc XC free rm hx hml hown hts hN hrc hrs hfr hlo hM hbl hPc hrcv hlen hW hdg hf
  obtain ⟨b, As', cellB, rfl, r1, r2, r3⟩ := hrcv C rfl
  have hc1 : Cond.code jm.1 jm.2.1 jm.2.2.1 none ∈ wsM jm := by rw [wsM_nil h.2.1, ← hr]; exact List.mem_cons_self
  have := vx_runIN (cells := cells) (slots := slots) (locs := locs) (below := below) (meth := meth) (e := e) ⟨hx, rfl, rfl, hown, hts⟩ hM ⟨⟨⟨hrc, hrs, hfr, hlo, ws_warm hts h.2.1 h.2.2.1, hc1⟩, hts _ (hr ▸ h.2.2.1), hts _ h.1, h.2.2.2.1, cb_len h.2.2.2.2, va_Nw.use rfl (hN.2.1 _ h1 rfl)⟩, h3, hts _ h2⟩ ⟨hbl, hPc⟩ (g := F0 m pc ls ((Value.ref b :: As').reverse ++ rest)) rfl (by simpa using hlen) hml.symm (rest := rest) (by simp) hW hdg hf
  exact this
theorem LK_VX {own C : String} {idx n : Nat} {jm : MI} (h : cbkH jm n) (h1 : Cond.methodLink own idx jm.1 ∈ lw_all) (h2 : Cond.instanceMethod jm.1 ∈ lw_all) (h3 : Cond.selects C jm.1 jm.1 ∈ lw_all) : LKs G (.invokevirtual idx) 3 own jm (n + 1) (some C) := by
  intro p l e R s m args below meth c H locs cells slots pc ls rest As mc ms Pc Qc XC free rm hx hml hown hts hN hrc hrs hfr hlo hM hbl hPc hrcv hlen hW hdg hf
  obtain ⟨b, As', cellB, rfl, r1, r2, r3⟩ := hrcv C rfl
  have hc1 : Cond.codeWith jm.1 jm.2.1 jm.2.2.1 jm.2.2.2.1 jm.2.2.2.2 ∈ wsM jm := by rw [wsM_cons h.2.1]; exact List.mem_cons_self
  have := vx_runVX (cells := cells) (slots := slots) (locs := locs) (below := below) (meth := meth) (e := e) ⟨hx, rfl, rfl, hown, hts⟩ hM ⟨⟨hrc, hrs, hfr, hlo, ws_warmH hts h.2.1 h.2.2.1, hc1⟩, hts _ h.2.2.1, hts _ h.1, h.2.2.2.1, cb_len h.2.2.2.2, hts _ h1, hts _ h2, hts _ h3⟩ ⟨hbl, ⟨cellB, r1, r2, r3⟩, hPc⟩ (g := F0 m pc ls ((Value.ref b :: As').reverse ++ rest)) rfl (by simpa using hlen) hml.symm (rest := rest) (by simp) hW hdg hf
  exact this
theorem LK_SX {own : String} {idx n : Nat} {jm : MI} (h : cbkH jm n) (h1 : Cond.methodLink own idx jm.1 ∈ lw_all) (h2 : Cond.static jm.1 ∈ lw_all) : LKs G (.invokestatic idx) 3 own jm n none := by
  intro p l e R s m args below meth c H locs cells slots pc ls rest As mc ms Pc Qc XC free rm hx hml hown hts hN hrc hrs hfr hlo hM hbl hPc hrcv hlen hW hdg hf
  have hc1 : Cond.codeWith jm.1 jm.2.1 jm.2.2.1 jm.2.2.2.1 jm.2.2.2.2 ∈ wsM jm := by rw [wsM_cons h.2.1]; exact List.mem_cons_self
  have := vx_runSX (cells := cells) (slots := slots) (locs := locs) (below := below) (meth := meth) (e := e) ⟨hx, rfl, rfl, hown, hts⟩ hM ⟨⟨hrc, hrs, hfr, hlo, ws_warmH hts h.2.1 h.2.2.1, hc1⟩, hts _ h.2.2.1, hts _ h.1, h.2.2.2.1, cb_len h.2.2.2.2, hts _ h1, hts _ h2⟩ ⟨hbl, hPc⟩ (g := F0 m pc ls (As.reverse ++ rest)) rfl hlen hml.symm (rest := rest) rfl hW hdg hf
  exact this
theorem LK_F {own C : String} {idx cnt n : Nat} {jm : MI} (h : cbk jm n) (hm : (C, jm.1) ∈ fwTab) (h1 : Cond.methodLink own idx holdsN ∈ lw_all) (h2 : Cond.instanceMethod jm.1 ∈ lw_all) (h3 : Cond.selects C holdsN jm.1 ∈ lw_all) (hn : (parseMethodDescriptor holdsN.desc).map (fun d => d.parameters.length) = some n) (hat : ∃ (t : Nat) (T : u_T) (N : Nat), clG[t]? = some (C, T, N)) : LKs G (.invokeinterface idx cnt) 5 own jm (n + 1) (some C) := by
  intro p l e R s m args below meth c H locs cells slots pc ls rest As mc ms Pc Qc XC free rm hx hml hown hts hN hrc hrs hfr hlo hM hbl hPc hrcv hlen hW hdg hf
  obtain ⟨b, As', cellB, rfl, r1, r2, r3⟩ := hrcv C rfl
  have hc1 : Cond.code jm.1 jm.2.1 jm.2.2.1 jm.2.2.2.1 ∈ wsM jm := by rw [wsM_nil h.2.1]; exact List.mem_cons_self
  obtain ⟨t, T, N, ht⟩ := hat
  have hcl := (hN.1.1 t _ ht).2
  obtain ⟨f1, f2, f3, f4, f5⟩ := hN.2.2.2.2.2.2.2.2 _ hm
  have tr : ∀ {w : Cond}, w.onTables = true → w.before #[] s = true → w.before args s = true := fun hw h => va_Nw.use hw h
  have := vx_runF (count := cnt) (cells := cells) (slots := slots) (locs := locs) (below := below) (meth := meth) (e := e) hcl ⟨hx, rfl, rfl, hown, hts⟩ hM ⟨⟨hrc, hrs, hfr, hlo, ws_warm hts h.2.1 h.2.2.1, hc1⟩, hts _ h1, tr rfl f1, tr rfl f2, hts _ h3, hts _ h2, tr rfl f3, tr rfl f4, tr rfl f5, hts _ h.1, hts _ h.2.2.1, (by decide), cb_len hn⟩ ⟨hbl, ⟨cellB, r1, r2, r3⟩, hPc⟩ (g := F0 m pc ls ((Value.ref b :: As').reverse ++ rest)) rfl (by simpa using hlen) hml.symm (rest := rest) (by simp) hW hdg hf
  exact this
theorem LK_U {own C owner : String} {x : MethodName} {idx n : Nat} {jm : MI} (h : cbk jm n) (hx0 : owner ≠ "java/lang/invoke/MethodHandle" ∧ owner ≠ "java/lang/invoke/VarHandle") (hn : (parseMethodDescriptor x.desc).map (fun d => d.parameters.length) = some n) (h1 : Cond.methodLink own idx x ∈ lw_all) (h4 : Cond.sameMethod x.cls owner x.name x.desc ∈ lw_all) (h5 : Cond.declares ⟨owner, x.name, x.desc⟩ ∈ lw_tbl ∨ (Cond.instanceMethod ⟨owner, x.name, x.desc⟩ ∈ lw_all ∧ ∃ b m r, Cond.code ⟨owner, x.name, x.desc⟩ b m r ∈ lw_all)) (h2 : Cond.instanceMethod jm.1 ∈ lw_all) (h3 : Cond.selects C x jm.1 ∈ lw_all) : LKs G (.invokevirtual idx) 3 own jm (n + 1) (some C) := by
  intro p l e R s m args below meth c H locs cells slots pc ls rest As mc ms Pc Qc XC free rm hx hml hown hts hN hrc hrs hfr hlo hM hbl hPc hrcv hlen hW hdg hf
  obtain ⟨b, As', cellB, rfl, r1, r2, r3⟩ := hrcv C rfl
  have hc1 : Cond.code jm.1 jm.2.1 jm.2.2.1 jm.2.2.2.1 ∈ wsM jm := by rw [wsM_nil h.2.1]; exact List.mem_cons_self
  have hdc : va_Decl s ⟨owner, x.name, x.desc⟩ := by
    rcases h5 with h5 | ⟨h5, b, m', r, h6⟩
    · exact va_Decl.abs (hN.2.1 _ h5 rfl)
    · exact va_Decl.of (hts _ h5) (hts _ h6)
  have := vx_runU (cells := cells) (slots := slots) (locs := locs) (below := below) (meth := meth) (e := e) ⟨hx, rfl, rfl, hown, hts⟩ hM ⟨⟨hrc, hrs, hfr, hlo, ws_warm hts h.2.1 h.2.2.1, hc1⟩, hts _ h.2.2.1, hts _ h.1, hx0, cb_len hn, hts _ h1, hts _ h4, hdc, hts _ h3, hts _ h2⟩ ⟨hbl, ⟨cellB, r1, r2, r3⟩, hPc⟩ (g := F0 m pc ls ((Value.ref b :: As').reverse ++ rest)) rfl (by simpa using hlen) hml.symm (rest := rest) (by simp) hW hdg hf
  exact this
end LK
/-- thrown at pc: the cell a (-7: just any), of class E -/
def ThE (G : GW) (d : Nat) (j : MI) (pc : Nat) (L : LV) (a : Int) (E : String) (M : Mem) (r : Res) (M' : Mem) : Prop :=
  mnx M ≤ mnx M' ∧ mns M ≤ mns M' ∧ ∀ (p : Program) (e : Env) (R : Room) (s : State) (m : MethodId) (args : Array Value) (below : List Frame) (meth : Method) (c : Code) (H : Heap) (locs : List Loc) (cells slots : Nat) (ls : Array Slot) (rest : List Value) (q : Nat) (ce : Cell),
    Fr G d j p R s m args meth c → s.heap.size ≤ H.size → Rp G M H → okLoc G locs → lrep G ls j.2.2.1 L → cells + (mnx M' - mnx M) ≤ R.cells → slots + (mns M' - mns M) ≤ R.slots → (0 ≤ a → q = gB G + a.toNat) → H[q]? = some ce → ce.vm = .none → s.vm.findClass E = some ce.cls →
    vx_W p (gl G) e R s m args below meth c H locs cells slots (PQ G r M' below args s (cells + (mnx M' - mnx M)) (slots + (mns M' - mns M))) (F0 m pc ls rest) q
def ThW (G : GW) (d : Nat) (j : MI) (pc : Nat) (L : LV) (a : Int) (E : String) (M : Mem) (Q : Res → Mem → Prop) : Prop := ∃ (r : Res) (M' : Mem), Q r M' ∧ ThE G d j pc L a E M r M'
section TH
variable {G : GW} {d : Nat} {j : MI} {pc : Nat} {L : LV} {S : List DV} {M : Mem} {Q : Res → Mem → Prop} {a : Int} {E : String}
/-- a handler's entry passes this class -/
def passH (own E : String) (pc : Nat) (z : Nat × Nat × Nat × Nat) : Prop := covers ⟨z.1, z.2.1, z.2.2.1, z.2.2.2⟩ pc = false ∨ (z.2.2.2 ≠ 0 ∧ ∃ nm : String, Cond.classLink own z.2.2.2 nm ∈ lw_all ∧ (E, nm) ∈ ncTab)
theorem pass_ok {s : State} {args : Array Value} {own : String} {hh : List (Nat × Nat × Nat × Nat)} (hW : Wd G s) (hts : ∀ w ∈ lw_all, w.before args s = true) (h : ∀ z ∈ hh, passH own E pc z) : ∀ z ∈ tableOf hh, covers z pc = false ∨ (z.catchType ≠ 0 ∧ ∃ nm : String, (Cond.classLink own z.catchType nm).before args s = true ∧ va_Nc E nm s) := by
  intro z hz
  obtain ⟨y, hy, rfl⟩ := List.mem_map.mp hz
  rcases h y hy with h | ⟨h1, nm, h2, h3⟩
  · exact Or.inl h
  · exact Or.inr ⟨h1, nm, hts _ h2, hW.2.2.2.2.2.2.2.1 _ h3⟩
theorem th_out (hp : ∀ z ∈ j.2.2.2.2, passH j.1.cls E pc z) (hq : Q (rT a E) M) : ThW G d j pc L a E M Q := by
  refine ⟨rT a E, M, hq, Nat.le_refl _, Nat.le_refl _, fun p e R s m args below meth c H locs cells slots ls rest q ce F hs hR hl hL hc hk hqa hce hv hcl => ?_⟩
  simp only [Nat.sub_self, Nat.add_zero]
  have htab : c.exceptionTable.toList = tableOf j.2.2.2.2 := F.2.2.2.2.2.2.2.2.2.1
  exact vx_outP F.own F.lk (by rw [htab]; exact pass_ok F.W F.ts hp) hce hv hcl (fun t ht hv => ⟨a, rfl, hqa, by rw [ht]; exact hR, by rw [ht]; exact hs⟩) hl (Nat.le_refl _) (Nat.le_refl _)
theorem th_nil (hp : j.2.2.2.2 = []) (hq : Q (rT a E) M) : ThW G d j pc L a E M Q := th_out (fun z hz => by rw [hp] at hz; cases hz) hq
theorem th_catch {name : String} {pre suf : List (Nat × Nat × Nat × Nat)} {x : Nat × Nat × Nat × Nat} (h0 : 0 ≤ a) (hsp : j.2.2.2.2 = pre ++ x :: suf) (hp : ∀ z ∈ pre, passH j.1.cls E pc z) (hx : covers ⟨x.1, x.2.1, x.2.2.1, x.2.2.2⟩ pc = true) (hx0 : x.2.2.2 ≠ 0) (hlk : Cond.classLink j.1.cls x.2.2.2 name ∈ lw_all) (hca : Cond.castable E name ∈ lw_tbl) (k : WP G d j x.2.2.1 L [dR a] M Q) : ThW G d j pc L a E M Q := by
  obtain ⟨r, M', hq, k1, k2, k⟩ := k
  refine ⟨r, M', hq, k1, k2, fun p e R s m args below meth c H locs cells slots ls rest q ce F hs hR hl hL hc hk hqa hce hv hcl => ?_⟩
  have htab : c.exceptionTable.toList = tableOf pre ++ ⟨x.1, x.2.1, x.2.2.1, x.2.2.2⟩ :: tableOf suf := by
    rw [F.2.2.2.2.2.2.2.2.2.1, hsp]
    simp [tableOf]
  refine vx_catch F.own (tableOf pre) ⟨x.1, x.2.1, x.2.2.1, x.2.2.2⟩ (tableOf suf) htab (pass_ok F.W F.ts hp) hx hx0 (F.ts _ hlk) (va_Nw.use rfl (F.W.2.1 _ hca rfl)) hce hv hcl ?_
  have k3 := k p e R s m args below meth c H locs cells slots ls F hs hR hl hL (okS_cons (show okV (dR a) from trivial) okS_nil) hc hk
  rw [List.map_cons, tv_r G h0, ← hqa h0] at k3
  exact k3
/-- a handler that lays what it caught aside, into the local i -/
theorem th_catchX {name : String} {pre suf : List (Nat × Nat × Nat × Nat)} {x : Nat × Nat × Nat × Nat} {n : Fin 4} (hsp : j.2.2.2.2 = pre ++ x :: suf) (hp : ∀ z ∈ pre, passH j.1.cls E pc z) (hx : covers ⟨x.1, x.2.1, x.2.2.1, x.2.2.2⟩ pc = true) (hx0 : x.2.2.2 ≠ 0) (hlk : Cond.classLink j.1.cls x.2.2.2 name ∈ lw_all) (hca : Cond.castable E name ∈ lw_tbl) (hd : decode j.2.1 x.2.2.1 = .ok (.astore_n n, 1)) (hn : (n : Nat) < j.2.2.1) (k : WP G d j (x.2.2.1 + 1) [] [] M Q) : ThW G d j pc L a E M Q := by
  obtain ⟨r, M', hq, k1, k2, k⟩ := k
  refine ⟨r, M', hq, k1, k2, fun p e R s m args below meth c H locs cells slots ls rest q ce F hs hR hl hL hc hk hqa hce hv hcl => ?_⟩
  have htab : c.exceptionTable.toList = tableOf pre ++ ⟨x.1, x.2.1, x.2.2.1, x.2.2.2⟩ :: tableOf suf := by
    rw [F.2.2.2.2.2.2.2.2.2.1, hsp]
    simp [tableOf]
  refine vx_catch F.own (tableOf pre) ⟨x.1, x.2.1, x.2.2.1, x.2.2.2⟩ (tableOf suf) htab (pass_ok F.W F.ts hp) hx hx0 (F.ts _ hlk) (va_Nw.use rfl (F.W.2.1 _ hca rfl)) hce hv hcl ?_
  exact lv_astore_n F.1 F.2.1 hd rfl hL.1 hn rfl fun ls' h => k p e R s m args below meth c H locs cells slots ls' F hs hR hl ⟨⟨h.1, h.2.1, fun q hq => nomatch hq⟩, fun v hv => nomatch hv⟩ okS_nil hc hk
theorem x_athrowH {t : Nat} {n : Int} {T : u_T} {N : Nat} (hs : msh M a = some (t, n)) (hc : clG[t]? = some (E, T, N)) (hd : decode j.2.1 pc = .ok (.athrow, 1)) (k : ThW G d j pc L a E M Q) : WP G d j pc L (dR a :: S) M Q := by
  obtain ⟨r, M', hq, k1, k2, k⟩ := k
  refine ⟨r, M', hq, k1, k2, fun p e R s m args below meth c H locs cells slots ls F hs' hR hl hL hS hcc hk => ?_⟩
  obtain ⟨h0, h1, cell, q1, q2, q3, q4⟩ := hR.ob F.W hs hc
  rw [List.map_cons, tv_r G h0]
  exact vx_athrow F.1 F.2.1 hd (k p e R s m args below meth c H locs cells slots ls _ _ cell F hs' hR hl hL hcc hk (fun _ => rfl) q1 q3 ((F.W.1.1 t _ hc).2.1.trans (by rw [q2])))
end TH
/-- the receiver of a call -/
def rcv (M : Mem) (C : String) (vs : List DV) : Prop := ∃ (a : Int) (vs' : List DV), vs = dR a :: vs' ∧ ((∃ (t : Nat) (n : Int) (T : u_T) (N : Nat), msh M a = some (t, n) ∧ clG[t]? = some (C, T, N)) ∨ (a < 0 ∧ C = "java/lang/String" ∧ ∃ n, msh M a = some (99, n)))
theorem rcv.use {G : GW} {M : Mem} {H : Heap} {s : State} {C : String} {vs : List DV} (hW : Wd G s) (hR : Rp G M H) (h : rcv M C vs) : ∃ (b : Nat) (As' : List Value) (cellB : Cell), vs.map (tv G) = .ref b :: As' ∧ H[b]? = some cellB ∧ cellB.vm.isStatics = false ∧ s.vm.findClass C = some cellB.cls := by
  obtain ⟨a, vs', rfl, h⟩ := h
  rcases h with ⟨t, n, T, N, h1, h2⟩ | ⟨h0, rfl, n, h1⟩
  · obtain ⟨h0, h3, cell, q1, q2, q3, q4⟩ := hR.ob hW h1 h2
    exact ⟨_, _, cell, by rw [List.map_cons, tv_r G h0], q1, by rw [q3]; rfl, (hW.1.1 t _ h2).2.1.trans (by rw [q2])⟩
  · have ho := hR.old h0
    rw [ho.1] at h1
    obtain ⟨-, -, h, -⟩ := hW.2.2.2.1.2 a 99 n h0 h1
    obtain ⟨q, a1, a2, ⟨cell, b1, b2, b3⟩, -⟩ := h rfl
    exact ⟨q, _, cell, by rw [List.map_cons, adv_old h0 a1], by rw [hR.2.2.2.2.1 q a2]; exact b1, b2, b3⟩
/-- a call -/
theorem x_call {G : GW} {d d' len k : Nat} {j jm : MI} {pc : Nat} {L : LV} {S St : List DV} {M : Mem} {Q Q' : Res → Mem → Prop} {vs : List DV} {ins : Instr} {rc : Option String} (hst : St = vs.reverse ++ S) (hd : decode j.2.1 pc = .ok (ins, len)) (hl : LKs G ins len j.1.cls jm k rc) (hdp : d' + 1 ≤ d) (hmx : jm.2.2.1 ≤ 45) (hk : vs.length = k) (hS0 : S.length ≤ 4) (hrc : ∀ C, rc = some C → rcv M C vs) (hcs : CS G d' jm vs M Q')
    (hret : ∀ v M1, Q' (.inl v) M1 → WP G d j (pc + len) L (v.toList ++ S) M1 Q) (hthr : ∀ a E M1, Q' (.inr (a, E)) M1 → ThW G d j pc L a E M1 Q) : WP G d j pc L St M Q := by
  subst hst
  obtain ⟨r1, M1, q1, c1, c2, hMet⟩ := hcs
  have run : ∀ (p : Program) (e : Env) (R : Room) (s : State) (m : MethodId) (args : Array Value) (below : List Frame) (meth : Method) (c : Code) (H : Heap) (locs : List Loc) (cells slots : Nat) (ls : Array Slot), Fr G d j p R s m args meth c → Rp G M H → lrep G ls j.2.2.1 L → okS (vs.reverse ++ S) → cells + (mnx M1 - mnx M) ≤ R.cells → slots + (mns M1 - mns M) ≤ R.slots →
      vx_RunG len p (gl G) e R s m args below meth c H locs cells slots (mnx M1 - mnx M) (mns M1 - mns M) (F0 m pc ls ((vs.reverse ++ S).map (tv G))) (S.map (tv G)) (Qret G r1 M1 (vs.map (tv G)).toArray) (Qthr G r1 M1) (frG G) := by
    intro p e R s m args below meth c H locs cells slots ls F hR hL hS hc hk2
    have hvs : okS vs := fun v hv => hS v (List.mem_append_left _ (List.mem_reverse.mpr hv))
    have hcat : ∀ S : List DV, ((S.map (tv G)).map fun v => v.category).sum ≤ 2 * S.length := by
      intro S
      induction S with
      | nil => simp
      | cons v S ih =>
        have hc := tv_cat F.W v
        simp only [List.map_cons, List.sum_cons, List.length_cons]
        split at hc <;> omega
    have hcS := hcat S
    have hfr : d ≤ R.frames := F.2.2.2.2.2.2.2.2.2.2.1
    have hlo9 : 64 * d ≤ R.locals := F.2.2.2.2.2.2.2.2.2.2.2.1
    have h := hl p (gl G) e R s m args below meth c H locs cells slots pc ls (S.map (tv G)) (vs.map (tv G)) _ _ _ _ _ _ _ F.1 (by rw [F.2.2.2.2.1]; exact hL.1.1.symm) F.own F.ts F.W rfl rfl (by show d' + 1 ≤ R.frames; omega) (by show 8 + (jm.2.2.1 + 11) + 64 * d' ≤ R.locals; omega) (hMet hvs) (fun a U g mk hp => ⟨hp.1, Wd.same (s := U) (U := U.calling g mk a) rfl hp.2.1, hp.2.2⟩) (fun U hU hW => ⟨rfl, F.W.warm hW, by rw [hU]; exact hR⟩) (fun C hC => rcv.use F.W hR (hrc C hC)) (by simpa using hk) (by omega) (by rw [F.2.1]; exact hd) ⟨hc, hk2⟩
    rw [List.map_append, List.map_reverse]
    exact h
  rcases r1 with v | ⟨a, E⟩
  · obtain ⟨r, M', q, e1, e2, ke⟩ := hret v M1 q1
    refine ⟨r, M', q, Nat.le_trans c1 e1, Nat.le_trans c2 e2, fun p e R s m args below meth c H locs cells slots ls F hs hR hlo hL hS hc hk2 => ?_⟩
    intro T hT X
    rcases run p e R s m args below meth c H locs cells slots ls F hR hL hS (by omega) (by omega) T hT X with ⟨v', st0, t, T', Lc, g1, X', g2, g3, g4, ⟨v2, hv2, ho, hok, hR1, hz⟩, go⟩ | ⟨q, st0, t, T', Lc, E, ce, g1, X', g2, g3, g4, ⟨a, ha, -⟩, -⟩
    · cases hv2
      have hvv : v' = v.map (tv G) := Outcome.returned.inj ho
      subst hvv
      have hSs : okS S := fun w hw => hS w (List.mem_append_right _ hw)
      have hS1 : okS (v.toList ++ S) := by
        intro w hw
        rcases List.mem_append.mp hw with h | h
        · cases v with
          | none => cases h
          | some x => rw [List.mem_singleton.mp h]; exact hok x rfl
        · exact hSs w h
      have kk := ke p e R s m args below meth c T'.heap (locs ++ Lc) (cells + (mnx M1 - mnx M)) (slots + (mns M1 - mns M)) ls F (by rw [g3]; rw [g1] at hz; omega) (by rw [g3]; exact hR1) (fun z hz => by
        rcases List.mem_append.mp hz with h | h
        · exact hlo z h
        · exact g2 z h) hL hS1 (by omega) (by omega)
      have e3 : cells + (mnx M1 - mnx M) + (mnx M' - mnx M1) = cells + (mnx M' - mnx M) := by omega
      have e4 : slots + (mns M1 - mns M) + (mns M' - mns M1) = slots + (mns M' - mns M) := by omega
      rw [e3, e4] at kk
      obtain ⟨t2, st2, hQ⟩ := kk T' rfl X'
      refine ⟨t2, go _ ?_, hQ⟩
      have e5 : (v.toList ++ S).map (tv G) = (v.map (tv G)).toList ++ S.map (tv G) := by cases v <;> rfl
      rw [e5] at st2
      exact st2
    · cases ha
  · obtain ⟨r, M', q, e1, e2, ke⟩ := hthr a E M1 q1
    refine ⟨r, M', q, Nat.le_trans c1 e1, Nat.le_trans c2 e2, fun p e R s m args below meth c H locs cells slots ls F hs hR hlo hL hS hc hk2 => ?_⟩
    intro T hT X
    rcases run p e R s m args below meth c H locs cells slots ls F hR hL hS (by omega) (by omega) T hT X with ⟨v', st0, t, T', Lc, g1, X', g2, g3, g4, ⟨v2, hv2, -⟩, go⟩ | ⟨q9, st0, t, T', Lc, E9, ce, g1, X', g2, g3, g4, ⟨a9, ha, hqa, hR1, hz⟩, f1, f2, f3, go⟩
    · cases hv2
    · cases ha
      have kk := ke p e R s m args below meth c T'.heap (locs ++ Lc) (cells + (mnx M1 - mnx M)) (slots + (mns M1 - mns M)) ls (S.map (tv G)) q9 ce F (by rw [g3]; rw [g1] at hz; omega) (by rw [g3]; exact hR1) (fun z hz => by
        rcases List.mem_append.mp hz with h | h
        · exact hlo z h
        · exact g2 z h) hL (by omega) (by omega) hqa (by rw [g3]; exact f1) f2 f3
      have e3 : cells + (mnx M1 - mnx M) + (mnx M' - mnx M1) = cells + (mnx M' - mnx M) := by omega
      have e4 : slots + (mns M1 - mns M) + (mns M' - mns M1) = slots + (mns M' - mns M) := by omega
      rw [e3, e4] at kk
      obtain ⟨t2, st2, hQ⟩ := kk T' rfl X'
      exact ⟨t2, go.trans st2, hQ⟩
