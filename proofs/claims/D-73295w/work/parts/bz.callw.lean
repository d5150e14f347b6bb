/-! a call above five values of the stack -/
section Runs
variable {p : Program} {l : Launch} {e : Env} {R : Room} {s : State} {m : MethodId} {args : Array Value} {below : List Frame} {meth : Method} {c : Code} {H : Heap} {locs : List Loc} {cells slots : Nat}
variable {y : MethodName} {bytes cc : ByteArray} {maxL nL mc ms n index : Nat} {ret : Option FieldType} {ws : List Cond} {rm : Room} {Pc : Array Value → State → Prop} {Qc : Array Value → State → Outcome → State → Prop} {XC : Nat → String → State → State → Prop} {free : Addr → Prop} {Ts : List Cond} {own C : String} {b : Addr} {As rest : List Value} {g : JFrame}
theorem vx_callBack12 (hl12 : 12 + (maxL + 11) + rm.locals ≤ R.locals) (cb : CallB R s args own index y bytes maxL ret ws rm mc ms n) (hM : vx_Met l y ws rm Pc Qc XC mc ms free) (hbl : FrameBlind Pc) : vx_Back l R p e below s args y 3 12 (PreOf R mc ms Pc) (PostOf Qc mc ms free) (vx_Post XC mc ms free) := by
  obtain ⟨hrc, hrs, hfr, -, hws, hcw, -, hini, -⟩ := cb
  exact vx_back (bytes := bytes) (maxL := maxL) (ret := ret) hM hbl hrc hrs hfr hl12 hws hcw (fun a' U hW => word_at hW (Or.inl (by first | rfl | simp [Cond.onTables, Cond.keeps, Cond.steady])) hini)
theorem vx_runS12 (S : CallFix p m c cc nL s args Ts own) (hM : vx_Met l y ws rm Pc Qc XC mc ms free) (hl12 : 12 + (maxL + 11) + rm.locals ≤ R.locals) (cw : CallB R s args own index y bytes maxL ret ws rm mc ms n ∧ (Cond.static y).before args s = true) (hp : PreS s H Pc As)
    (hg : g.method = m) (hn : As.length = n) (hsize : g.locals.size = nL) (hstack : g.stack = As.reverse ++ rest) (hW : 2 * g.monitorRoom + (rest.map fun v => v.category).sum ≤ 12) (hdg : decode cc g.pc = .ok (.invokestatic index, 3)) (hf : cells + mc ≤ R.cells ∧ slots + ms ≤ R.slots) :
    vx_Run p l e R s m args below meth c H locs cells slots mc ms g rest (Qc As.toArray) XC free := by
  have hK : vx_Back l R p e below s args y 3 12 (PreOf R mc ms Pc) (PostOf Qc mc ms free) (vx_Post XC mc ms free) := vx_callBack12 hl12 cw.1 hM hp.1
  obtain ⟨⟨-, -, -, -, -, -, hcode, hini, hy, hlen, hl⟩, hstt⟩ := cw
  obtain ⟨hx, hb, hml, ho, -⟩ := S
  intro T hT X
  rcases vx_callS X hx (bytes := bytes) (maxL := maxL) (ret := ret) ho hl hstt hini hcode hy hK hg (hsize.trans hml.symm) (argsL := As) (rest := rest) (fun sig h => hn.trans (hlen sig h)) hstack hW (by rw [hb]; exact hdg)
    (fun vm₁ hW₁ => ⟨hf.1, hf.2, hp.2 (T.setVm vm₁) hT hW₁⟩) with ⟨v, vm₁, ⟨U', l2, c2, s2⟩, hW₁, X', ⟨g', mk, t, L, e1, e2, hq, h1, hL, h2, h3⟩, st⟩ | ⟨q, vm₁, ⟨U', l2, c2, s2⟩, hW₁, X', ⟨g', mk, t, L, E, ce, e1, e2, hq, hce, hcv, hcl, h1, hL, h2, h3⟩, st⟩
  · dsimp only [Pt.U, Pt.locs, Pt.cells, Pt.slots] at X' e1 e2 h1 h2 h3 st
    subst h1; subst h2; subst h3
    exact Or.inl ⟨v, (T.setVm vm₁).calling g' mk As.toArray, t, U', L, hT, X', hL, e1, e2, hq, st⟩
  · dsimp only [Pt.U, Pt.locs, Pt.cells, Pt.slots] at X' e1 e2 h1 h2 h3 st hcl
    subst h1; subst h2; subst h3
    exact Or.inr ⟨q, (T.setVm vm₁).calling g' mk As.toArray, t, U', L, E, ce, hT, X', hL, e1, e2, hq, hce, hcv, vx_cls hW₁ hcl, st⟩
end Runs
/-- what a call by this instruction asks: the receiver's class, if any; the number of its values -/
def LKsW (G : GW) (ins : Instr) (len : Nat) (own : String) (jm : MI) (k : Nat) (rc : Option String) : Prop :=
  ∀ (p : Program) (l : Launch) (e : Env) (R : Room) (s : State) (m : MethodId) (args : Array Value) (below : List Frame) (meth : Method) (c : Code) (H : Heap) (locs : List Loc) (cells slots : Nat) (pc : Nat) (ls : Array Slot) (rest As : List Value) (mc ms : Nat) (Pc : Array Value → State → Prop) (Qc : Array Value → State → Outcome → State → Prop) (XC : Nat → String → State → State → Prop) (free : Addr → Prop) (rm : Room),
    p.tables.exec = Jvm.exec → c.maxLocals = ls.size → s.vm.findClass own = some m.cls → (∀ w ∈ lw_all, w.before args s = true) → Wd G s → rm.cells = mc → rm.slots = ms → rm.frames + 1 ≤ R.frames → 12 + (jm.2.2.1 + 11) + rm.locals ≤ R.locals → vx_Met l jm.1 (wsM jm) rm Pc Qc XC mc ms free → FrameBlind Pc → (∀ U : State, U.heap = H → s.WarmedH U.vm → Pc As.toArray U) →
    (∀ C, rc = some C → ∃ (b : Nat) (As' : List Value) (cellB : Cell), As = .ref b :: As' ∧ H[b]? = some cellB ∧ cellB.vm.isStatics = false ∧ s.vm.findClass C = some cellB.cls) → As.length = k → 2 * 0 + (rest.map fun v => v.category).sum ≤ 12 → decode c.code pc = .ok (ins, len) → cells + mc ≤ R.cells ∧ slots + ms ≤ R.slots →
    vx_RunG len p l e R s m args below meth c H locs cells slots mc ms (F0 m pc ls (As.reverse ++ rest)) rest (Qc As.toArray) XC free
section LKW
variable {G : GW}
theorem LK_SW {own : String} {idx n : Nat} {jm : MI} (h : cbk jm n) (h1 : Cond.methodLink own idx jm.1 ∈ lw_all) (h2 : Cond.static jm.1 ∈ lw_all) : LKsW G (.invokestatic idx) 3 own jm n none := by
  intro p l e R s m args below meth c H locs cells slots pc ls rest As mc ms Pc Qc XC free rm hx hml hown hts hN hrc hrs hfr hlo hM hbl hPc hrcv hlen hW hdg hf
  have hc1 : Cond.code jm.1 jm.2.1 jm.2.2.1 jm.2.2.2.1 ∈ wsM jm := by rw [wsM_nil h.2.1]; exact List.mem_cons_self
  have := vx_runS12 (cells := cells) (slots := slots) (locs := locs) (below := below) (meth := meth) (e := e) ⟨hx, rfl, rfl, hown, hts⟩ hM hlo ⟨⟨hrc, hrs, hfr, by omega, ws_warm hts h.2.1 h.2.2.1, hc1, hts _ h.2.2.1, hts _ h.1, h.2.2.2.1, cb_len h.2.2.2.2, hts _ h1⟩, hts _ h2⟩ ⟨hbl, hPc⟩ (g := F0 m pc ls (As.reverse ++ rest)) rfl hlen hml.symm (rest := rest) rfl hW hdg hf
  exact this
theorem kX1_403W : LKsW G (.invokestatic 403) 3 RX1 mX1_stretch 2 none := LK_SW ⟨q152, rfl, q863, by decide, by decide +kernel⟩ q861 q862
end LKW
/-- a call above more of the stack -/
theorem x_callW {G : GW} {d d' len k : Nat} {j jm : MI} {pc : Nat} {L : LV} {S St : List DV} {M : Mem} {Q Q' : Res → Mem → Prop} {vs : List DV} {ins : Instr} {rc : Option String} (hst : St = vs.reverse ++ S) (hd : decode j.2.1 pc = .ok (ins, len)) (hl : LKsW G ins len j.1.cls jm k rc) (hdp : d' + 1 ≤ d) (hmx : jm.2.2.1 ≤ 41) (hk : vs.length = k) (hS0 : S.length ≤ 6) (hrc : ∀ C, rc = some C → rcv M C vs) (hcs : CS G d' jm vs M Q')
    (hret : ∀ v M1, Q' (.inl v) M1 → WP G d j (pc + len) L (v.toList ++ S) M1 Q) (hthr : ∀ a E M1, Q' (.inr (a, E)) M1 → ThW G d j pc L a E M1 Q) : WP G d j pc L St M Q := by
  subst hst
  obtain ⟨r1, M1, q1, c1, c2, hMet⟩ := hcs
  have run : ∀ (p : Program) (e : Env) (R : Room) (s : State) (m : MethodId) (args : Array Value) (below : List Frame) (meth : Method) (c : Code) (H : Heap) (locs : List Loc) (cells slots : Nat) (ls : Array Slot), Fr G d j p R s m args meth c → Rp G M H → lrep G ls j.2.2.1 L → okS (vs.reverse ++ S) → cells + (mnx M1 - mnx M) ≤ R.cells → slots + (mns M1 - mns M) ≤ R.slots →
      vx_RunG len p (gl G) e R s m args below meth c H locs cells slots (mnx M1 - mnx M) (mns M1 - mns M) (F0 m pc ls ((vs.reverse ++ S).map (tv G))) (S.map (tv G)) (Qret G r1 M1 (vs.map (tv G)).toArray) (Qthr G r1 M1) (frG G) := by
    intro p e R s m args below meth c H locs cells slots ls F hR hL hS hc hk2
    have hvs : okS vs := fun v hv => hS v (List.mem_append_left _ (List.mem_reverse.mpr hv))
    have hcat : ∀ S : List DV, ((S.map (tv G)).map fun v => v.category).sum ≤ 2 * S.length := by
      intro S
      induction S with
      | nil => simp
      | cons v S ih =>
        have hc := tv_cat F.W v
        simp only [List.map_cons, List.sum_cons, List.length_cons]
        split at hc <;> omega
    have hcS := hcat S
    have hfr : d ≤ R.frames := F.2.2.2.2.2.2.2.2.2.2.1
    have hlo9 : 64 * d ≤ R.locals := F.2.2.2.2.2.2.2.2.2.2.2.1
    have h := hl p (gl G) e R s m args below meth c H locs cells slots pc ls (S.map (tv G)) (vs.map (tv G)) _ _ _ _ _ _ _ F.1 (by rw [F.2.2.2.2.1]; exact hL.1.1.symm) F.own F.ts F.W rfl rfl (by show d' + 1 ≤ R.frames; omega) (by show 12 + (jm.2.2.1 + 11) + 64 * d' ≤ R.locals; omega) (hMet hvs) (fun a U g mk hp => ⟨hp.1, Wd.same (s := U) (U := U.calling g mk a) rfl hp.2.1, hp.2.2⟩) (fun U hU hW => ⟨rfl, F.W.warm hW, by rw [hU]; exact hR⟩) (fun C hC => rcv.use F.W hR (hrc C hC)) (by simpa using hk) (by omega) (by rw [F.2.1]; exact hd) ⟨hc, hk2⟩
    rw [List.map_append, List.map_reverse]
    exact h
  rcases r1 with v | ⟨a, E⟩
  · obtain ⟨r, M', q, e1, e2, ke⟩ := hret v M1 q1
    refine ⟨r, M', q, Nat.le_trans c1 e1, Nat.le_trans c2 e2, fun p e R s m args below meth c H locs cells slots ls F hs hR hlo hL hS hc hk2 => ?_⟩
    intro T hT X
    rcases run p e R s m args below meth c H locs cells slots ls F hR hL hS (by omega) (by omega) T hT X with ⟨v', st0, t, T', Lc, g1, X', g2, g3, g4, ⟨v2, hv2, ho, hok, hR1, hz⟩, go⟩ | ⟨q, st0, t, T', Lc, E, ce, g1, X', g2, g3, g4, ⟨a, ha, -⟩, -⟩
    · cases hv2
      have hvv : v' = v.map (tv G) := Outcome.returned.inj ho
      subst hvv
      have hSs : okS S := fun w hw => hS w (List.mem_append_right _ hw)
      have hS1 : okS (v.toList ++ S) := by
        intro w hw
        rcases List.mem_append.mp hw with h | h
        · cases v with
          | none => cases h
          | some x => rw [List.mem_singleton.mp h]; exact hok x rfl
        · exact hSs w h
      have kk := ke p e R s m args below meth c T'.heap (locs ++ Lc) (cells + (mnx M1 - mnx M)) (slots + (mns M1 - mns M)) ls F (by rw [g3]; rw [g1] at hz; omega) (by rw [g3]; exact hR1) (fun z hz => by
        rcases List.mem_append.mp hz with h | h
        · exact hlo z h
        · exact g2 z h) hL hS1 (by omega) (by omega)
      have e3 : cells + (mnx M1 - mnx M) + (mnx M' - mnx M1) = cells + (mnx M' - mnx M) := by omega
      have e4 : slots + (mns M1 - mns M) + (mns M' - mns M1) = slots + (mns M' - mns M) := by omega
      rw [e3, e4] at kk
      obtain ⟨t2, st2, hQ⟩ := kk T' rfl X'
      refine ⟨t2, go _ ?_, hQ⟩
      have e5 : (v.toList ++ S).map (tv G) = (v.map (tv G)).toList ++ S.map (tv G) := by cases v <;> rfl
      rw [e5] at st2
      exact st2
    · cases ha
  · obtain ⟨r, M', q, e1, e2, ke⟩ := hthr a E M1 q1
    refine ⟨r, M', q, Nat.le_trans c1 e1, Nat.le_trans c2 e2, fun p e R s m args below meth c H locs cells slots ls F hs hR hlo hL hS hc hk2 => ?_⟩
    intro T hT X
    rcases run p e R s m args below meth c H locs cells slots ls F hR hL hS (by omega) (by omega) T hT X with ⟨v', st0, t, T', Lc, g1, X', g2, g3, g4, ⟨v2, hv2, -⟩, go⟩ | ⟨q9, st0, t, T', Lc, E9, ce, g1, X', g2, g3, g4, ⟨a9, ha, hqa, hR1, hz⟩, f1, f2, f3, go⟩
    · cases hv2
    · cases ha
      have kk := ke p e R s m args below meth c T'.heap (locs ++ Lc) (cells + (mnx M1 - mnx M)) (slots + (mns M1 - mns M)) ls (S.map (tv G)) q9 ce F (by rw [g3]; rw [g1] at hz; omega) (by rw [g3]; exact hR1) (fun z hz => by
        rcases List.mem_append.mp hz with h | h
        · exact hlo z h
        · exact g2 z h) hL (by omega) (by omega) hqa (by rw [g3]; exact f1) f2 f3
      have e3 : cells + (mnx M1 - mnx M) + (mnx M' - mnx M1) = cells + (mnx M' - mnx M) := by omega
      have e4 : slots + (mns M1 - mns M) + (mns M' - mns M1) = slots + (mns M' - mns M) := by omega
      rw [e3, e4] at kk
      obtain ⟨t2, st2, hQ⟩ := kk T' rfl X'
      exact ⟨t2, go.trans st2, hQ⟩

section GC
variable {G : GW} {d d' len k : Nat} {j jm : MI} {pc : Nat} {L : LV} {S St : List DV} {M : Mem} {Q : Res → Mem → Prop} {vs : List DV} {ins : Instr} {rc : Option String}
theorem g_callIW {P : Int → Mem → Prop} (hst : St = vs.reverse ++ S) (hcs : CS G d' jm vs M (postI P)) (hd : decode j.2.1 pc = .ok (ins, len)) (hl : LKsW G ins len j.1.cls jm k rc) (hdp : d' + 1 ≤ d) (hmx : jm.2.2.1 ≤ 41) (hk : vs.length = k) (hS0 : S.length ≤ 6) (hrc : ∀ C, rc = some C → rcv M C vs) (hret : ∀ x M1, P x M1 → WP G d j (pc + len) L (dI x :: S) M1 Q) : WP G d j pc L St M Q :=
  x_callW hst hd hl hdp hmx hk hS0 hrc hcs (fun v M1 h => by obtain ⟨x, e, h⟩ := h; cases e; exact hret x M1 h) (fun a E M1 h => by obtain ⟨x, e, h⟩ := h; cases e)
end GC
