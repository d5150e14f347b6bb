/-! METHODS of the library's classes: no row in the table of natives -/
section VXF
variable {l : Launch}
theorem vx_ofWF {y : MethodName} {ws ws' : List Cond} {rm : Room} {Pc : Array Value → State → Prop} {Qc : Array Value → State → Outcome → State → Prop} {XC : Nat → String → State → State → Prop} {mc ms : Nat} {free : Addr → Prop} {cc : ByteArray} {maxL : Nat} {ret : Option FieldType}
    (hy : plainFor y = true) (hw : ws = Cond.code y cc maxL ret :: ws')
    (body : ∀ p e s m args below meth c s₁, BodyLoose p l y (headSpec ws rm) cc maxL ret e s m args below meth c s₁ → c.maxLocals = maxL → (∀ x ∈ c.exceptionTable.toList, False) → Pc args s →
      W p l e (headSpec ws rm).room s m args below meth c s.heap [] 0 0 (vx_MQ below Qc XC args s mc ms free) (entryFrame m args maxL)) : vx_Met l y ws rm Pc Qc XC mc ms free := by
  refine MetFree.of_bodySF (code := cc) (maxLocals := maxL) (ret := ret) hy ?_ ?_
  · intro args s m h hn
    obtain ⟨meth, c, h1, h2, h3, h4, h5, h6, -, -⟩ := Cond.code_spec hn (atoms_spec (ws := ws) h _ (by rw [hw]; exact List.mem_cons_self))
    exact ⟨meth, c, h1, h2, h3, h4, h5, h6⟩
  · intro p e s m args below meth c s₁ B hml hP _
    have hh0 : s₁.heap = s.heap := by rw [B.state]; rfl
    have ht : ∀ x ∈ c.exceptionTable.toList, False := by
      obtain ⟨meth9, c9, h1, h2, -, -, -, -, h7, -⟩ := Cond.code_spec B.named (atoms_spec (ws := ws) B.pre _ (by rw [hw]; exact List.mem_cons_self))
      cases Option.some.inj (h1.symm.trans B.method)
      cases Option.some.inj (h2.symm.trans (Stand.of_body B).code)
      intro x hx
      rw [Array.isEmpty_iff.mp h7] at hx
      cases hx
    obtain ⟨t, a1, o, b1, b2, b3⟩ := body p e s m args below meth c s₁ B hml ht hP s₁ hh0 (Stand.of_body B)
    exact ⟨t, o, a1, b1, b2, b3⟩
end VXF
/-- a method's contract out of the walk from its entry -/
theorem CS.mkF {G : GW} {d : Nat} {j : MI} {vs : List DV} {M : Mem} {Q : Res → Mem → Prop} (hy : plainFor j.1 = true) (he : j.2.2.2.2 = []) (hn : (argL vs).length ≤ j.2.2.1) (k : WP G d j 0 (entL vs j.2.2.1) [] M Q) : CS G d j vs M Q := by
  obtain ⟨r, M', q, k1, k2, k⟩ := k
  refine ⟨r, M', q, k1, k2, fun hvs => ?_⟩
  have body : ∀ p e s m args below meth c s₁, BodyLoose p (gl G) j.1 (headSpec (wsM j) { frames := d, cells := mnx M' - mnx M, slots := mns M' - mns M, locals := 64 * d }) j.2.1 j.2.2.1 j.2.2.2.1 e s m args below meth c s₁ → c.maxLocals = j.2.2.1 → c.exceptionTable.toList = tableOf j.2.2.2.2 → PcM G vs M args s →
      W p (gl G) e (headSpec (wsM j) { frames := d, cells := mnx M' - mnx M, slots := mns M' - mns M, locals := 64 * d }).room s m args below meth c s.heap [] 0 0 (vx_MQ below (Qret G r M') (Qthr G r M') args s (mnx M' - mnx M) (mns M' - mns M) (frG G)) (entryFrame m args j.2.2.1) := by
    intro p e s m args below meth c s₁ B hml htab hP
    obtain ⟨rfl, hW, hR⟩ := hP
    have hts : ∀ w ∈ lw_all, w.before (vs.map (tv G)).toArray s = true := by
      have h0 := atoms_spec (ws := wsM j) B.pre
      intro w hw
      refine h0 w ?_
      unfold wsM
      split
      · exact List.mem_cons_of_mem _ hw
      · exact List.mem_cons_of_mem _ hw
    have F : Fr G d j p { frames := d, cells := mnx M' - mnx M, slots := mns M' - mns M, locals := 64 * d } s m (vs.map (tv G)).toArray meth c :=
      ⟨B.exec, B.bytes, B.returns, B.notSynchronized, hml, findClass_of_methodNamed B.named, hts, hW, (name_of_methodNamed B.named B.method).1, htab, Nat.le_refl _, Nat.le_refl _, by rw [hR.1]; exact Nat.le_add_right _ _, hR.2.2.2.2.1⟩
    have hl := lv_entry (vs.map (tv G)) (n := j.2.2.1) (by rw [lg_len hW]; exact hn)
    rw [lg_entry_eq]
    have hL : lrep G ((lg_sl (vs.map (tv G)) ++ List.replicate (j.2.2.1 - (lg_sl (vs.map (tv G))).length) Slot.unset).toArray) j.2.2.1 (entL vs j.2.2.1) := by
      refine ⟨⟨hl.1, hl.2.1, fun q hq => hl.2.2 q ?_⟩, fun v hv => ?_⟩
      · unfold entL at hq
        rw [lvO_app, lvO_none, List.append_nil] at hq
        exact argL_sub hW vs 0 q hq
      · unfold entL at hv
        rcases List.mem_append.mp hv with h | h
        · exact argL_ok hvs v h
        · cases List.eq_of_mem_replicate h
    have h := k p e { frames := d, cells := mnx M' - mnx M, slots := mns M' - mns M, locals := 64 * d } s m (vs.map (tv G)).toArray below meth c s.heap [] 0 0 _ F (Nat.le_refl _) hR (fun z hz => nomatch hz) hL okS_nil (by simp) (by simp)
    simp only [Nat.zero_add] at h
    exact h
  unfold wsM at body ⊢
  rw [he] at body ⊢
  refine vx_ofWF (cc := j.2.1) (maxL := j.2.2.1) (ret := j.2.2.2.1) hy rfl fun p e s m args below meth c s₁ B hml htab hP => body p e s m args below meth c s₁ B hml ?_ hP
  have : c.exceptionTable.toList = [] := List.eq_nil_iff_forall_not_mem.mpr htab
  rw [this]
  rfl
