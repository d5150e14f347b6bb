/-! RULES: instructions that leave the memory as it is -/
theorem Sx.st {G : GW} {d : Nat} {j : MI} {pc pc' : Nat} {L : LV} {S S' : List DV} {M : Mem} (h : ∀ (p : Program) (e : Env) (R : Room) (s : State) (m : MethodId) (args : Array Value) (below : List Frame) (meth : Method) (c : Code) (H : Heap) (locs : List Loc) (cells slots : Nat) (ls : Array Slot) (Q : State → Prop),
    Fr G d j p R s m args meth c → Rp G M H → lrep G ls j.2.2.1 L → okS S → okS S' ∧ (W p (gl G) e R s m args below meth c H locs cells slots Q (F0 m pc' ls (S'.map (tv G))) → W p (gl G) e R s m args below meth c H locs cells slots Q (F0 m pc ls (S.map (tv G))))) : Sx G d j pc L S M pc' L S' M := by
  refine ⟨Nat.le_refl _, Nat.le_refl _, fun p e R s m args below meth c H locs cells slots ls Q F hs hR hl hL hS hc hk k => ?_⟩
  obtain ⟨a, b⟩ := h p e R s m args below meth c H locs cells slots ls Q F hR hL hS
  have k1 := k H locs ls hR (Nat.le_refl _) hl hL a
  simp only [Nat.sub_self, Nat.add_zero] at k1
  exact b k1
theorem lv_get {G : GW} {ls : Array Slot} {nL : Nat} {L : LV} {i : Nat} {v : DV} (h : lrep G ls nL L) (hL : L[i]? = some (some v)) : ls[i]? = some (.val (tv G v)) :=
  h.1.2.2 (i, tv G v) (lvO_mem.mpr ⟨i, v, by rw [Nat.zero_add], hL⟩)
theorem lv_gok {G : GW} {ls : Array Slot} {nL : Nat} {L : LV} {i : Nat} {v : DV} (h : lrep G ls nL L) (hL : L[i]? = some (some v)) : okV v := h.2 v (List.mem_of_getElem? hL)
theorem st_sub1 {G : GW} {s : State} (hW : Wd G s) {L : LV} {i : Nat} {v : DV} {q : Nat × Value} (h : q ∈ lvO G 0 (stL L i v)) : q ∈ (i, tv G v) :: (lvO G 0 L).filter (fun q => !(q.1 == i) && !(q.1 + 1 == i && q.2.category == 2)) := by
  obtain ⟨k, w, rfl, h9⟩ := lvO_mem.mp h
  rw [Nat.zero_add]
  rcases stL_get h9 with ⟨rfl, rfl, -⟩ | ⟨h1, h2, h3⟩
  · exact List.mem_cons_self
  · refine List.mem_cons_of_mem _ (List.mem_filter.mpr ⟨lvO_mem.mpr ⟨k, w, by rw [Nat.zero_add], h2⟩, ?_⟩)
    have hc := tv_cat hW w
    have a1 : (k == i) = false := by simpa using h1
    by_cases hk : k + 1 = i
    · have hl : ¬ isLg (some w) = true := fun q => h3 ⟨hk, q⟩
      rw [if_neg hl] at hc
      simp [a1, hc]
    · have a2 : (k + 1 == i) = false := by simpa using hk
      simp [a1, a2]
theorem st_sub2 {G : GW} {s : State} (hW : Wd G s) {L : LV} {i : Nat} {v : DV} {q : Nat × Value} (h : q ∈ lvO G 0 (stW L i v)) : q ∈ (i, tv G v) :: (lvO G 0 L).filter (fun q => !(q.1 == i) && (!(q.1 == i + 1) && !(q.1 + 1 == i && q.2.category == 2))) := by
  obtain ⟨k, w, rfl, h9⟩ := lvO_mem.mp h
  rw [Nat.zero_add]
  rcases stW_get h9 with ⟨rfl, rfl, -⟩ | ⟨h1, h1', h2, h3⟩
  · exact List.mem_cons_self
  · refine List.mem_cons_of_mem _ (List.mem_filter.mpr ⟨lvO_mem.mpr ⟨k, w, by rw [Nat.zero_add], h2⟩, ?_⟩)
    have hc := tv_cat hW w
    have a1 : (k == i) = false := by simpa using h1
    have a3 : (k == i + 1) = false := by simpa using h1'
    by_cases hk : k + 1 = i
    · have hl : ¬ isLg (some w) = true := fun q => h3 ⟨hk, q⟩
      rw [if_neg hl] at hc
      simp [a1, a3, hc]
    · have a2 : (k + 1 == i) = false := by simpa using hk
      simp [a1, a2, a3]
theorem st_ok1 {L : LV} {i : Nat} {v : DV} (hv : okV v) (h : okL L) : okL (stL L i v) := by
  intro w hw
  obtain ⟨k, hk⟩ := List.mem_iff_getElem?.mp hw
  rcases stL_get hk with ⟨-, rfl, -⟩ | ⟨-, h2, -⟩
  · exact hv
  · exact h w (List.mem_of_getElem? h2)
theorem st_ok2 {L : LV} {i : Nat} {v : DV} (hv : okV v) (h : okL L) : okL (stW L i v) := by
  intro w hw
  obtain ⟨k, hk⟩ := List.mem_iff_getElem?.mp hw
  rcases stW_get hk with ⟨-, rfl, -⟩ | ⟨-, -, h2, -⟩
  · exact hv
  · exact h w (List.mem_of_getElem? h2)
theorem lrep_st1 {G : GW} {s : State} (hW : Wd G s) {ls' : Array Slot} {nL : Nat} {L : LV} {i : Nat} {v : DV} (hv : okV v) (h : okL L) (hl : lv_has ls' nL ((i, tv G v) :: (lvO G 0 L).filter (fun q => !(q.1 == i) && !(q.1 + 1 == i && q.2.category == 2)))) : lrep G ls' nL (stL L i v) :=
  ⟨⟨hl.1, hl.2.1, fun q hq => hl.2.2 q (st_sub1 hW hq)⟩, st_ok1 hv h⟩
theorem lrep_st2 {G : GW} {s : State} (hW : Wd G s) {ls' : Array Slot} {nL : Nat} {L : LV} {i : Nat} {v : DV} (hv : okV v) (h : okL L) (hl : lv_has ls' nL ((i, tv G v) :: (lvO G 0 L).filter (fun q => !(q.1 == i) && (!(q.1 == i + 1) && !(q.1 + 1 == i && q.2.category == 2))))) : lrep G ls' nL (stW L i v) :=
  ⟨⟨hl.1, hl.2.1, fun q hq => hl.2.2 q (st_sub2 hW hq)⟩, st_ok2 hv h⟩
theorem Fr.W {G : GW} {d : Nat} {j : MI} {p : Program} {R : Room} {s : State} {m : MethodId} {args : Array Value} {meth : Method} {c : Code} (F : Fr G d j p R s m args meth c) : Wd G s := F.2.2.2.2.2.2.2.1
theorem Fr.ts {G : GW} {d : Nat} {j : MI} {p : Program} {R : Room} {s : State} {m : MethodId} {args : Array Value} {meth : Method} {c : Code} (F : Fr G d j p R s m args meth c) : ∀ w ∈ lw_all, w.before args s = true := F.2.2.2.2.2.2.1
theorem Fr.own {G : GW} {d : Nat} {j : MI} {p : Program} {R : Room} {s : State} {m : MethodId} {args : Array Value} {meth : Method} {c : Code} (F : Fr G d j p R s m args meth c) : s.vm.findClass j.1.cls = some m.cls := F.2.2.2.2.2.1
theorem Fr.lk {G : GW} {d : Nat} {j : MI} {p : Program} {R : Room} {s : State} {m : MethodId} {args : Array Value} {meth : Method} {c : Code} (F : Fr G d j p R s m args meth c) : meth.locks = false := F.2.2.2.1
theorem Fr.rt {G : GW} {d : Nat} {j : MI} {p : Program} {R : Room} {s : State} {m : MethodId} {args : Array Value} {meth : Method} {c : Code} (F : Fr G d j p R s m args meth c) : meth.sig.returnType = j.2.2.2.1 := F.2.2.1
/-- storing: the step -/
theorem Sx.sto {G : GW} {d : Nat} {j : MI} {pc pc' : Nat} {L L' : LV} {S S' : List DV} {M : Mem} (h : ∀ (p : Program) (e : Env) (R : Room) (s : State) (m : MethodId) (args : Array Value) (below : List Frame) (meth : Method) (c : Code) (H : Heap) (locs : List Loc) (cells slots : Nat) (ls : Array Slot) (Q : State → Prop),
    Fr G d j p R s m args meth c → Rp G M H → lrep G ls j.2.2.1 L → okS S → okS S' ∧ ((∀ ls', lrep G ls' j.2.2.1 L' → W p (gl G) e R s m args below meth c H locs cells slots Q (F0 m pc' ls' (S'.map (tv G)))) → W p (gl G) e R s m args below meth c H locs cells slots Q (F0 m pc ls (S.map (tv G))))) : Sx G d j pc L S M pc' L' S' M := by
  refine ⟨Nat.le_refl _, Nat.le_refl _, fun p e R s m args below meth c H locs cells slots ls Q F hs hR hl hL hS hc hk k => ?_⟩
  obtain ⟨a, b⟩ := h p e R s m args below meth c H locs cells slots ls Q F hR hL hS
  refine b fun ls' hL' => ?_
  have k1 := k H locs ls' hR (Nat.le_refl _) hl hL' a
  simp only [Nat.sub_self, Nat.add_zero] at k1
  exact k1
theorem okI {x : Int} (h : i32 x) : okV (dI x) := h
theorem okJ {x : Int} (h : i64 x) : okV (dL x) := h
section RU
theorem jand_e (x y : Int) : Int32.ofInt (jand x y) = Int32.ofInt x &&& Int32.ofInt y := Int32.ofInt_toInt _
theorem jor_e (x y : Int) : Int32.ofInt (jor x y) = Int32.ofInt x ||| Int32.ofInt y := Int32.ofInt_toInt _
theorem jxor_e (x y : Int) : Int32.ofInt (jxor x y) = Int32.ofInt x ^^^ Int32.ofInt y := Int32.ofInt_toInt _
theorem jshl_e (x y : Int) : Int32.ofInt (jshl x y) = Int32.ofInt x <<< (Int32.ofInt y &&& 31) := Int32.ofInt_toInt _
theorem jshr_e (x y : Int) : Int32.ofInt (jshr x y) = Int32.ofInt x >>> (Int32.ofInt y &&& 31) := Int32.ofInt_toInt _
theorem jushr_e (x y : Int) : Int32.ofInt (jushr x y) = ((Int32.ofInt x).toUInt32 >>> ((Int32.ofInt y).toUInt32 &&& Int32.toUInt32 31)).toInt32 := Int32.ofInt_toInt _
theorem jdiv_e (x y : Int) : Int32.ofInt (jdiv x y) = Int32.ofInt x / Int32.ofInt y := Int32.ofInt_toInt _
theorem jrem_e (x y : Int) : Int32.ofInt (jrem x y) = Int32.ofInt x - Int32.ofInt x / Int32.ofInt y * Int32.ofInt y := Int32.ofInt_toInt _
variable {G : GW} {d : Nat} {j : MI} {pc : Nat} {L : LV} {S : List DV} {M : Mem} {Q : Res → Mem → Prop}
theorem lit_r {n : Int} (h : (decide (-32768 ≤ n) && decide (n ≤ 32767)) = true) : i32 n := by
  simp only [Bool.and_eq_true, decide_eq_true_eq] at h
  unfold i32
  omega
theorem lit_b {n : Int} (h : (decide (-128 ≤ n) && decide (n ≤ 127)) = true) : (Int8.ofInt n).toInt32 = Int32.ofInt n ∧ i32 n := by
  simp only [Bool.and_eq_true, decide_eq_true_eq] at h
  have hr : i32 n := by unfold i32; omega
  refine ⟨Int32.toInt_inj.mp ?_, hr⟩
  rw [Int8.toInt_toInt32, Int8.toInt_ofInt, t32' hr]
  refine (bm8 _).trans ?_
  unfold w8
  omega
theorem bm16 (x : Int) (h : -32768 ≤ x ∧ x ≤ 32767) : x.bmod 65536 = x := by
  rw [Int.bmod_eq_emod]
  split <;> omega
theorem lit_s {n : Int} (h : (decide (-32768 ≤ n) && decide (n ≤ 32767)) = true) : (Int16.ofInt n).toInt32 = Int32.ofInt n ∧ i32 n := by
  have hr := lit_r h
  simp only [Bool.and_eq_true, decide_eq_true_eq] at h
  refine ⟨Int32.toInt_inj.mp ?_, hr⟩
  rw [Int16.toInt_toInt32, Int16.toInt_ofInt, t32' hr]
  exact bm16 n h
theorem x_iconst {n : Int} (hd : decode j.2.1 pc = .ok (.iconst n, 1)) (hn : (decide (-32768 ≤ n) && decide (n ≤ 32767)) = true) (k : WP G d j (pc + 1) L (dI n :: S) M Q) : WP G d j pc L S M Q := WP.of (Sx.st fun p e R s m args below meth c H locs cells slots ls Q F hR hl hS => ⟨okS_cons (okI (lit_r hn)) hS, fun w => lv_iconst F.1 F.2.1 hd rfl w⟩) k
theorem x_bipush {n : Int} (hd : decode j.2.1 pc = .ok (.bipush n, 2)) (hn : (decide (-128 ≤ n) && decide (n ≤ 127)) = true) (k : WP G d j (pc + 2) L (dI n :: S) M Q) : WP G d j pc L S M Q := WP.of (Sx.st fun p e R s m args below meth c H locs cells slots ls Q F hR hl hS => ⟨okS_cons (okI (lit_b hn).2) hS, fun w => lv_bipush F.1 F.2.1 hd (lit_b hn).1 w⟩) k
theorem x_sipush {n : Int} (hd : decode j.2.1 pc = .ok (.sipush n, 3)) (hn : (decide (-32768 ≤ n) && decide (n ≤ 32767)) = true) (k : WP G d j (pc + 3) L (dI n :: S) M Q) : WP G d j pc L S M Q := WP.of (Sx.st fun p e R s m args below meth c H locs cells slots ls Q F hR hl hS => ⟨okS_cons (okI (lit_s hn).2) hS, fun w => lv_sipush F.1 F.2.1 hd (lit_s hn).1 w⟩) k
theorem x_lconst {n : Fin 2} {z : Int} (hd : decode j.2.1 pc = .ok (.lconst n, 1)) (hz : ((n : Nat) : Int) = z) (k : WP G d j (pc + 1) L (dL z :: S) M Q) : WP G d j pc L S M Q := WP.of (Sx.st fun p e R s m args below meth c H locs cells slots ls Q F hR hl hS => ⟨okS_cons (okJ (show i64 z by have := n.isLt; unfold i64; omega)) hS, fun w => lv_lconst F.1 F.2.1 hd (show Int64.ofNat (n : Nat) = Int64.ofInt z by rw [← hz]; rfl) w⟩) k
theorem x_ldc {i : Nat} {v : Int32} {z : Int} (hd : decode j.2.1 pc = .ok (.ldc i, 2)) (hq : Cond.constant j.1.cls i v ∈ lw_all) (hv : v.toInt = z) (k : WP G d j (pc + 2) L (dI z :: S) M Q) : WP G d j pc L S M Q := WP.of (Sx.st fun p e R s m args below meth c H locs cells slots ls Q F hR hl hS => ⟨okS_cons (okI (show i32 z by rw [← hv]; exact i32_toInt v)) hS, fun w => lv_ldc F.1 F.2.1 F.own (F.ts _ hq) hd (by rw [← Int32.ofInt_toInt v, hv]; exact w)⟩) k
theorem x_ldcw {i : Nat} {v : Int32} {z : Int} (hd : decode j.2.1 pc = .ok (.ldc_w i, 3)) (hq : Cond.constant j.1.cls i v ∈ lw_all) (hv : v.toInt = z) (k : WP G d j (pc + 3) L (dI z :: S) M Q) : WP G d j pc L S M Q := WP.of (Sx.st fun p e R s m args below meth c H locs cells slots ls Q F hR hl hS => ⟨okS_cons (okI (show i32 z by rw [← hv]; exact i32_toInt v)) hS, fun w => lv_ldcw F.1 F.2.1 F.own (F.ts _ hq) hd (by rw [← Int32.ofInt_toInt v, hv]; exact w)⟩) k
theorem x_ldc2 {i : Nat} {v : Int64} {z : Int} (hd : decode j.2.1 pc = .ok (.ldc2_w i, 3)) (hq : Cond.constantLong j.1.cls i v ∈ lw_all) (hv : v.toInt = z) (k : WP G d j (pc + 3) L (dL z :: S) M Q) : WP G d j pc L S M Q := WP.of (Sx.st fun p e R s m args below meth c H locs cells slots ls Q F hR hl hS => ⟨okS_cons (okJ (show i64 z by rw [← hv]; exact i64_toInt v)) hS, fun w => lv_ldc2 F.1 F.2.1 F.own (F.ts _ hq) hd (by rw [← Int64.ofInt_toInt v, hv]; exact w)⟩) k
theorem adv_old {G : GW} {a : Int} {q : Nat} (h0 : a < 0) (h : gO G a = .ref q) : tv G (dR a) = .ref q := by
  show adv G a = _
  unfold adv
  rw [if_neg (by omega), h]
theorem str_neg : ∀ x ∈ strTab, x.2.2.2 < 0 := by decide +kernel
theorem x_ldcs {i : Nat} {tx : String} {a : Int} (hd : decode j.2.1 pc = .ok (.ldc i, 2)) (hq : (j.1.cls, i, tx, a) ∈ strTab) (k : WP G d j (pc + 2) L (dR a :: S) M Q) : WP G d j pc L S M Q := by
  refine WP.of (Sx.st fun p e R s m args below meth c H locs cells slots ls Q F hR hl hS => ⟨okS_cons (show okV (dR a) from trivial) hS, fun w => ?_⟩) k
  obtain ⟨q, h1, h2⟩ := F.W.2.2.2.2.2.2.1 _ _ _ _ hq
  rw [List.map_cons, adv_old (str_neg _ hq) h1] at w
  exact va_ldcS F.1 F.2.1 F.own h2 hd w
theorem x_null (hd : decode j.2.1 pc = .ok (.aconst_null, 1)) (k : WP G d j (pc + 1) L (dN :: S) M Q) : WP G d j pc L S M Q := WP.of (Sx.st fun p e R s m args below meth c H locs cells slots ls Q F hR hl hS => ⟨okS_cons (show okV dN from trivial) hS, fun w => lv_null F.1 F.2.1 hd w⟩) k
theorem x_iload_n {n : Fin 4} {i : Nat} {x : Int} (hd : decode j.2.1 pc = .ok (.iload_n n, 1)) (hi : (n : Nat) = i) (hL : L[i]? = some (some (dI x))) (k : WP G d j (pc + 1) L (dI x :: S) M Q) : WP G d j pc L S M Q := WP.of (Sx.st fun p e R s m args below meth c H locs cells slots ls Q F hR hl hS => ⟨okS_cons (lv_gok hl hL) hS, fun w => lv_iload_n F.1 F.2.1 hd hi (lv_get hl hL) w⟩) k
theorem x_iload {i : Nat} {x : Int} (hd : decode j.2.1 pc = .ok (.iload i, 2)) (hL : L[i]? = some (some (dI x))) (k : WP G d j (pc + 2) L (dI x :: S) M Q) : WP G d j pc L S M Q := WP.of (Sx.st fun p e R s m args below meth c H locs cells slots ls Q F hR hl hS => ⟨okS_cons (lv_gok hl hL) hS, fun w => lv_iload F.1 F.2.1 hd (lv_get hl hL) w⟩) k
theorem x_lload_n {n : Fin 4} {i : Nat} {x : Int} (hd : decode j.2.1 pc = .ok (.lload_n n, 1)) (hi : (n : Nat) = i) (hL : L[i]? = some (some (dL x))) (k : WP G d j (pc + 1) L (dL x :: S) M Q) : WP G d j pc L S M Q := WP.of (Sx.st fun p e R s m args below meth c H locs cells slots ls Q F hR hl hS => ⟨okS_cons (lv_gok hl hL) hS, fun w => lv_lload_n F.1 F.2.1 hd hi (lv_get hl hL) w⟩) k
theorem x_lload {i : Nat} {x : Int} (hd : decode j.2.1 pc = .ok (.lload i, 2)) (hL : L[i]? = some (some (dL x))) (k : WP G d j (pc + 2) L (dL x :: S) M Q) : WP G d j pc L S M Q := WP.of (Sx.st fun p e R s m args below meth c H locs cells slots ls Q F hR hl hS => ⟨okS_cons (lv_gok hl hL) hS, fun w => lv_lload F.1 F.2.1 hd (lv_get hl hL) w⟩) k
theorem x_aload_n {n : Fin 4} {i : Nat} {r : Option Int} (hd : decode j.2.1 pc = .ok (.aload_n n, 1)) (hi : (n : Nat) = i) (hL : L[i]? = some (some (dO r))) (k : WP G d j (pc + 1) L (dO r :: S) M Q) : WP G d j pc L S M Q := by
  refine WP.of (Sx.st fun p e R s m args below meth c H locs cells slots ls Q F hR hl hS => ⟨okS_cons (lv_gok hl hL) hS, fun w => ?_⟩) k
  have h1 := lv_get hl hL
  rcases tv_cases F.W r with h | ⟨q, h⟩
  · rw [h] at h1
    rw [List.map_cons, h] at w
    exact lv_aload_nN F.1 F.2.1 hd hi h1 w
  · rw [h] at h1
    rw [List.map_cons, h] at w
    exact lv_aload_n F.1 F.2.1 hd hi h1 w
theorem x_aload {i : Nat} {r : Option Int} (hd : decode j.2.1 pc = .ok (.aload i, 2)) (hL : L[i]? = some (some (dO r))) (k : WP G d j (pc + 2) L (dO r :: S) M Q) : WP G d j pc L S M Q := by
  refine WP.of (Sx.st fun p e R s m args below meth c H locs cells slots ls Q F hR hl hS => ⟨okS_cons (lv_gok hl hL) hS, fun w => ?_⟩) k
  have h1 := lv_get hl hL
  rcases tv_cases F.W r with h | ⟨q, h⟩
  · rw [h] at h1
    rw [List.map_cons, h] at w
    exact lv_aloadN F.1 F.2.1 hd h1 w
  · rw [h] at h1
    rw [List.map_cons, h] at w
    exact lv_aload F.1 F.2.1 hd h1 w
theorem x_istore_n {n : Fin 4} {i : Nat} {x : Int} {L' : LV} (hd : decode j.2.1 pc = .ok (.istore_n n, 1)) (hi : (n : Nat) = i) (hn : i < j.2.2.1) (hL : stL L i (dI x) = L') (k : WP G d j (pc + 1) L' S M Q) : WP G d j pc L (dI x :: S) M Q := by
  subst hL
  exact WP.of (Sx.sto fun p e R s m args below meth c H locs cells slots ls Q F hR hl hS => ⟨okS_tail hS, fun w => lv_istore_n F.1 F.2.1 hd hi hl.1 hn rfl fun ls' h => w ls' (lrep_st1 F.W (okS_head hS) hl.2 h)⟩) k
theorem x_lstore_n {n : Fin 4} {i : Nat} {x : Int} {L' : LV} (hd : decode j.2.1 pc = .ok (.lstore_n n, 1)) (hi : (n : Nat) = i) (hn : i + 1 < j.2.2.1) (hL : stW L i (dL x) = L') (k : WP G d j (pc + 1) L' S M Q) : WP G d j pc L (dL x :: S) M Q := by
  subst hL
  exact WP.of (Sx.sto fun p e R s m args below meth c H locs cells slots ls Q F hR hl hS => ⟨okS_tail hS, fun w => lv_lstore_n F.1 F.2.1 hd hi hl.1 hn rfl fun ls' h => w ls' (lrep_st2 F.W (okS_head hS) hl.2 h)⟩) k
theorem x_astore_n {n : Fin 4} {i : Nat} {r : Option Int} {L' : LV} (hd : decode j.2.1 pc = .ok (.astore_n n, 1)) (hi : (n : Nat) = i) (hn : i < j.2.2.1) (hL : stL L i (dO r) = L') (k : WP G d j (pc + 1) L' S M Q) : WP G d j pc L (dO r :: S) M Q := by
  subst hL
  refine WP.of (Sx.sto fun p e R s m args below meth c H locs cells slots ls Q F hR hl hS => ⟨okS_tail hS, fun w => ?_⟩) k
  rcases tv_cases F.W r with h | ⟨q, h⟩
  · rw [List.map_cons, h]
    exact lv_astore_nN F.1 F.2.1 hd hi hl.1 hn rfl fun ls' h' => w ls' (lrep_st1 F.W (okS_head hS) hl.2 (by rw [h]; exact h'))
  · rw [List.map_cons, h]
    exact lv_astore_n F.1 F.2.1 hd hi hl.1 hn rfl fun ls' h' => w ls' (lrep_st1 F.W (okS_head hS) hl.2 (by rw [h]; exact h'))
theorem x_istore {i : Nat} {x : Int} {L' : LV} (hd : decode j.2.1 pc = .ok (.istore i, 2)) (hn : i < j.2.2.1) (hL : stL L i (dI x) = L') (k : WP G d j (pc + 2) L' S M Q) : WP G d j pc L (dI x :: S) M Q := by
  subst hL
  exact WP.of (Sx.sto fun p e R s m args below meth c H locs cells slots ls Q F hR hl hS => ⟨okS_tail hS, fun w => lv_istore F.1 F.2.1 hd hl.1 hn rfl fun ls' h => w ls' (lrep_st1 F.W (okS_head hS) hl.2 h)⟩) k
theorem x_lstore {i : Nat} {x : Int} {L' : LV} (hd : decode j.2.1 pc = .ok (.lstore i, 2)) (hn : i + 1 < j.2.2.1) (hL : stW L i (dL x) = L') (k : WP G d j (pc + 2) L' S M Q) : WP G d j pc L (dL x :: S) M Q := by
  subst hL
  exact WP.of (Sx.sto fun p e R s m args below meth c H locs cells slots ls Q F hR hl hS => ⟨okS_tail hS, fun w => lv_lstore F.1 F.2.1 hd hl.1 hn rfl fun ls' h => w ls' (lrep_st2 F.W (okS_head hS) hl.2 h)⟩) k
theorem x_astore {i : Nat} {r : Option Int} {L' : LV} (hd : decode j.2.1 pc = .ok (.astore i, 2)) (hn : i < j.2.2.1) (hL : stL L i (dO r) = L') (k : WP G d j (pc + 2) L' S M Q) : WP G d j pc L (dO r :: S) M Q := by
  subst hL
  refine WP.of (Sx.sto fun p e R s m args below meth c H locs cells slots ls Q F hR hl hS => ⟨okS_tail hS, fun w => ?_⟩) k
  rcases tv_cases F.W r with h | ⟨q, h⟩
  · rw [List.map_cons, h]
    exact lv_astoreN F.1 F.2.1 hd hl.1 hn rfl fun ls' h' => w ls' (lrep_st1 F.W (okS_head hS) hl.2 (by rw [h]; exact h'))
  · rw [List.map_cons, h]
    exact lv_astore F.1 F.2.1 hd hl.1 hn rfl fun ls' h' => w ls' (lrep_st1 F.W (okS_head hS) hl.2 (by rw [h]; exact h'))
theorem x_iinc {i : Nat} {n x : Int} {L' : LV} (hd : decode j.2.1 pc = .ok (.iinc i n, 3)) (h0 : L[i]? = some (some (dI x))) (hn : i < j.2.2.1) (hL : stL L i (dI (wr (x + n))) = L') (k : WP G d j (pc + 3) L' S M Q) : WP G d j pc L S M Q := by
  subst hL
  refine WP.of (Sx.sto fun p e R s m args below meth c H locs cells slots ls Q F hR hl hS => ⟨hS, fun w => ?_⟩) k
  obtain ⟨kk, hk⟩ := List.mem_iff_getElem?.mp (lvO_mem (G := G) (k := 0).mpr ⟨i, dI x, rfl, h0⟩)
  rw [Nat.zero_add] at hk
  exact lv_iinc F.1 F.2.1 hd hl.1 hk (show Int32.ofInt x + Int32.ofInt n = Int32.ofInt (wr (x + n)) by rw [of_wr, Int32.ofInt_add]) hn rfl fun ls' h => w ls' (lrep_st1 F.W (v := dI (wr (x + n))) (i32_wr _) hl.2 h)
theorem x_iincN {i : Nat} {n x : Int} {L' : LV} (hd : decode j.2.1 pc = .ok (.iinc i n, 3)) (h0 : L[i]? = some (some (dI x))) (hn : i < j.2.2.1) (hr : i32 (x + n)) (hL : stL L i (dI (x + n)) = L') (k : WP G d j (pc + 3) L' S M Q) : WP G d j pc L S M Q := x_iinc hd h0 hn (by rw [wr_id hr]; exact hL) k
theorem x_iincW {i : Nat} {n x : Int} {L' : LV} (hd : decode j.2.1 pc = .ok (.iinc i n, 6)) (h0 : L[i]? = some (some (dI x))) (hn : i < j.2.2.1) (hL : stL L i (dI (wr (x + n))) = L') (k : WP G d j (pc + 6) L' S M Q) : WP G d j pc L S M Q := by
  subst hL
  refine WP.of (Sx.sto fun p e R s m args below meth c H locs cells slots ls Q F hR hl hS => ⟨hS, fun w => ?_⟩) k
  obtain ⟨kk, hk⟩ := List.mem_iff_getElem?.mp (lvO_mem (G := G) (k := 0).mpr ⟨i, dI x, rfl, h0⟩)
  rw [Nat.zero_add] at hk
  exact lv_iincW F.1 F.2.1 hd hl.1 hk (show Int32.ofInt x + Int32.ofInt n = Int32.ofInt (wr (x + n)) by rw [of_wr, Int32.ofInt_add]) hn rfl fun ls' h => w ls' (lrep_st1 F.W (v := dI (wr (x + n))) (i32_wr _) hl.2 h)
theorem x_iadd {x y : Int} (hd : decode j.2.1 pc = .ok (.iadd, 1)) (k : WP G d j (pc + 1) L (dI (wr (x + y)) :: S) M Q) : WP G d j pc L (dI y :: dI x :: S) M Q := WP.of (Sx.st fun p e R s m args below meth c H locs cells slots ls Q F hR hl hS => ⟨okS_cons (okI (i32_wr _)) (okS_tail (okS_tail hS)), fun w => lv_iadd F.1 F.2.1 hd (by rw [← Int32.ofInt_add, ← of_wr]; exact w)⟩) k
theorem x_iaddN {x y : Int} (hd : decode j.2.1 pc = .ok (.iadd, 1)) (hr : i32 (x + y)) (k : WP G d j (pc + 1) L (dI (x + y) :: S) M Q) : WP G d j pc L (dI y :: dI x :: S) M Q := x_iadd hd (by rw [wr_id hr]; exact k)
theorem x_isub {x y : Int} (hd : decode j.2.1 pc = .ok (.isub, 1)) (k : WP G d j (pc + 1) L (dI (wr (x - y)) :: S) M Q) : WP G d j pc L (dI y :: dI x :: S) M Q := WP.of (Sx.st fun p e R s m args below meth c H locs cells slots ls Q F hR hl hS => ⟨okS_cons (okI (i32_wr _)) (okS_tail (okS_tail hS)), fun w => lv_isub F.1 F.2.1 hd (by rw [← Int32.ofInt_sub, ← of_wr]; exact w)⟩) k
theorem x_isubN {x y : Int} (hd : decode j.2.1 pc = .ok (.isub, 1)) (hr : i32 (x - y)) (k : WP G d j (pc + 1) L (dI (x - y) :: S) M Q) : WP G d j pc L (dI y :: dI x :: S) M Q := x_isub hd (by rw [wr_id hr]; exact k)
theorem x_imul {x y : Int} (hd : decode j.2.1 pc = .ok (.imul, 1)) (k : WP G d j (pc + 1) L (dI (wr (x * y)) :: S) M Q) : WP G d j pc L (dI y :: dI x :: S) M Q := WP.of (Sx.st fun p e R s m args below meth c H locs cells slots ls Q F hR hl hS => ⟨okS_cons (okI (i32_wr _)) (okS_tail (okS_tail hS)), fun w => lv_imul F.1 F.2.1 hd (by rw [← Int32.ofInt_mul, ← of_wr]; exact w)⟩) k
theorem x_imulN {x y : Int} (hd : decode j.2.1 pc = .ok (.imul, 1)) (hr : i32 (x * y)) (k : WP G d j (pc + 1) L (dI (x * y) :: S) M Q) : WP G d j pc L (dI y :: dI x :: S) M Q := x_imul hd (by rw [wr_id hr]; exact k)
theorem x_ladd {x y : Int} (hd : decode j.2.1 pc = .ok (.ladd, 1)) (k : WP G d j (pc + 1) L (dL (wl (x + y)) :: S) M Q) : WP G d j pc L (dL y :: dL x :: S) M Q := WP.of (Sx.st fun p e R s m args below meth c H locs cells slots ls Q F hR hl hS => ⟨okS_cons (okJ (i64_wl _)) (okS_tail (okS_tail hS)), fun w => lv_ladd F.1 F.2.1 hd (by rw [← Int64.ofInt_add, ← of_wl]; exact w)⟩) k
theorem x_laddN {x y : Int} (hd : decode j.2.1 pc = .ok (.ladd, 1)) (hr : i64 (x + y)) (k : WP G d j (pc + 1) L (dL (x + y) :: S) M Q) : WP G d j pc L (dL y :: dL x :: S) M Q := x_ladd hd (by rw [wl_id hr]; exact k)
theorem x_lmul {x y : Int} (hd : decode j.2.1 pc = .ok (.lmul, 1)) (k : WP G d j (pc + 1) L (dL (wl (x * y)) :: S) M Q) : WP G d j pc L (dL y :: dL x :: S) M Q := WP.of (Sx.st fun p e R s m args below meth c H locs cells slots ls Q F hR hl hS => ⟨okS_cons (okJ (i64_wl _)) (okS_tail (okS_tail hS)), fun w => lv_lmul F.1 F.2.1 hd (by rw [← Int64.ofInt_mul, ← of_wl]; exact w)⟩) k
theorem x_lmulN {x y : Int} (hd : decode j.2.1 pc = .ok (.lmul, 1)) (hr : i64 (x * y)) (k : WP G d j (pc + 1) L (dL (x * y) :: S) M Q) : WP G d j pc L (dL y :: dL x :: S) M Q := x_lmul hd (by rw [wl_id hr]; exact k)
theorem x_lsub {x y : Int} (hd : decode j.2.1 pc = .ok (.lsub, 1)) (k : WP G d j (pc + 1) L (dL (wl (x - y)) :: S) M Q) : WP G d j pc L (dL y :: dL x :: S) M Q := WP.of (Sx.st fun p e R s m args below meth c H locs cells slots ls Q F hR hl hS => ⟨okS_cons (okJ (i64_wl _)) (okS_tail (okS_tail hS)), fun w => lv_lsub F.1 F.2.1 hd (by rw [← Int64.ofInt_sub, ← of_wl]; exact w)⟩) k
theorem x_lsubN {x y : Int} (hd : decode j.2.1 pc = .ok (.lsub, 1)) (hr : i64 (x - y)) (k : WP G d j (pc + 1) L (dL (x - y) :: S) M Q) : WP G d j pc L (dL y :: dL x :: S) M Q := x_lsub hd (by rw [wl_id hr]; exact k)
theorem x_ineg {x : Int} (hd : decode j.2.1 pc = .ok (.ineg, 1)) (k : WP G d j (pc + 1) L (dI (wr (-x)) :: S) M Q) : WP G d j pc L (dI x :: S) M Q := WP.of (Sx.st fun p e R s m args below meth c H locs cells slots ls Q F hR hl hS => ⟨okS_cons (okI (i32_wr _)) (okS_tail hS), fun w => lv_ineg F.1 F.2.1 hd (by rw [← Int32.ofInt_neg, ← of_wr]; exact w)⟩) k
theorem x_inegN {x : Int} (hd : decode j.2.1 pc = .ok (.ineg, 1)) (hr : i32 (-x)) (k : WP G d j (pc + 1) L (dI (-x) :: S) M Q) : WP G d j pc L (dI x :: S) M Q := x_ineg hd (by rw [wr_id hr]; exact k)
theorem x_iand {x y : Int} (hd : decode j.2.1 pc = .ok (.iand, 1)) (k : WP G d j (pc + 1) L (dI (jand x y) :: S) M Q) : WP G d j pc L (dI y :: dI x :: S) M Q := WP.of (Sx.st fun p e R s m args below meth c H locs cells slots ls Q F hR hl hS => ⟨okS_cons (okI (i32_toInt _)) (okS_tail (okS_tail hS)), fun w => lv_iand F.1 F.2.1 hd (by rw [← jand_e]; exact w)⟩) k
theorem x_ior {x y : Int} (hd : decode j.2.1 pc = .ok (.ior, 1)) (k : WP G d j (pc + 1) L (dI (jor x y) :: S) M Q) : WP G d j pc L (dI y :: dI x :: S) M Q := WP.of (Sx.st fun p e R s m args below meth c H locs cells slots ls Q F hR hl hS => ⟨okS_cons (okI (i32_toInt _)) (okS_tail (okS_tail hS)), fun w => lv_ior F.1 F.2.1 hd (by rw [← jor_e]; exact w)⟩) k
theorem x_ixor {x y : Int} (hd : decode j.2.1 pc = .ok (.ixor, 1)) (k : WP G d j (pc + 1) L (dI (jxor x y) :: S) M Q) : WP G d j pc L (dI y :: dI x :: S) M Q := WP.of (Sx.st fun p e R s m args below meth c H locs cells slots ls Q F hR hl hS => ⟨okS_cons (okI (i32_toInt _)) (okS_tail (okS_tail hS)), fun w => lv_ixor F.1 F.2.1 hd (by rw [← jxor_e]; exact w)⟩) k
theorem x_ishl {x y : Int} (hd : decode j.2.1 pc = .ok (.ishl, 1)) (k : WP G d j (pc + 1) L (dI (jshl x y) :: S) M Q) : WP G d j pc L (dI y :: dI x :: S) M Q := WP.of (Sx.st fun p e R s m args below meth c H locs cells slots ls Q F hR hl hS => ⟨okS_cons (okI (i32_toInt _)) (okS_tail (okS_tail hS)), fun w => lv_ishl F.1 F.2.1 hd (by rw [← jshl_e]; exact w)⟩) k
theorem x_ishr {x y : Int} (hd : decode j.2.1 pc = .ok (.ishr, 1)) (k : WP G d j (pc + 1) L (dI (jshr x y) :: S) M Q) : WP G d j pc L (dI y :: dI x :: S) M Q := WP.of (Sx.st fun p e R s m args below meth c H locs cells slots ls Q F hR hl hS => ⟨okS_cons (okI (i32_toInt _)) (okS_tail (okS_tail hS)), fun w => lv_ishr F.1 F.2.1 hd (by rw [← jshr_e]; exact w)⟩) k
theorem x_iushr {x y : Int} (hd : decode j.2.1 pc = .ok (.iushr, 1)) (k : WP G d j (pc + 1) L (dI (jushr x y) :: S) M Q) : WP G d j pc L (dI y :: dI x :: S) M Q := WP.of (Sx.st fun p e R s m args below meth c H locs cells slots ls Q F hR hl hS => ⟨okS_cons (okI (i32_toInt _)) (okS_tail (okS_tail hS)), fun w => lv_iushr F.1 F.2.1 hd (jushr_e x y).symm w⟩) k
theorem ne0 {y : Int} (h : i32 y) (h0 : y ≠ 0) : ¬ Int32.ofInt y = 0 := fun q => h0 ((z_eq h).mp q)
theorem ne0l {y : Int} (h : i64 y) (h0 : y ≠ 0) : ¬ Int64.ofInt y = 0 := fun q => h0 ((eq64 h i64_0).mp (q.trans of64_0.symm))
theorem x_idiv {x y : Int} (hd : decode j.2.1 pc = .ok (.idiv, 1)) (h0 : y ≠ 0) (k : WP G d j (pc + 1) L (dI (jdiv x y) :: S) M Q) : WP G d j pc L (dI y :: dI x :: S) M Q := WP.of (Sx.st fun p e R s m args below meth c H locs cells slots ls Q F hR hl hS => ⟨okS_cons (okI (i32_toInt _)) (okS_tail (okS_tail hS)), fun w => lv_idiv F.1 F.2.1 hd (ne0 (okS_head hS) h0) (by rw [← jdiv_e]; exact w)⟩) k
theorem x_irem {x y : Int} (hd : decode j.2.1 pc = .ok (.irem, 1)) (h0 : y ≠ 0) (k : WP G d j (pc + 1) L (dI (jrem x y) :: S) M Q) : WP G d j pc L (dI y :: dI x :: S) M Q := WP.of (Sx.st fun p e R s m args below meth c H locs cells slots ls Q F hR hl hS => ⟨okS_cons (okI (i32_toInt _)) (okS_tail (okS_tail hS)), fun w => lv_irem F.1 F.2.1 hd (ne0 (okS_head hS) h0) (by rw [← jrem_e]; exact w)⟩) k
theorem x_idivN {x y : Int} (hd : decode j.2.1 pc = .ok (.idiv, 1)) (h0 : 0 ≤ x) (h1 : 0 < y) (k : WP G d j (pc + 1) L (dI (x / y) :: S) M Q) : WP G d j pc L (dI y :: dI x :: S) M Q := WP.of (Sx.st fun p e R s m args below meth c H locs cells slots ls Q F hR hl hS => ⟨okS_cons (okI (show i32 (x / y) by rw [← jdiv_nn (okS_head (okS_tail hS)) (okS_head hS) h0 h1]; exact i32_toInt _)) (okS_tail (okS_tail hS)), fun w => lv_idiv F.1 F.2.1 hd (ne0 (okS_head hS) (by omega)) (by rw [div32 (okS_head (okS_tail hS)) (okS_head hS) h0 h1]; exact w)⟩) k
theorem x_iremN {x y : Int} (hd : decode j.2.1 pc = .ok (.irem, 1)) (h0 : 0 ≤ x) (h1 : 0 < y) (k : WP G d j (pc + 1) L (dI (x % y) :: S) M Q) : WP G d j pc L (dI y :: dI x :: S) M Q := WP.of (Sx.st fun p e R s m args below meth c H locs cells slots ls Q F hR hl hS => ⟨okS_cons (okI (i32_mod (okS_head hS) h1)) (okS_tail (okS_tail hS)), fun w => lv_irem F.1 F.2.1 hd (ne0 (okS_head hS) (by omega)) (by rw [rem32 (okS_head (okS_tail hS)) (okS_head hS) h0 h1]; exact w)⟩) k
theorem x_ldivN {x y : Int} (hd : decode j.2.1 pc = .ok (.ldiv, 1)) (h0 : 0 ≤ x) (h1 : 0 < y) (k : WP G d j (pc + 1) L (dL (x / y) :: S) M Q) : WP G d j pc L (dL y :: dL x :: S) M Q := WP.of (Sx.st fun p e R s m args below meth c H locs cells slots ls Q F hR hl hS => ⟨okS_cons (okJ (show i64 (x / y) by rw [← ldv_nn (okS_head (okS_tail hS)) (okS_head hS) h0 h1]; exact i64_toInt _)) (okS_tail (okS_tail hS)), fun w => lv_ldiv F.1 F.2.1 hd (ne0l (okS_head hS) (by omega)) (by rw [div64 (okS_head (okS_tail hS)) (okS_head hS) h0 h1]; exact w)⟩) k
theorem x_i2l {x : Int} (hd : decode j.2.1 pc = .ok (.i2l, 1)) (k : WP G d j (pc + 1) L (dL x :: S) M Q) : WP G d j pc L (dI x :: S) M Q := WP.of (Sx.st fun p e R s m args below meth c H locs cells slots ls Q F hR hl hS => ⟨okS_cons (okJ (show i64 x by have h : i32 x := okS_head hS; unfold i32 at h; unfold i64; omega)) (okS_tail hS), fun w => lv_i2l F.1 F.2.1 hd (i2l32 (okS_head hS)) w⟩) k
theorem x_l2i {x : Int} (hd : decode j.2.1 pc = .ok (.l2i, 1)) (k : WP G d j (pc + 1) L (dI (wr x) :: S) M Q) : WP G d j pc L (dL x :: S) M Q := WP.of (Sx.st fun p e R s m args below meth c H locs cells slots ls Q F hR hl hS => ⟨okS_cons (okI (i32_wr _)) (okS_tail hS), fun w => lv_l2i F.1 F.2.1 hd ((l2i64 x).trans (of_wr x).symm) w⟩) k
theorem x_i2b {x : Int} (hd : decode j.2.1 pc = .ok (.i2b, 1)) (k : WP G d j (pc + 1) L (dI (w8 x) :: S) M Q) : WP G d j pc L (dI x :: S) M Q := WP.of (Sx.st fun p e R s m args below meth c H locs cells slots ls Q F hR hl hS => ⟨okS_cons (okI (i32_w8 _)) (okS_tail hS), fun w => lv_i2b F.1 F.2.1 hd (i2b32 x) w⟩) k
def jlcmp (x y : Int) : Int := if y < x then 1 else if x = y then 0 else -1
theorem jlcmp_r (x y : Int) : i32 (jlcmp x y) := by
  unfold jlcmp i32
  split
  · omega
  · split <;> omega
theorem lcmp64 {x y : Int} (hx : i64 x) (hy : i64 y) : lg_cmp (Int64.ofInt x) (Int64.ofInt y) = Int32.ofInt (jlcmp x y) := by
  unfold lg_cmp jlcmp
  by_cases h : y < x
  · rw [if_pos ((lt64 hy hx).mpr h), if_pos h]; rfl
  · rw [if_neg (fun q => h ((lt64 hy hx).mp q)), if_neg h]
    by_cases h2 : x = y
    · rw [if_pos ((eq64 hx hy).mpr h2), if_pos h2]; rfl
    · rw [if_neg (fun q => h2 ((eq64 hx hy).mp q)), if_neg h2]; rfl
theorem x_lcmp {x y : Int} (hd : decode j.2.1 pc = .ok (.lcmp, 1)) (k : WP G d j (pc + 1) L (dI (jlcmp x y) :: S) M Q) : WP G d j pc L (dL y :: dL x :: S) M Q := WP.of (Sx.st fun p e R s m args below meth c H locs cells slots ls Q F hR hl hS => ⟨okS_cons (okI (jlcmp_r x y)) (okS_tail (okS_tail hS)), fun w => W.lcmp F.1 F.2.1 hd (by rw [lcmp64 (okS_head (okS_tail hS)) (okS_head hS)]; exact w)⟩) k
theorem cat1 {s : State} (h : Wd G s) {v : DV} (hv : isLg (some v) = false) : (tv G v).category = 1 := by rw [tv_cat h, hv]; rfl
theorem x_dup {v : DV} (hd : decode j.2.1 pc = .ok (.dup, 1)) (hv : isLg (some v) = false) (k : WP G d j (pc + 1) L (v :: v :: S) M Q) : WP G d j pc L (v :: S) M Q := WP.of (Sx.st fun p e R s m args below meth c H locs cells slots ls Q F hR hl hS => ⟨okS_cons (okS_head hS) hS, fun w => lv_dup F.1 F.2.1 hd (cat1 F.W hv) w⟩) k
theorem x_pop {v : DV} (hd : decode j.2.1 pc = .ok (.pop, 1)) (hv : isLg (some v) = false) (k : WP G d j (pc + 1) L S M Q) : WP G d j pc L (v :: S) M Q := WP.of (Sx.st fun p e R s m args below meth c H locs cells slots ls Q F hR hl hS => ⟨okS_tail hS, fun w => lv_pop F.1 F.2.1 hd (cat1 F.W hv) w⟩) k
theorem x_dup2 {v u : DV} (hd : decode j.2.1 pc = .ok (.dup2, 1)) (hv : isLg (some v) = false) (hu : isLg (some u) = false) (k : WP G d j (pc + 1) L (v :: u :: v :: u :: S) M Q) : WP G d j pc L (v :: u :: S) M Q := WP.of (Sx.st fun p e R s m args below meth c H locs cells slots ls Q F hR hl hS => ⟨okS_cons (okS_head hS) (okS_cons (okS_head (okS_tail hS)) hS), fun w => lv_dup2_11 F.1 F.2.1 hd (cat1 F.W hv) (cat1 F.W hu) w⟩) k
theorem x_if_eq {x : Int} {off : Int} {tgt : Nat} (hd : decode j.2.1 pc = .ok (.ifCond .eq off, 3)) (ht : (pc : Int) + off = (tgt : Int)) (kt : x = 0 → WP G d j tgt L S M Q) (kf : ¬ x = 0 → WP G d j (pc + 3) L S M Q) : WP G d j pc L (dI x :: S) M Q := by
  by_cases h : x = 0
  · refine WP.of (Sx.st fun p e R s m args below meth c H locs cells slots ls Q F hR hl hS => ⟨okS_tail hS, fun w => lv_if_eq F.1 F.2.1 hd ht (fun q => ?_) (fun q => ?_)⟩) (kt h)
    · exact w
    · exact absurd ((z_eq (okS_head hS)).mpr h) q
  · refine WP.of (Sx.st fun p e R s m args below meth c H locs cells slots ls Q F hR hl hS => ⟨okS_tail hS, fun w => lv_if_eq F.1 F.2.1 hd ht (fun q => ?_) (fun q => ?_)⟩) (kf h)
    · exact absurd ((z_eq (okS_head hS)).mp q) h
    · exact w
theorem x_if_ne {x : Int} {off : Int} {tgt : Nat} (hd : decode j.2.1 pc = .ok (.ifCond .ne off, 3)) (ht : (pc : Int) + off = (tgt : Int)) (kt : ¬ x = 0 → WP G d j tgt L S M Q) (kf : x = 0 → WP G d j (pc + 3) L S M Q) : WP G d j pc L (dI x :: S) M Q := by
  by_cases h : x = 0
  · refine WP.of (Sx.st fun p e R s m args below meth c H locs cells slots ls Q F hR hl hS => ⟨okS_tail hS, fun w => lv_if_ne F.1 F.2.1 hd ht (fun q => ?_) (fun q => ?_)⟩) (kf h)
    · exact absurd ((z_eq (okS_head hS)).mpr h) q
    · exact w
  · refine WP.of (Sx.st fun p e R s m args below meth c H locs cells slots ls Q F hR hl hS => ⟨okS_tail hS, fun w => lv_if_ne F.1 F.2.1 hd ht (fun q => ?_) (fun q => ?_)⟩) (kt h)
    · exact w
    · exact absurd ((z_eq (okS_head hS)).mp (by first | exact q | exact Classical.not_not.mp q)) h
theorem x_if_lt {x : Int} {off : Int} {tgt : Nat} (hd : decode j.2.1 pc = .ok (.ifCond .lt off, 3)) (ht : (pc : Int) + off = (tgt : Int)) (kt : x < 0 → WP G d j tgt L S M Q) (kf : ¬ x < 0 → WP G d j (pc + 3) L S M Q) : WP G d j pc L (dI x :: S) M Q := by
  by_cases h : x < 0
  · refine WP.of (Sx.st fun p e R s m args below meth c H locs cells slots ls Q F hR hl hS => ⟨okS_tail hS, fun w => lv_if_lt F.1 F.2.1 hd ht (fun q => ?_) (fun q => ?_)⟩) (kt h)
    · exact w
    · exact absurd ((z_lt (okS_head hS)).mpr h) q
  · refine WP.of (Sx.st fun p e R s m args below meth c H locs cells slots ls Q F hR hl hS => ⟨okS_tail hS, fun w => lv_if_lt F.1 F.2.1 hd ht (fun q => ?_) (fun q => ?_)⟩) (kf h)
    · exact absurd ((z_lt (okS_head hS)).mp q) h
    · exact w
theorem x_if_ge {x : Int} {off : Int} {tgt : Nat} (hd : decode j.2.1 pc = .ok (.ifCond .ge off, 3)) (ht : (pc : Int) + off = (tgt : Int)) (kt : 0 ≤ x → WP G d j tgt L S M Q) (kf : ¬ 0 ≤ x → WP G d j (pc + 3) L S M Q) : WP G d j pc L (dI x :: S) M Q := by
  by_cases h : 0 ≤ x
  · refine WP.of (Sx.st fun p e R s m args below meth c H locs cells slots ls Q F hR hl hS => ⟨okS_tail hS, fun w => lv_if_ge F.1 F.2.1 hd ht (fun q => ?_) (fun q => ?_)⟩) (kt h)
    · exact w
    · exact absurd ((z_ge (okS_head hS)).mpr h) q
  · refine WP.of (Sx.st fun p e R s m args below meth c H locs cells slots ls Q F hR hl hS => ⟨okS_tail hS, fun w => lv_if_ge F.1 F.2.1 hd ht (fun q => ?_) (fun q => ?_)⟩) (kf h)
    · exact absurd ((z_ge (okS_head hS)).mp q) h
    · exact w
theorem x_if_gt {x : Int} {off : Int} {tgt : Nat} (hd : decode j.2.1 pc = .ok (.ifCond .gt off, 3)) (ht : (pc : Int) + off = (tgt : Int)) (kt : 0 < x → WP G d j tgt L S M Q) (kf : ¬ 0 < x → WP G d j (pc + 3) L S M Q) : WP G d j pc L (dI x :: S) M Q := by
  by_cases h : 0 < x
  · refine WP.of (Sx.st fun p e R s m args below meth c H locs cells slots ls Q F hR hl hS => ⟨okS_tail hS, fun w => lv_if_gt F.1 F.2.1 hd ht (fun q => ?_) (fun q => ?_)⟩) (kt h)
    · exact w
    · exact absurd ((z_gt (okS_head hS)).mpr h) q
  · refine WP.of (Sx.st fun p e R s m args below meth c H locs cells slots ls Q F hR hl hS => ⟨okS_tail hS, fun w => lv_if_gt F.1 F.2.1 hd ht (fun q => ?_) (fun q => ?_)⟩) (kf h)
    · exact absurd ((z_gt (okS_head hS)).mp q) h
    · exact w
theorem x_if_le {x : Int} {off : Int} {tgt : Nat} (hd : decode j.2.1 pc = .ok (.ifCond .le off, 3)) (ht : (pc : Int) + off = (tgt : Int)) (kt : x ≤ 0 → WP G d j tgt L S M Q) (kf : ¬ x ≤ 0 → WP G d j (pc + 3) L S M Q) : WP G d j pc L (dI x :: S) M Q := by
  by_cases h : x ≤ 0
  · refine WP.of (Sx.st fun p e R s m args below meth c H locs cells slots ls Q F hR hl hS => ⟨okS_tail hS, fun w => lv_if_le F.1 F.2.1 hd ht (fun q => ?_) (fun q => ?_)⟩) (kt h)
    · exact w
    · exact absurd ((z_le (okS_head hS)).mpr h) q
  · refine WP.of (Sx.st fun p e R s m args below meth c H locs cells slots ls Q F hR hl hS => ⟨okS_tail hS, fun w => lv_if_le F.1 F.2.1 hd ht (fun q => ?_) (fun q => ?_)⟩) (kf h)
    · exact absurd ((z_le (okS_head hS)).mp q) h
    · exact w
theorem le32r {x y : Int} (hx : i32 x) (hy : i32 y) : Int32.ofInt y ≤ Int32.ofInt x ↔ y ≤ x := le32 hy hx
theorem lt32r {x y : Int} (hx : i32 x) (hy : i32 y) : Int32.ofInt y < Int32.ofInt x ↔ y < x := lt32 hy hx
theorem x_icmp_eq {x y : Int} {off : Int} {tgt : Nat} (hd : decode j.2.1 pc = .ok (.if_icmp .eq off, 3)) (ht : (pc : Int) + off = (tgt : Int)) (kt : x = y → WP G d j tgt L S M Q) (kf : ¬ x = y → WP G d j (pc + 3) L S M Q) : WP G d j pc L (dI y :: dI x :: S) M Q := by
  by_cases h : x = y
  · refine WP.of (Sx.st fun p e R s m args below meth c H locs cells slots ls Q F hR hl hS => ⟨okS_tail (okS_tail hS), fun w => lv_icmp_eq F.1 F.2.1 hd ht (fun q => ?_) (fun q => ?_)⟩) (kt h)
    · exact w
    · exact absurd ((eq32 (okS_head (okS_tail hS)) (okS_head hS)).mpr h) q
  · refine WP.of (Sx.st fun p e R s m args below meth c H locs cells slots ls Q F hR hl hS => ⟨okS_tail (okS_tail hS), fun w => lv_icmp_eq F.1 F.2.1 hd ht (fun q => ?_) (fun q => ?_)⟩) (kf h)
    · exact absurd ((eq32 (okS_head (okS_tail hS)) (okS_head hS)).mp q) h
    · exact w
theorem x_icmp_ne {x y : Int} {off : Int} {tgt : Nat} (hd : decode j.2.1 pc = .ok (.if_icmp .ne off, 3)) (ht : (pc : Int) + off = (tgt : Int)) (kt : ¬ x = y → WP G d j tgt L S M Q) (kf : x = y → WP G d j (pc + 3) L S M Q) : WP G d j pc L (dI y :: dI x :: S) M Q := by
  by_cases h : x = y
  · refine WP.of (Sx.st fun p e R s m args below meth c H locs cells slots ls Q F hR hl hS => ⟨okS_tail (okS_tail hS), fun w => lv_icmp_ne F.1 F.2.1 hd ht (fun q => ?_) (fun q => ?_)⟩) (kf h)
    · exact absurd ((eq32 (okS_head (okS_tail hS)) (okS_head hS)).mpr h) q
    · exact w
  · refine WP.of (Sx.st fun p e R s m args below meth c H locs cells slots ls Q F hR hl hS => ⟨okS_tail (okS_tail hS), fun w => lv_icmp_ne F.1 F.2.1 hd ht (fun q => ?_) (fun q => ?_)⟩) (kt h)
    · exact w
    · exact absurd ((eq32 (okS_head (okS_tail hS)) (okS_head hS)).mp (by first | exact q | exact Classical.not_not.mp q)) h
theorem x_icmp_lt {x y : Int} {off : Int} {tgt : Nat} (hd : decode j.2.1 pc = .ok (.if_icmp .lt off, 3)) (ht : (pc : Int) + off = (tgt : Int)) (kt : x < y → WP G d j tgt L S M Q) (kf : ¬ x < y → WP G d j (pc + 3) L S M Q) : WP G d j pc L (dI y :: dI x :: S) M Q := by
  by_cases h : x < y
  · refine WP.of (Sx.st fun p e R s m args below meth c H locs cells slots ls Q F hR hl hS => ⟨okS_tail (okS_tail hS), fun w => lv_icmp_lt F.1 F.2.1 hd ht (fun q => ?_) (fun q => ?_)⟩) (kt h)
    · exact w
    · exact absurd ((lt32 (okS_head (okS_tail hS)) (okS_head hS)).mpr h) q
  · refine WP.of (Sx.st fun p e R s m args below meth c H locs cells slots ls Q F hR hl hS => ⟨okS_tail (okS_tail hS), fun w => lv_icmp_lt F.1 F.2.1 hd ht (fun q => ?_) (fun q => ?_)⟩) (kf h)
    · exact absurd ((lt32 (okS_head (okS_tail hS)) (okS_head hS)).mp q) h
    · exact w
theorem x_icmp_ge {x y : Int} {off : Int} {tgt : Nat} (hd : decode j.2.1 pc = .ok (.if_icmp .ge off, 3)) (ht : (pc : Int) + off = (tgt : Int)) (kt : y ≤ x → WP G d j tgt L S M Q) (kf : ¬ y ≤ x → WP G d j (pc + 3) L S M Q) : WP G d j pc L (dI y :: dI x :: S) M Q := by
  by_cases h : y ≤ x
  · refine WP.of (Sx.st fun p e R s m args below meth c H locs cells slots ls Q F hR hl hS => ⟨okS_tail (okS_tail hS), fun w => lv_icmp_ge F.1 F.2.1 hd ht (fun q => ?_) (fun q => ?_)⟩) (kt h)
    · exact w
    · exact absurd ((le32r (okS_head (okS_tail hS)) (okS_head hS)).mpr h) q
  · refine WP.of (Sx.st fun p e R s m args below meth c H locs cells slots ls Q F hR hl hS => ⟨okS_tail (okS_tail hS), fun w => lv_icmp_ge F.1 F.2.1 hd ht (fun q => ?_) (fun q => ?_)⟩) (kf h)
    · exact absurd ((le32r (okS_head (okS_tail hS)) (okS_head hS)).mp q) h
    · exact w
theorem x_icmp_gt {x y : Int} {off : Int} {tgt : Nat} (hd : decode j.2.1 pc = .ok (.if_icmp .gt off, 3)) (ht : (pc : Int) + off = (tgt : Int)) (kt : y < x → WP G d j tgt L S M Q) (kf : ¬ y < x → WP G d j (pc + 3) L S M Q) : WP G d j pc L (dI y :: dI x :: S) M Q := by
  by_cases h : y < x
  · refine WP.of (Sx.st fun p e R s m args below meth c H locs cells slots ls Q F hR hl hS => ⟨okS_tail (okS_tail hS), fun w => lv_icmp_gt F.1 F.2.1 hd ht (fun q => ?_) (fun q => ?_)⟩) (kt h)
    · exact w
    · exact absurd ((lt32r (okS_head (okS_tail hS)) (okS_head hS)).mpr h) q
  · refine WP.of (Sx.st fun p e R s m args below meth c H locs cells slots ls Q F hR hl hS => ⟨okS_tail (okS_tail hS), fun w => lv_icmp_gt F.1 F.2.1 hd ht (fun q => ?_) (fun q => ?_)⟩) (kf h)
    · exact absurd ((lt32r (okS_head (okS_tail hS)) (okS_head hS)).mp q) h
    · exact w
theorem x_icmp_le {x y : Int} {off : Int} {tgt : Nat} (hd : decode j.2.1 pc = .ok (.if_icmp .le off, 3)) (ht : (pc : Int) + off = (tgt : Int)) (kt : x ≤ y → WP G d j tgt L S M Q) (kf : ¬ x ≤ y → WP G d j (pc + 3) L S M Q) : WP G d j pc L (dI y :: dI x :: S) M Q := by
  by_cases h : x ≤ y
  · refine WP.of (Sx.st fun p e R s m args below meth c H locs cells slots ls Q F hR hl hS => ⟨okS_tail (okS_tail hS), fun w => lv_icmp_le F.1 F.2.1 hd ht (fun q => ?_) (fun q => ?_)⟩) (kt h)
    · exact w
    · exact absurd ((le32 (okS_head (okS_tail hS)) (okS_head hS)).mpr h) q
  · refine WP.of (Sx.st fun p e R s m args below meth c H locs cells slots ls Q F hR hl hS => ⟨okS_tail (okS_tail hS), fun w => lv_icmp_le F.1 F.2.1 hd ht (fun q => ?_) (fun q => ?_)⟩) (kf h)
    · exact absurd ((le32 (okS_head (okS_tail hS)) (okS_head hS)).mp q) h
    · exact w
theorem x_goto {off : Int} {tgt : Nat} (hd : decode j.2.1 pc = .ok (.goto off, 3)) (ht : (pc : Int) + off = (tgt : Int)) (k : WP G d j tgt L S M Q) : WP G d j pc L S M Q := WP.of (Sx.st fun p e R s m args below meth c H locs cells slots ls Q F hR hl hS => ⟨hS, fun w => lv_goto F.1 F.2.1 hd ht w⟩) k
theorem x_ifnull_n {off : Int} {tgt : Nat} (hd : decode j.2.1 pc = .ok (.ifnull off, 3)) (ht : (pc : Int) + off = (tgt : Int)) (k : WP G d j tgt L S M Q) : WP G d j pc L (dN :: S) M Q := WP.of (Sx.st fun p e R s m args below meth c H locs cells slots ls Q F hR hl hS => ⟨okS_tail hS, fun w => lv_ifnullN F.1 F.2.1 hd ht w⟩) k
theorem x_ifnull_r {a : Int} {off : Int} (h0 : 0 ≤ a) (hd : decode j.2.1 pc = .ok (.ifnull off, 3)) (k : WP G d j (pc + 3) L S M Q) : WP G d j pc L (dR a :: S) M Q := WP.of (Sx.st fun p e R s m args below meth c H locs cells slots ls Q F hR hl hS => ⟨okS_tail hS, fun w => by rw [List.map_cons, tv_r G h0]; exact lv_ifnull F.1 F.2.1 hd w⟩) k
theorem x_tab_in {dflt lo hi : Int} {offs : Array Int} {len : Nat} {x off : Int} {tgt : Nat} (hd : decode j.2.1 pc = .ok (.tableswitch dflt lo hi offs, len)) (h1 : lo ≤ x) (h2 : x ≤ hi) (ho : offs[(x - lo).toNat]? = some off) (ht : (pc : Int) + off = (tgt : Int)) (k : WP G d j tgt L S M Q) : WP G d j pc L (dI x :: S) M Q := WP.of (Sx.st fun p e R s m args below meth c H locs cells slots ls Q F hR hl hS => ⟨okS_tail hS, fun w => lv_tableIn F.1 F.2.1 hd (by rw [t32' (okS_head hS)]; omega) (by rw [t32' (okS_head hS)]; omega) (by rw [t32' (okS_head hS)]; exact ho) ht w⟩) k
theorem x_tab_out {dflt lo hi : Int} {offs : Array Int} {len : Nat} {x : Int} {tgt : Nat} (hd : decode j.2.1 pc = .ok (.tableswitch dflt lo hi offs, len)) (h : x < lo ∨ hi < x) (ht : (pc : Int) + dflt = (tgt : Int)) (k : WP G d j tgt L S M Q) : WP G d j pc L (dI x :: S) M Q := WP.of (Sx.st fun p e R s m args below meth c H locs cells slots ls Q F hR hl hS => ⟨okS_tail hS, fun w => lv_tableOut F.1 F.2.1 hd (by rw [t32' (okS_head hS)]; exact h) ht w⟩) k
theorem x_lookup {dflt : Int} {ps : Array (Int × Int)} {len : Nat} {x off : Int} {tgt : Nat} (hd : decode j.2.1 pc = .ok (.lookupswitch dflt ps, len)) (hp : (ps.toList.zip (ps.toList.drop 1)).all (fun (a, next) => a.1 < next.1) = true) (ho : Op.lookupswitch.offset ps.toList dflt x = off) (ht : (pc : Int) + off = (tgt : Int)) (k : WP G d j tgt L S M Q) : WP G d j pc L (dI x :: S) M Q := WP.of (Sx.st fun p e R s m args below meth c H locs cells slots ls Q F hR hl hS => ⟨okS_tail hS, fun w => lv_lookup F.1 F.2.1 hd hp (by rw [t32' (okS_head hS)]; exact ho) ht w⟩) k
/-- fewer locals are known -/
theorem x_less {L' : LV} (h : ∀ (i : Nat) (v : DV), L'[i]? = some (some v) → L[i]? = some (some v)) (k : WP G d j pc L' S M Q) : WP G d j pc L S M Q := by
  refine WP.of ⟨Nat.le_refl _, Nat.le_refl _, fun p e R s m args below meth c H locs cells slots ls Q F hs hR hl hL hS hc hk k => ?_⟩ k
  have hL' : lrep G ls j.2.2.1 L' := by
    refine ⟨⟨hL.1.1, hL.1.2.1, fun q hq => ?_⟩, fun v hv => ?_⟩
    · obtain ⟨i, v, rfl, h2⟩ := lvO_mem.mp hq
      exact hL.1.2.2 _ (lvO_mem.mpr ⟨i, v, rfl, h i v h2⟩)
    · obtain ⟨i, hi⟩ := List.mem_iff_getElem?.mp hv
      exact hL.2 v (List.mem_of_getElem? (h i v hi))
  have k1 := k H locs ls hR (Nat.le_refl _) hl hL' hS
  simp only [Nat.sub_self, Nat.add_zero] at k1
  simpa using k1
end RU
