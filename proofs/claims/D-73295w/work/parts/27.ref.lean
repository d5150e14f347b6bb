/-! RULES: stores of references into arrays, arraycopy, statics, old Strings' fields -/
theorem dx_self (vm : Vm) (c : ClassId) : vm.assignable c c = true := by
  first | exact assignable_self vm c | exact Vm.assignable_self vm c | simp [Vm.assignable, Vm.assignableAux, Vm.isSubclass, Vm.isSubclassAux]
section RF
variable {G : GW} {d : Nat} {j : MI} {pc : Nat} {L : LV} {S : List DV} {M : Mem} {Q : Res → Mem → Prop} {a b i x : Int} {t idx : Nat} {n : Int}
/-- what may be stored in an array of the class E -/
def anyR (G : GW) (M : Mem) (E : String) (b : Int) : Prop := ∀ (s : State) (H : Heap), Wd G s → Rp G M H → ∃ v : Nat, tv G (dR b) = .ref v ∧ va_Any E s H v
theorem any_ob {tb : Nat} {nb : Int} {C : String} {T : u_T} {N : Nat} {E : String} (hc : clG[tb]? = some (C, T, N)) (hs : msh M b = some (tb, nb)) (hE : C = E ∨ Cond.castable C E ∈ lw_tbl) : anyR G M E b := by
  intro s H hW hR
  obtain ⟨h0, h1, cell, q1, q2, q3, q4⟩ := hR.ob hW hs hc
  have hcl := (hW.1.1 tb _ hc).2
  obtain ⟨kC, hkC, -⟩ := hcl.2
  refine ⟨_, tv_r G h0, cell, q1, by rw [q3]; rfl, ⟨kC, by rw [q2]; exact hkC⟩, fun comp hcomp => ?_⟩
  rw [q2]
  rcases hE with rfl | hE
  · have e : comp = (gD G).1 tb := Option.some.inj (hcomp.symm.trans hcl.1)
    rw [e]
    exact va_assign hcl
  · obtain ⟨c1, t1, e1, e2, e3⟩ := Cond.castable_spec (hW.2.1 _ hE rfl)
    cases e1.symm.trans hcl.1
    cases e2.symm.trans hcomp
    exact e3
theorem any_str (h0 : b < 0) (hs : gsh G b = some (99, n)) : anyR G M "java/lang/String" b := by
  intro s H hW hR
  obtain ⟨-, -, h, -⟩ := hW.2.2.2.1.2 b 99 n h0 hs
  obtain ⟨q, a1, a2, ⟨cell, b1, b2, b3⟩, -⟩ := h rfl
  obtain ⟨kC, hkC, -⟩ := Vm.findClass_spec b3
  refine ⟨q, adv_old h0 a1, cell, by rw [hR.2.2.2.2.1 q a2]; exact b1, b2, ⟨kC, hkC⟩, fun comp hcomp => ?_⟩
  cases b3.symm.trans hcomp
  exact dx_self _ _
theorem mR_ne {r : Option Int} {c k : Int} (h : c ≠ a) : mcr (mR M a i r) c k = mcr M c k := if_neg fun q => h q.1
theorem x_aast {E : String} (ht : t = 123 ∨ t = 126 ∨ t = 134 ∨ t = 140) (hE : aTy t = .object E) (h2 : 0 ≤ a) (hd : decode j.2.1 pc = .ok (.aastore, 1)) (hs : msh M a = some (t, n)) (h0 : 0 ≤ i) (h1 : i < n) (hb : anyR G M E b) (kk : WP G d j (pc + 1) L S (mR M a i (some b)) Q) : WP G d j pc L (dR b :: dI i :: dR a :: S) M Q := by
  have hto : tOk t = true := by rcases ht with rfl | rfl | rfl | rfl <;> rfl
  refine WP.of (Sx.put (M' := mR M a i (some b)) rfl rfl fun p e R s m args below meth c H locs cells slots ls Q F hR hl hlo hS => ⟨okS_tail (okS_tail (okS_tail hS)), fun w => ?_⟩) kk
  obtain ⟨g1, g2, g3, g4⟩ := hR.arrN h2 (tOk_ge hto).1 hs
  have hi : i32 i := okS_head (okS_tail hS)
  obtain ⟨v, ev, cellV, c1, c3, ⟨kC, hkC⟩, hasg⟩ := hb s H F.W hR
  have hRA := (F.W.arr (tOk_or hto)).2
  rw [hE] at hRA
  obtain ⟨kA, comp, k1, k2, k3, -⟩ := hRA
  obtain ⟨kE, hkE, -⟩ := Vm.findClass_spec k3
  rw [List.map_cons, List.map_cons, List.map_cons, tv_r G h2, ev]
  refine W.aast F.1 F.2.1 g2 (fun q h => by cases h) (fun h => by cases h) k1 k2 rfl hkE ⟨by rw [z_lt hi]; omega, by rw [arrV_size, clamp32 hi]; omega⟩ c1 (fun q h => by rw [h] at c3; cases c3) hkC (hasg _ k3) rfl rfl hd fun H1 e z oq => ?_
  refine w H1 _ (hR.chg h2 g1 rfl rfl (fun _ _ _ => rfl) (fun c k hc => mR_ne hc) (fun _ _ _ => rfl) (fun k => hR.2.2.2.2.2.1 a k) (fun k => hR.2.2.2.2.2.2 a k) z oq fun t' n' hs' => ?_) z (okLoc_app hlo (Nat.le_add_right _ _))
  cases hs'.symm.trans hs
  refine ⟨g3, g4, fun h => absurd h (tOk_ge hto).1, fun _ => ?_⟩
  rw [e, arrV_store]
  congr 2
  funext k
  unfold updV
  rw [clamp32 hi]
  have el : ∀ M' : Mem, elemV G M' a t k = tv G (dO (mcr M' a k)) := by
    intro M'
    rcases ht with rfl | rfl | rfl | rfl <;> rfl
  rw [el, el]
  show _ = tv G (dO (if a = a ∧ (k : Int) = i then some b else mcr M a k))
  by_cases hk : k = i.toNat
  · rw [if_pos hk, if_pos ⟨rfl, by omega⟩, ← ev]
  · rw [if_neg hk, if_neg (fun q => hk (by omega))]
/-- arraycopy of ints -/
def mC (M : Mem) (c : Int) (sp a dp n : Int) : Mem := (M.1, fun b k => if b = a ∧ dp ≤ k ∧ k < dp + n then M.2.1 c (sp + (k - dp)) else M.2.1 b k, M.2.2)
def mD (M : Mem) (c : Int) (sp a dp n : Int) : Mem := (M.1, M.2.1, fun b k => if b = a ∧ dp ≤ k ∧ k < dp + n then M.2.2.1 c (sp + (k - dp)) else M.2.2.1 b k, M.2.2.2)
end RF
section CP
variable {p : Program} {l : Launch} {e : Env} {R : Room} {s : State} {m : MethodId} {args : Array Value} {below : List Frame} {meth : Method} {c : Code} {H : Heap} {locs : List Loc} {cells slots : Nat} {Q : State → Prop}
theorem dx_copy {cc : ByteArray} {pc : Nat} {ls : Array Slot} {rest : List Value} {a a0 : Nat} (hexec : p.tables.exec = Jvm.exec) (hb : c.code = cc) (hml : c.maxLocals = ls.size) {own : String} {index : Nat} (hown : s.vm.findClass own = some m.cls) (hlink : (Cond.methodLink own index arraycopyName).before args s = true) (hnat : (Cond.native arraycopyName).before args s = true) (hstat : (Cond.static arraycopyName).before args s = true) (hini : (Cond.initialized "java/lang/System").before args s = true)
    {cs : Cell} {c1 : ClassId} {n0 n1 : Nat} {f g : Nat → Value} {ty : FieldType} (hc0 : H[a0]? = some cs) (hs2 : s.isArrayOf cs ty) (hs3 : cs.vm ≠ .unknown) (hs4 : cs.slots.size = n0) (hs5 : ∀ j, j < n0 → cs.slots[j]? = some (f j)) (hc1 : H[a]? = some (arrV c1 n1 g)) (ht1 : ArrOfT s c1 ty)
    {sp dp n : Int32} (h1 : ¬ sp < 0) (h2 : ¬ dp < 0) (h3 : ¬ n < 0) (h4 : sp.toNatClampNeg + n.toNatClampNeg ≤ n0) (h5 : dp.toNatClampNeg + n.toNatClampNeg ≤ n1)
    (hel : ty = .int ∧ (∀ i, ∃ z, f i = .int z) ∨ ∃ E, ty = .object E ∧ va_RA s c1 ty ∧ ∀ i : Nat, i < n.toNatClampNeg → f (sp.toNatClampNeg + i) = .null ∨ ∃ y : Nat, f (sp.toNatClampNeg + i) = .ref y ∧ va_Any E s H y)
    (hframes : 1 ≤ R.frames) (hlocals : (rest.map fun v => v.category).sum + (nativeFrameWords "java/lang/System" "arraycopy" 5 + 11) ≤ R.locals) (hdg : decode cc pc = .ok (.invokestatic index, 3))
    (kk : ∀ (H1 : Heap) (locs1 : List Loc), H1[a]? = some (arrV c1 n1 (va_cpy f g sp.toNatClampNeg dp.toNatClampNeg n.toNatClampNeg)) → H1.size = H.size → (∀ q : Nat, q ≠ a → H1[q]? = H[q]?) → (∀ z ∈ locs1, z ∈ locs ∨ z.base = a) → W p l e R s m args below meth c H1 locs1 cells slots Q (F0 m (pc + 3) ls rest)) : W p l e R s m args below meth c H locs cells slots Q (F0 m pc ls (.int n :: .int dp :: .ref a :: .int sp :: .ref a0 :: rest)) := by
  have nn : ∀ z : Int32, ¬ z < 0 → z.toInt = (z.toNatClampNeg : Int) := by
    intro z hz
    have hz0 : (0 : Int) ≤ z.toInt := by
      have := Int32.not_lt.mp hz
      simpa using Int32.le_iff_toInt_le.mp this
    show z.toInt = ((z.toInt.toNat : Nat) : Int)
    omega
  intro T hT X
  obtain ⟨hs6, k0, hk0, cm0, hkk0⟩ := hs2
  obtain ⟨-, k1, hk1, cm1, hkk1⟩ := ht1 n1 g
  obtain ⟨vm', X', step⟩ := X.arraycopy hexec hown hlink hnat hstat hini (src := a0) (dst := a) (cs := cs) (cd := arrV c1 n1 g) (srcPos := sp) (destPos := dp) (n := n) (by rw [hT]; exact hc0) (by rw [hT]; exact hc1)
    hs6 (fun _ h => by cases h) hs3 (fun h => by cases h) hk0 hk1 hkk0 hkk1 (by rcases hel with ⟨rfl, -⟩ | ⟨E, rfl, -⟩ <;> simp [refKind]) h1 h2 h3
    (by rw [nn sp h1, nn n h3]; rw [hs4]; omega)
    (by rw [nn dp h2, nn n h3]; rw [arrV_size]; omega)
    (fun vm₁ hal i hi => by
      have e : cs.slots.getD (sp.toNatClampNeg + i) .null = f (sp.toNatClampNeg + i) := by
        rw [Array.getD_eq_getD_getElem?, hs5 _ (by omega)]
        rfl
      rw [e]
      rcases hel with ⟨rfl, hf⟩ | ⟨E, rfl, hRA, hf⟩
      · obtain ⟨z, hz⟩ := hf (sp.toNatClampNeg + i)
        rw [hz]
        exact ⟨rfl, trivial⟩
      · rcases hf i hi with hy | ⟨y, hy, cellV, g1, g2, ⟨kC, hkC⟩, hasg⟩
        · rw [hy]
          exact ⟨rfl, trivial⟩
        · rw [hy]
          obtain ⟨kA, comp, r1, r2, r3, -⟩ := hRA
          cases hk1.symm.trans r1
          cases hkk1.symm.trans r2
          obtain ⟨kE, hkE, -⟩ := Vm.findClass_spec r3
          obtain ⟨kC', hkC', -⟩ := hal.2.2 _ _ hkC
          obtain ⟨kE', hkE', -⟩ := hal.2.2 _ _ hkE
          refine ⟨rfl, cellV, (show T.heap[y]? = some cellV by rw [hT]; exact g1), (fun q h => by rw [h] at g2; cases g2), ⟨kC', hkC'⟩, ?_, ?_⟩
          · exact ⟨kE', hkE'⟩
          · show vm₁.assignable _ _ = true
            rw [hal.assignable]
            exact hasg _ r3)
    (g := F0 m pc ls (.int n :: .int dp :: .ref a :: .int sp :: .ref a0 :: rest)) rfl (by rw [hml]) (rest := rest) rfl (by rw [hb]; exact hdg) hframes (by show 2 * 0 + _ + _ ≤ _; omega)
  have e1 : copied cs (arrV c1 n1 g) sp dp n = arrV c1 n1 (va_cpy f g sp.toNatClampNeg dp.toNatClampNeg n.toNatClampNeg) := va_copiedX (fun z => z) cs c1 f g hs5 h4
  rw [e1] at X' step
  have hl : a < H.size := (Array.getElem?_eq_some_iff.mp hc1).1
  have hheap : ((T.setVm vm').setCell a (arrV c1 n1 (va_cpy f g sp.toNatClampNeg dp.toNatClampNeg n.toNatClampNeg))).heap = H.setIfInBounds a (arrV c1 n1 (va_cpy f g sp.toNatClampNeg dp.toNatClampNeg n.toNatClampNeg)) := by rw [← hT]; rfl
  obtain ⟨t, a1, b1⟩ := kk _ _ (by simp [Array.getElem?_setIfInBounds, hl]) (by simp) (fun q hq => by simp [Array.getElem?_setIfInBounds, Ne.symm hq]) (fun z hz => by
      rcases List.mem_append.mp hz with h | h
      · exact Or.inl h
      · obtain ⟨z', -, hz⟩ := List.mem_map.mp h
        rw [← hz]
        exact Or.inr rfl) _ hheap X'
  exact ⟨t, step t a1, b1⟩
end CP
section CR
variable {G : GW} {d : Nat} {j : MI} {pc : Nat} {L : LV} {S : List DV} {M : Mem} {Q : Res → Mem → Prop} {a c i x : Int} {t idx : Nat} {n n0 n1 sp dp : Int}
theorem va_cpy_get {α : Type} (f g : Nat → α) (sp dp n k : Nat) : va_cpy f g sp dp n k = if dp ≤ k ∧ k < dp + n then f (sp + (k - dp)) else g k := rfl
theorem nat_words : nativeFrameWords "java/lang/System" "arraycopy" 5 ≤ 100 := by decide
/-- what a call of arraycopy needs of the tables -/
def ACk (own : String) (idx : Nat) : Prop := Cond.methodLink own idx arraycopyName ∈ lw_all ∧ Cond.native arraycopyName ∈ lw_all ∧ Cond.static arraycopyName ∈ lw_all ∧ Cond.initialized "java/lang/System" ∈ lw_all
theorem x_copyI (hq : ACk j.1.cls idx) (hdp : 4 ≤ d) (hd : decode j.2.1 pc = .ok (.invokestatic idx, 3)) (hs : msh M c = some (100, n0)) (h2 : 0 ≤ a) (hs1 : msh M a = some (100, n1)) (p1 : 0 ≤ sp) (p2 : 0 ≤ dp) (p3 : 0 ≤ n) (p4 : sp + n ≤ n0) (p5 : dp + n ≤ n1) (hS0 : S.length ≤ 8) (kk : WP G d j (pc + 3) L S (mC M c sp a dp n) Q) : WP G d j pc L (dI n :: dI dp :: dR a :: dI sp :: dR c :: S) M Q := by
  refine WP.of (Sx.put (M' := mC M c sp a dp n) rfl rfl fun p e R s m args below meth cc H locs cells slots ls Q F hR hl hlo hS => ⟨okS_tail (okS_tail (okS_tail (okS_tail (okS_tail hS)))), fun w => ?_⟩) kk
  obtain ⟨g1, g2, g3, g4⟩ := hR.arrN h2 (by omega) hs1
  obtain ⟨q, cell, e1, e2, e3, e4, e5, e6, e7, e8⟩ := hR.arr F.W (t := 100) rfl hs
  have i1 : i32 n := okS_head hS
  have i2 : i32 dp := okS_head (okS_tail hS)
  have i3 : i32 sp := okS_head (okS_tail (okS_tail (okS_tail hS)))
  have hA := (F.W.arr (t := 100) (by omega)).1
  have hcat : ((S.map (tv G)).map fun v => v.category).sum ≤ 16 := by
    clear w kk hS
    have : ∀ S : List DV, ((S.map (tv G)).map fun v => v.category).sum ≤ 2 * S.length := by
      intro S
      induction S with
      | nil => simp
      | cons v S ih =>
        have hc := tv_cat F.W v
        simp only [List.map_cons, List.sum_cons, List.length_cons]
        split at hc <;> omega
    have := this S
    omega
  have hfr : d ≤ R.frames := F.2.2.2.2.2.2.2.2.2.2.1
  have hlo9 : 64 * d ≤ R.locals := F.2.2.2.2.2.2.2.2.2.2.2.1
  have hnw := nat_words
  simp only [List.map_cons]
  rw [tv_r G h2, e1]
  refine dx_copy F.1 F.2.1 (by rw [F.2.2.2.2.1]; exact hl.1.1.symm) F.own (F.ts _ hq.1) (F.ts _ hq.2.1) (F.ts _ hq.2.2.1) (F.ts _ hq.2.2.2) e2 e3 e4 e5 (f := fun k => .int (Int32.ofInt (mci M c k))) (g := elemV G M a 100) (fun k hk => e8 k hk) g2 hA (by rw [z_lt i3]; omega) (by rw [z_lt i2]; omega) (by rw [z_lt i1]; omega) (by rw [clamp32 i3, clamp32 i1]; omega) (by rw [clamp32 i2, clamp32 i1]; omega) (Or.inl ⟨rfl, fun k => ⟨_, rfl⟩⟩) (by omega) (by omega) hd fun H1 locs1 f1 f2 f3 f4 => ?_
  refine w H1 locs1 (hR.chg h2 g1 rfl rfl (fun b k hb => if_neg fun q => hb q.1) (fun _ _ _ => rfl) (fun _ _ _ => rfl) (fun k => ?_) (fun k => hR.2.2.2.2.2.2 a k) f2 f3 fun t' n' hs' => ?_) f2 (fun z hz => ?_)
  · show i32 (if a = a ∧ dp ≤ k ∧ k < dp + n then mci M c (sp + (k - dp)) else mci M a k)
    split
    · exact hR.2.2.2.2.2.1 _ _
    · exact hR.2.2.2.2.2.1 _ _
  · cases hs'.symm.trans hs1
    refine ⟨g3, g4, fun h => absurd h (by omega), fun _ => ?_⟩
    rw [f1]
    congr 2
    funext k
    rw [va_cpy_get, clamp32 i2, clamp32 i1, clamp32 i3]
    show _ = Value.int (Int32.ofInt (if a = a ∧ dp ≤ (k : Int) ∧ (k : Int) < dp + n then mci M c (sp + (k - dp)) else mci M a k))
    by_cases hk : dp.toNat ≤ k ∧ k < dp.toNat + n.toNat
    · rw [if_pos hk, if_pos ⟨rfl, by omega, by omega⟩]
      congr 3
      omega
    · rw [if_neg hk, if_neg (fun q => hk (by omega))]
      rfl
  · rcases f4 z hz with h | h
    · exact hlo z h
    · rw [h]; exact Nat.le_add_right _ _
theorem x_copyR {E : String} (ht : t = 123 ∨ t = 126 ∨ t = 134 ∨ t = 140) (hE : aTy t = .object E) (hq : ACk j.1.cls idx) (hdp : 4 ≤ d) (hd : decode j.2.1 pc = .ok (.invokestatic idx, 3)) (hs : msh M c = some (t, n0)) (h2 : 0 ≤ a) (hs1 : msh M a = some (t, n1)) (p1 : 0 ≤ sp) (p2 : 0 ≤ dp) (p3 : 0 ≤ n) (p4 : sp + n ≤ n0) (p5 : dp + n ≤ n1) (hS0 : S.length ≤ 8) (hel : ∀ k b, sp ≤ k → k < sp + n → mcr M c k = some b → anyR G M E b) (kk : WP G d j (pc + 3) L S (mD M c sp a dp n) Q) : WP G d j pc L (dI n :: dI dp :: dR a :: dI sp :: dR c :: S) M Q := by
  have hto : tOk t = true := by rcases ht with rfl | rfl | rfl | rfl <;> rfl
  refine WP.of (Sx.put (M' := mD M c sp a dp n) rfl rfl fun p e R s m args below meth cc H locs cells slots ls Q F hR hl hlo hS => ⟨okS_tail (okS_tail (okS_tail (okS_tail (okS_tail hS)))), fun w => ?_⟩) kk
  obtain ⟨g1, g2, g3, g4⟩ := hR.arrN h2 (tOk_ge hto).1 hs1
  obtain ⟨q, cell, e1, e2, e3, e4, e5, e6, e7, e8⟩ := hR.arr F.W hto hs
  have i1 : i32 n := okS_head hS
  have i2 : i32 dp := okS_head (okS_tail hS)
  have i3 : i32 sp := okS_head (okS_tail (okS_tail (okS_tail hS)))
  have hA := F.W.arr (tOk_or hto)
  have el : ∀ (M' : Mem) (b : Int) (k : Nat), elemV G M' b t k = tv G (dO (mcr M' b k)) := by
    intro M' b k
    rcases ht with rfl | rfl | rfl | rfl <;> rfl
  have hcat : ((S.map (tv G)).map fun v => v.category).sum ≤ 16 := by
    clear w kk hS
    have : ∀ S : List DV, ((S.map (tv G)).map fun v => v.category).sum ≤ 2 * S.length := by
      intro S
      induction S with
      | nil => simp
      | cons v S ih =>
        have hc := tv_cat F.W v
        simp only [List.map_cons, List.sum_cons, List.length_cons]
        split at hc <;> omega
    have := this S
    omega
  have hfr : d ≤ R.frames := F.2.2.2.2.2.2.2.2.2.2.1
  have hlo9 : 64 * d ≤ R.locals := F.2.2.2.2.2.2.2.2.2.2.2.1
  have hnw := nat_words
  simp only [List.map_cons]
  rw [tv_r G h2, e1]
  refine dx_copy F.1 F.2.1 (by rw [F.2.2.2.2.1]; exact hl.1.1.symm) F.own (F.ts _ hq.1) (F.ts _ hq.2.1) (F.ts _ hq.2.2.1) (F.ts _ hq.2.2.2) e2 e3 e4 e5 (f := elemV G M c t) (g := elemV G M a t) (fun k hk => e8 k hk) g2 hA.1 (by rw [z_lt i3]; omega) (by rw [z_lt i2]; omega) (by rw [z_lt i1]; omega) (by rw [clamp32 i3, clamp32 i1]; omega) (by rw [clamp32 i2, clamp32 i1]; omega) (Or.inr ⟨E, hE, hA.2, fun k hk => ?_⟩) (by omega) (by omega) hd fun H1 locs1 f1 f2 f3 f4 => ?_
  · rw [clamp32 i1] at hk
    rw [clamp32 i3, el]
    cases hr : mcr M c ((sp.toNat + k : Nat) : Int) with
    | none => exact Or.inl rfl
    | some b =>
      obtain ⟨v, ev, hv⟩ := hel _ b (by omega) (by omega) hr s H F.W hR
      exact Or.inr ⟨v, ev, hv⟩
  refine w H1 locs1 (hR.chg h2 g1 rfl rfl (fun _ _ _ => rfl) (fun b k hb => if_neg fun q => hb q.1) (fun _ _ _ => rfl) (fun k => hR.2.2.2.2.2.1 a k) (fun k => hR.2.2.2.2.2.2 a k) f2 f3 fun t' n' hs' => ?_) f2 (fun z hz => ?_)
  · cases hs'.symm.trans hs1
    refine ⟨g3, g4, fun h => absurd h (tOk_ge hto).1, fun _ => ?_⟩
    rw [f1]
    congr 2
    funext k
    rw [va_cpy_get, clamp32 i2, clamp32 i1, clamp32 i3, el, el, el]
    show _ = tv G (dO (if a = a ∧ dp ≤ (k : Int) ∧ (k : Int) < dp + n then mcr M c (sp + (k - dp)) else mcr M a k))
    by_cases hk : dp.toNat ≤ k ∧ k < dp.toNat + n.toNat
    · rw [if_pos hk, if_pos ⟨rfl, by omega, by omega⟩]
      congr 3
      omega
    · rw [if_neg hk, if_neg (fun q => hk (by omega))]
  · rcases f4 z hz with h | h
    · exact hlo z h
    · rw [h]; exact Nat.le_add_right _ _
end CR
