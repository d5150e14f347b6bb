/-! WRAPPERS for printed walks: fields by whole numbers, calls by what they return -/
/-- other ints over the same cells -/
def wI (M : Mem) (g : Int → Int → Int) : Mem := (M.1, g, M.2.2)
def up (f : Int → Int → Int) (a i v : Int) : Int → Int → Int := fun b k => if b = a ∧ k = i then v else f b k
theorem up_s {f : Int → Int → Int} {a i v : Int} : up f a i v a i = v := if_pos ⟨rfl, rfl⟩
theorem up_n {f : Int → Int → Int} {a i v b k : Int} (h : ¬ (b = a ∧ k = i)) : up f a i v b k = f b k := if_neg h
theorem up_e (f : Int → Int → Int) (a i v b k : Int) : up f a i v b k = if b = a ∧ k = i then v else f b k := rfl
theorem wI_id (M : Mem) : wI M (mci M) = M := rfl
theorem mI_wI (M : Mem) (a i v : Int) : mI M a i v = wI M (up (mci M) a i v) := rfl
theorem mI_wI2 (M : Mem) (g : Int → Int → Int) (a i v : Int) : mI (wI M g) a i v = wI M (up g a i v) := rfl
theorem wI_wI (M : Mem) (g h : Int → Int → Int) : wI (wI M g) h = wI M h := rfl
theorem mci_mI (M : Mem) (a i v b k : Int) : mci (mI M a i v) b k = if b = a ∧ k = i then v else mci M b k := rfl
theorem mci_wI (M : Mem) (g : Int → Int → Int) : mci (wI M g) = g := rfl
theorem msh_mI (M : Mem) (a i v : Int) : msh (mI M a i v) = msh M := rfl
theorem mcr_mI (M : Mem) (a i v : Int) : mcr (mI M a i v) = mcr M := rfl
theorem mcl_mI (M : Mem) (a i v : Int) : mcl (mI M a i v) = mcl M := rfl
def vB (p : Prop) [Decidable p] : Int := if p then 1 else 0
theorem vB_t {p : Prop} [Decidable p] (h : p) : vB p = 1 := if_pos h
theorem vB_f {p : Prop} [Decidable p] (h : ¬ p) : vB p = 0 := if_neg h
theorem vB_r (p : Prop) [Decidable p] : vB p = 0 ∨ vB p = 1 := by
  unfold vB
  split
  · exact Or.inr rfl
  · exact Or.inl rfl
def postI (P : Int → Mem → Prop) : Res → Mem → Prop := fun r M => ∃ x, r = rV (dI x) ∧ P x M
def postL (P : Int → Mem → Prop) : Res → Mem → Prop := fun r M => ∃ x, r = rV (dL x) ∧ P x M
def postR (P : Option Int → Mem → Prop) : Res → Mem → Prop := fun r M => ∃ x, r = rV (dO x) ∧ P x M
def postN (P : Mem → Prop) : Res → Mem → Prop := fun r M => r = rN ∧ P M
/-- or throws -/
def orT (Q : Res → Mem → Prop) (PX : Int → String → Mem → Prop) : Res → Mem → Prop := fun r M => Q r M ∨ ∃ a E, r = rT a E ∧ PX a E M
theorem rVi {x y : DV} (h : (Sum.inl (some x) : Res) = rV y) : x = y := by cases h; rfl
section GW
variable {G : GW} {d : Nat} {j : MI} {pc : Nat} {L : LV} {S : List DV} {M : Mem} {Q : Res → Mem → Prop} {a x kI : Int} {t k idx : Nat} {n : Int} {fin : Bool}
theorem g_getI (hk : ((k : Nat) : Int) = kI) (hd : decode j.2.1 pc = .ok (.getfield idx, 3)) (hf : FA j.1.cls idx t k 0 fin) (hs : msh M a = some (t, n)) (kk : WP G d j (pc + 3) L (dI (mci M a kI) :: S) M Q) : WP G d j pc L (dR a :: S) M Q := by subst hk; exact x_getI hd hf hs kk
theorem g_getZ (hk : ((k : Nat) : Int) = kI) (hd : decode j.2.1 pc = .ok (.getfield idx, 3)) (hf : FA j.1.cls idx t k 3 fin) (hs : msh M a = some (t, n)) (kk : WP G d j (pc + 3) L (dI (mci M a kI) :: S) M Q) : WP G d j pc L (dR a :: S) M Q := by subst hk; exact x_getZ hd hf hs kk
theorem g_getL (hk : ((k : Nat) : Int) = kI) (hd : decode j.2.1 pc = .ok (.getfield idx, 3)) (hf : FA j.1.cls idx t k 2 fin) (hs : msh M a = some (t, n)) (kk : WP G d j (pc + 3) L (dL (mcl M a kI) :: S) M Q) : WP G d j pc L (dR a :: S) M Q := by subst hk; exact x_getL hd hf hs kk
theorem g_getR {r : Option Int} (hk : ((k : Nat) : Int) = kI) (hd : decode j.2.1 pc = .ok (.getfield idx, 3)) (hf : FA j.1.cls idx t k 1 fin) (hs : msh M a = some (t, n)) (hr : mcr M a kI = r) (kk : WP G d j (pc + 3) L (dO r :: S) M Q) : WP G d j pc L (dR a :: S) M Q := by subst hk; exact x_getR hd hf hs hr kk
theorem g_putI (hk : ((k : Nat) : Int) = kI) (hd : decode j.2.1 pc = .ok (.putfield idx, 3)) (hf : FA j.1.cls idx t k 0 false) (hs : msh M a = some (t, n)) (kk : WP G d j (pc + 3) L S (mI M a kI x) Q) : WP G d j pc L (dI x :: dR a :: S) M Q := by subst hk; exact x_putI hd hf hs kk
theorem g_putZ (hx : x = 0 ∨ x = 1) (hk : ((k : Nat) : Int) = kI) (hd : decode j.2.1 pc = .ok (.putfield idx, 3)) (hf : FA j.1.cls idx t k 3 false) (hs : msh M a = some (t, n)) (kk : WP G d j (pc + 3) L S (mI M a kI x) Q) : WP G d j pc L (dI x :: dR a :: S) M Q := by subst hk; exact x_putZ hx hd hf hs kk
theorem g_putR {r : Option Int} (hk : ((k : Nat) : Int) = kI) (hd : decode j.2.1 pc = .ok (.putfield idx, 3)) (hf : FA j.1.cls idx t k 1 false) (hs : msh M a = some (t, n)) (kk : WP G d j (pc + 3) L S (mR M a kI r) Q) : WP G d j pc L (dO r :: dR a :: S) M Q := by subst hk; exact x_putR hd hf hs kk
theorem g_putIF (hk : ((k : Nat) : Int) = kI) (hd : decode j.2.1 pc = .ok (.putfield idx, 3)) (hf : FA j.1.cls idx t k 0 true) (hfin : FF j idx t k) (hs : msh M a = some (t, n)) (kk : WP G d j (pc + 3) L S (mI M a kI x) Q) : WP G d j pc L (dI x :: dR a :: S) M Q := by subst hk; exact x_putIF hd hf hfin hs kk
theorem g_putZF (hx : x = 0 ∨ x = 1) (hk : ((k : Nat) : Int) = kI) (hd : decode j.2.1 pc = .ok (.putfield idx, 3)) (hf : FA j.1.cls idx t k 3 true) (hfin : FF j idx t k) (hs : msh M a = some (t, n)) (kk : WP G d j (pc + 3) L S (mI M a kI x) Q) : WP G d j pc L (dI x :: dR a :: S) M Q := by subst hk; exact x_putZF hx hd hf hfin hs kk
theorem g_putRF {r : Option Int} (hk : ((k : Nat) : Int) = kI) (hd : decode j.2.1 pc = .ok (.putfield idx, 3)) (hf : FA j.1.cls idx t k 1 true) (hfin : FF j idx t k) (hs : msh M a = some (t, n)) (kk : WP G d j (pc + 3) L S (mR M a kI r) Q) : WP G d j pc L (dO r :: dR a :: S) M Q := by subst hk; exact x_putRF hd hf hfin hs kk
end GW
/-- a class of a receiver -/
theorem rcv_o {M : Mem} {C : String} {a : Int} {vs : List DV} {t : Nat} {n : Int} {T : u_T} {N : Nat} (hs : msh M a = some (t, n)) (hc : clG[t]? = some (C, T, N)) : ∀ C', some C = some C' → rcv M C' (dR a :: vs) := by
  intro C' h
  cases h
  exact ⟨a, vs, rfl, Or.inl ⟨t, n, T, N, hs, hc⟩⟩
theorem rcv_s {M : Mem} {a : Int} {vs : List DV} {n : Int} (h0 : a < 0) (hs : msh M a = some (99, n)) : ∀ C', some "java/lang/String" = some C' → rcv M C' (dR a :: vs) := by
  intro C' h
  cases h
  exact ⟨a, vs, rfl, Or.inr ⟨h0, rfl, n, hs⟩⟩
theorem rcv_n {M : Mem} {vs : List DV} : ∀ C' : String, (none : Option String) = some C' → rcv M C' vs := fun C' h => nomatch h
section GC
variable {G : GW} {d d' len k : Nat} {j jm : MI} {pc : Nat} {L : LV} {S St : List DV} {M : Mem} {Q : Res → Mem → Prop} {vs : List DV} {ins : Instr} {rc : Option String}
theorem g_callI {P : Int → Mem → Prop} (hst : St = vs.reverse ++ S) (hcs : CS G d' jm vs M (postI P)) (hd : decode j.2.1 pc = .ok (ins, len)) (hl : LKs G ins len j.1.cls jm k rc) (hdp : d' + 1 ≤ d) (hmx : jm.2.2.1 ≤ 45) (hk : vs.length = k) (hS0 : S.length ≤ 4) (hrc : ∀ C, rc = some C → rcv M C vs) (hret : ∀ x M1, P x M1 → WP G d j (pc + len) L (dI x :: S) M1 Q) : WP G d j pc L St M Q :=
  x_call hst hd hl hdp hmx hk hS0 hrc hcs (fun v M1 h => by obtain ⟨x, e, h⟩ := h; cases e; exact hret x M1 h) (fun a E M1 h => by obtain ⟨x, e, h⟩ := h; cases e)
theorem g_callL {P : Int → Mem → Prop} (hst : St = vs.reverse ++ S) (hcs : CS G d' jm vs M (postL P)) (hd : decode j.2.1 pc = .ok (ins, len)) (hl : LKs G ins len j.1.cls jm k rc) (hdp : d' + 1 ≤ d) (hmx : jm.2.2.1 ≤ 45) (hk : vs.length = k) (hS0 : S.length ≤ 4) (hrc : ∀ C, rc = some C → rcv M C vs) (hret : ∀ x M1, P x M1 → WP G d j (pc + len) L (dL x :: S) M1 Q) : WP G d j pc L St M Q :=
  x_call hst hd hl hdp hmx hk hS0 hrc hcs (fun v M1 h => by obtain ⟨x, e, h⟩ := h; cases e; exact hret x M1 h) (fun a E M1 h => by obtain ⟨x, e, h⟩ := h; cases e)
theorem g_callR {P : Option Int → Mem → Prop} (hst : St = vs.reverse ++ S) (hcs : CS G d' jm vs M (postR P)) (hd : decode j.2.1 pc = .ok (ins, len)) (hl : LKs G ins len j.1.cls jm k rc) (hdp : d' + 1 ≤ d) (hmx : jm.2.2.1 ≤ 45) (hk : vs.length = k) (hS0 : S.length ≤ 4) (hrc : ∀ C, rc = some C → rcv M C vs) (hret : ∀ x M1, P x M1 → WP G d j (pc + len) L (dO x :: S) M1 Q) : WP G d j pc L St M Q :=
  x_call hst hd hl hdp hmx hk hS0 hrc hcs (fun v M1 h => by obtain ⟨x, e, h⟩ := h; cases e; exact hret x M1 h) (fun a E M1 h => by obtain ⟨x, e, h⟩ := h; cases e)
theorem g_callN {P : Mem → Prop} (hst : St = vs.reverse ++ S) (hcs : CS G d' jm vs M (postN P)) (hd : decode j.2.1 pc = .ok (ins, len)) (hl : LKs G ins len j.1.cls jm k rc) (hdp : d' + 1 ≤ d) (hmx : jm.2.2.1 ≤ 45) (hk : vs.length = k) (hS0 : S.length ≤ 4) (hrc : ∀ C, rc = some C → rcv M C vs) (hret : ∀ M1, P M1 → WP G d j (pc + len) L S M1 Q) : WP G d j pc L St M Q :=
  x_call hst hd hl hdp hmx hk hS0 hrc hcs (fun v M1 h => by obtain ⟨e, h⟩ := h; cases e; exact hret M1 h) (fun a E M1 h => by obtain ⟨e, h⟩ := h; cases e)
theorem g_callIX {P : Int → Mem → Prop} {PX : Int → String → Mem → Prop} (hst : St = vs.reverse ++ S) (hcs : CS G d' jm vs M (orT (postI P) PX)) (hd : decode j.2.1 pc = .ok (ins, len)) (hl : LKs G ins len j.1.cls jm k rc) (hdp : d' + 1 ≤ d) (hmx : jm.2.2.1 ≤ 45) (hk : vs.length = k) (hS0 : S.length ≤ 4) (hrc : ∀ C, rc = some C → rcv M C vs) (hret : ∀ x M1, P x M1 → WP G d j (pc + len) L (dI x :: S) M1 Q) (hthr : ∀ a E M1, PX a E M1 → ThW G d j pc L a E M1 Q) : WP G d j pc L St M Q :=
  x_call hst hd hl hdp hmx hk hS0 hrc hcs (fun v M1 h => by rcases h with ⟨x, e, h⟩ | ⟨a, E, e, h⟩ <;> cases e; exact hret x M1 h) (fun a E M1 h => by rcases h with ⟨x, e, h⟩ | ⟨a, E, e, h⟩ <;> cases e; exact hthr _ _ M1 h)
theorem g_callRX {P : Option Int → Mem → Prop} {PX : Int → String → Mem → Prop} (hst : St = vs.reverse ++ S) (hcs : CS G d' jm vs M (orT (postR P) PX)) (hd : decode j.2.1 pc = .ok (ins, len)) (hl : LKs G ins len j.1.cls jm k rc) (hdp : d' + 1 ≤ d) (hmx : jm.2.2.1 ≤ 45) (hk : vs.length = k) (hS0 : S.length ≤ 4) (hrc : ∀ C, rc = some C → rcv M C vs) (hret : ∀ x M1, P x M1 → WP G d j (pc + len) L (dO x :: S) M1 Q) (hthr : ∀ a E M1, PX a E M1 → ThW G d j pc L a E M1 Q) : WP G d j pc L St M Q :=
  x_call hst hd hl hdp hmx hk hS0 hrc hcs (fun v M1 h => by rcases h with ⟨x, e, h⟩ | ⟨a, E, e, h⟩ <;> cases e; exact hret x M1 h) (fun a E M1 h => by rcases h with ⟨x, e, h⟩ | ⟨a, E, e, h⟩ <;> cases e; exact hthr _ _ M1 h)
theorem g_callNX {P : Mem → Prop} {PX : Int → String → Mem → Prop} (hst : St = vs.reverse ++ S) (hcs : CS G d' jm vs M (orT (postN P) PX)) (hd : decode j.2.1 pc = .ok (ins, len)) (hl : LKs G ins len j.1.cls jm k rc) (hdp : d' + 1 ≤ d) (hmx : jm.2.2.1 ≤ 45) (hk : vs.length = k) (hS0 : S.length ≤ 4) (hrc : ∀ C, rc = some C → rcv M C vs) (hret : ∀ M1, P M1 → WP G d j (pc + len) L S M1 Q) (hthr : ∀ a E M1, PX a E M1 → ThW G d j pc L a E M1 Q) : WP G d j pc L St M Q :=
  x_call hst hd hl hdp hmx hk hS0 hrc hcs (fun v M1 h => by rcases h with ⟨e, h⟩ | ⟨a, E, e, h⟩ <;> cases e; exact hret M1 h) (fun a E M1 h => by rcases h with ⟨e, h⟩ | ⟨a, E, e, h⟩ <;> cases e; exact hthr _ _ M1 h)
end GC
theorem kObj : Cond.instanceMethod objectInit ∈ lw_all ∧ Cond.code objectInit ⟨#[0xb1]⟩ 1 none ∈ lw_all := ⟨q193, q194⟩
theorem x_objInit {G : GW} {d : Nat} {j : MI} {pc idx : Nat} {L : LV} {S : List DV} {M : Mem} {Q : Res → Mem → Prop} {a : Int} (h0 : 0 ≤ a) (hq : Cond.methodLink j.1.cls idx objectInit ∈ lw_all) (hdp : 1 ≤ d) (hS0 : S.length ≤ 4) (hd : decode j.2.1 pc = .ok (.invokespecial idx, 3)) (kk : WP G d j (pc + 3) L S M Q) : WP G d j pc L (dR a :: S) M Q := by
  refine WP.of (Sx.st fun p e R s m args below meth c H locs cells slots ls Q F hR hl hS => ⟨okS_tail hS, fun w => ?_⟩) kk
  have hfr : d ≤ R.frames := F.2.2.2.2.2.2.2.2.2.2.1
  have hlo9 : 64 * d ≤ R.locals := F.2.2.2.2.2.2.2.2.2.2.2.1
  have hcs := catS F.W S
  rw [List.map_cons, tv_r G h0]
  exact W.objInit F.1 F.2.1 F.own (F.ts _ hq) (F.ts _ kObj.1) (F.ts _ kObj.2) rfl (by rw [F.2.2.2.2.1]; exact hl.1.1) rfl hd (by omega) (by show 2 * 0 + _ + 12 ≤ _; omega) w
/-! READS of changed memories, by cases that omega tells -/
theorem rdI_e {M : Mem} {a i v b k : Int} (h : b = a ∧ k = i) : mci (mI M a i v) b k = v := if_pos h
theorem rdI_n {M : Mem} {a i v b k : Int} (h : ¬ (b = a ∧ k = i)) : mci (mI M a i v) b k = mci M b k := if_neg h
theorem rdC_i {M : Mem} {c a sp dp n b k : Int} (h : b = a ∧ dp ≤ k ∧ k < dp + n) : mci (mC M c sp a dp n) b k = mci M c (sp + (k - dp)) := if_pos h
theorem rdC_o {M : Mem} {c a sp dp n b k : Int} (h : ¬ (b = a ∧ dp ≤ k ∧ k < dp + n)) : mci (mC M c sp a dp n) b k = mci M b k := if_neg h
theorem rdW {M : Mem} {g : Int → Int → Int} {b k : Int} : mci (wI M g) b k = g b k := rfl
theorem rdR {M : Mem} {a i : Int} {v : Option Int} {b k : Int} : mci (mR M a i v) b k = mci M b k := rfl
theorem rdU_e {f : Int → Int → Int} {a i v b k : Int} (h : b = a ∧ k = i) : up f a i v b k = v := if_pos h
theorem rdU_n {f : Int → Int → Int} {a i v b k : Int} (h : ¬ (b = a ∧ k = i)) : up f a i v b k = f b k := if_neg h
theorem exI {M M1 : Mem} {P : (Int → Int → Int) → Prop} (e : M1 = wI M (mci M1)) (h : P (mci M1)) : ∃ g, M1 = wI M g ∧ P g := ⟨_, e, h⟩
