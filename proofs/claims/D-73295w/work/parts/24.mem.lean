/-! RULES: fields, arrays, new cells -/
/-- one place of an int changed -/
def mI (M : Mem) (a i v : Int) : Mem := (M.1, fun b k => if b = a ∧ k = i then v else M.2.1 b k, M.2.2)
def mR (M : Mem) (a i : Int) (r : Option Int) : Mem := (M.1, M.2.1, fun b k => if b = a ∧ k = i then r else M.2.2.1 b k, M.2.2.2)
def mL (M : Mem) (a i v : Int) : Mem := (M.1, M.2.1, M.2.2.1, fun b k => if b = a ∧ k = i then v else M.2.2.2.1 b k, M.2.2.2.2)
/-- a new cell of this shape, of so many slots -/
def mN (M : Mem) (t : Nat) (n : Int) (sl : Nat) : Mem :=
  (fun b => if b = (mnx M : Int) then some (t, n) else M.1 b, fun b k => if b = (mnx M : Int) then 0 else M.2.1 b k, fun b k => if b = (mnx M : Int) then none else M.2.2.1 b k, fun b k => if b = (mnx M : Int) then 0 else M.2.2.2.1 b k, mnx M + 1, mns M + sl)
theorem clG_lt {t : Nat} {r : vw_C} (h : clG[t]? = some r) : t < 19 := (List.getElem?_eq_some_iff.mp h).1
/-- what is known of each class of ours -/
theorem clG_ok {t : Nat} {C : String} {T : u_T} {N : Nat} (h : clG[t]? = some (C, T, N)) : (∀ w ∈ u_ws C T N, w ∈ lw_all) ∧ (∀ a, a < N → ∀ b, b < N → a ≠ b → (T a).2.1 ≠ (T b).2.1) ∧ ∃ ty : Nat → FieldType, (∀ k, k < N → parseFieldDescriptor (T k).2.2.1 = some (ty k)) ∧ ∀ k, fK t k = tyK (ty k) := by
  match t, h with
  | 0, h => cases h; exact ⟨in_X1, nmX1, tyX1, tyX1_ok, fun k => rfl⟩
  | 1, h => cases h; exact ⟨in_X1, nmX1, tyX1, tyX1_ok, fun k => rfl⟩
  | 2, h => cases h; exact ⟨in_X2, nmX2, tyX2, tyX2_ok, fun k => rfl⟩
  | 3, h => cases h; exact ⟨in_X3, nmX3, tyX3, tyX3_ok, fun k => rfl⟩
  | 4, h => cases h; exact ⟨in_X4, nmX4, tyX4, tyX4_ok, fun k => rfl⟩
  | 5, h => cases h; exact ⟨in_X5, nmX5, tyX5, tyX5_ok, fun k => rfl⟩
  | 6, h => cases h; exact ⟨in_X6, nmX6, tyX6, tyX6_ok, fun k => rfl⟩
  | 7, h => cases h; exact ⟨in_X7, nmX7, tyX7, tyX7_ok, fun k => rfl⟩
  | 8, h => cases h; exact ⟨in_X8, nmX8, tyX8, tyX8_ok, fun k => rfl⟩
  | 9, h => cases h; exact ⟨in_X9, nmX9, tyX9, tyX9_ok, fun k => rfl⟩
  | 10, h => cases h; exact ⟨in_X10, nmX10, tyX10, tyX10_ok, fun k => rfl⟩
  | 11, h => cases h; exact ⟨in_X11, nmX11, tyX11, tyX11_ok, fun k => rfl⟩
  | 12, h => cases h; exact ⟨in_X12, nmX12, tyX12, tyX12_ok, fun k => rfl⟩
  | 13, h => cases h; exact ⟨in_X13, nmX13, tyX13, tyX13_ok, fun k => rfl⟩
  | 14, h => cases h; exact ⟨in_X15, nmX15, tyX15, tyX15_ok, fun k => rfl⟩
  | 15, h => cases h; exact ⟨in_X15, nmX15, tyX15, tyX15_ok, fun k => rfl⟩
  | 16, h => cases h; exact ⟨in_X16, nmX16, tyX16, tyX16_ok, fun k => rfl⟩
  | 17, h => cases h; exact ⟨in_X17, nmX17, tyX17, tyX17_ok, fun k => rfl⟩
  | 18, h => cases h; exact ⟨(fun w h => nomatch h), fun a h => absurd h (Nat.not_lt_zero a), tyX17, fun k h => absurd h (Nat.not_lt_zero k), fun k => rfl⟩
  | t + 19, h => exact absurd (clG_lt h) (by omega)
/-- the field k of class t, by entry idx of the class own: its link (a nest mate's in the tables, else in the list), how it is kept, final or not -/
def FA (own : String) (idx t k kd : Nat) (fin : Bool) : Prop := ∃ (C : String) (T : u_T) (N : Nat), clG[t]? = some (C, T, N) ∧ k < N ∧ fK t k = kd ∧ (T k).2.2.2 = fin ∧
  (Cond.fieldLink own idx (T k).1 (T k).2.1 (T k).2.2.1 ∈ lw_all ∨ ∃ host, Cond.fieldLinkNest own idx (T k).1 (T k).2.1 (T k).2.2.1 host ∈ lw_tbl)
theorem Rp.lt {G : GW} {M : Mem} {H : Heap} {s : State} (hR : Rp G M H) (hW : Wd G s) {a : Int} {t : Nat} {n : Int} (hs : msh M a = some (t, n)) (ht : t < 19) : 0 ≤ a ∧ a < mnx M := by
  refine ⟨?_, ?_⟩
  · by_cases h : 0 ≤ a
    · exact h
    · have h1 := (hR.2.2.2.1 a (by omega)).1
      rw [hs] at h1
      have h2 := ((hW.2.2.2.1.2 a t n (by omega) h1.symm).2.2.2 (by omega)).1
      omega
  · by_cases h : a < mnx M
    · exact h
    · rw [hR.2.2.1 a (by omega)] at hs
      cases hs
theorem Rp.ob {G : GW} {M : Mem} {H : Heap} {s : State} (hR : Rp G M H) (hW : Wd G s) {a : Int} {t : Nat} {n : Int} (hs : msh M a = some (t, n)) {C : String} {T : u_T} {N : Nat} (hc : clG[t]? = some (C, T, N)) : 0 ≤ a ∧ a < mnx M ∧ t_OB (gB G + a.toNat) ((gD G).1 t) N ((gD G).2 t) H (cellV G M a t) := by
  have ht := clG_lt hc
  obtain ⟨h0, h1⟩ := hR.lt hW hs ht
  refine ⟨h0, h1, ?_⟩
  obtain ⟨r, e1, e2⟩ := (hR.2.1 a h0 h1 t n hs).2.2.1 (by omega)
  cases e1.symm.trans hc
  exact e2
/-- getfield, whatever it reads -/
theorem x_getf {G : GW} {d : Nat} {j : MI} {pc : Nat} {L : LV} {S : List DV} {M : Mem} {Q : Res → Mem → Prop} {a : Int} {t k kd idx : Nat} {n : Int} {fin : Bool} {v : DV} (hd : decode j.2.1 pc = .ok (.getfield idx, 3)) (hf : FA j.1.cls idx t k kd fin) (hs : msh M a = some (t, n)) (hv : ∀ H, Rp G M H → okV v ∧ tv G v = cellV G M a t k) (kk : WP G d j (pc + 3) L (v :: S) M Q) : WP G d j pc L (dR a :: S) M Q := by
  refine WP.of (Sx.st fun p e R s m args below meth c H locs cells slots ls Q F hR hl hS => ⟨okS_cons (hv H hR).1 (okS_tail hS), fun w => ?_⟩) kk
  obtain ⟨C, T, N, hc, hk, hkd, -, hlink⟩ := hf
  obtain ⟨h0, h1, cell, q1, q2, q3, q4⟩ := hR.ob F.W hs hc
  obtain ⟨hS', hfc, kC, hkC, hkind⟩ := F.W.1.1 t _ hc
  obtain ⟨cf, kf, fi, f, hi, hsl⟩ := hS' k hk
  have hin := (clG_ok hc).1
  rw [List.map_cons, tv_r G h0]
  rw [List.map_cons, (hv H hR).2] at w
  have hslot : cell.slots[f.slot]? = some (cellV G M a t k) := by rw [hsl]; exact q4 k hk
  rcases hlink with hq | ⟨host, hq⟩
  · exact W.getf F.1 F.2.1 F.own (F.ts _ hq) hi (u_facts hfc hkC (u_lays F.ts hin hk) hi).1 q1 (by rw [q3]; exact fun h => by cases h) hslot rfl rfl hd w
  · exact va_Wgetf F.1 F.2.1 F.own (va_Nw.use rfl (F.W.2.1 _ hq rfl)) hi (u_facts hfc hkC (u_lays F.ts hin hk) hi).1 q1 (by rw [q3]; exact fun h => by cases h) hslot rfl rfl hd w
section MR
variable {G : GW} {d : Nat} {j : MI} {pc : Nat} {L : LV} {S : List DV} {M : Mem} {Q : Res → Mem → Prop} {a : Int} {t k idx : Nat} {n : Int} {fin : Bool}
theorem x_getI (hd : decode j.2.1 pc = .ok (.getfield idx, 3)) (hf : FA j.1.cls idx t k 0 fin) (hs : msh M a = some (t, n)) (kk : WP G d j (pc + 3) L (dI (mci M a k) :: S) M Q) : WP G d j pc L (dR a :: S) M Q :=
  x_getf (v := dI (mci M a k)) hd hf hs (fun H hR => ⟨hR.2.2.2.2.2.1 a k, by obtain ⟨_, _, _, _, _, e, -⟩ := hf; unfold cellV; rw [e]; rfl⟩) kk
theorem x_getZ (hd : decode j.2.1 pc = .ok (.getfield idx, 3)) (hf : FA j.1.cls idx t k 3 fin) (hs : msh M a = some (t, n)) (kk : WP G d j (pc + 3) L (dI (mci M a k) :: S) M Q) : WP G d j pc L (dR a :: S) M Q :=
  x_getf (v := dI (mci M a k)) hd hf hs (fun H hR => ⟨hR.2.2.2.2.2.1 a k, by obtain ⟨_, _, _, _, _, e, -⟩ := hf; unfold cellV; rw [e]; rfl⟩) kk
theorem x_getL (hd : decode j.2.1 pc = .ok (.getfield idx, 3)) (hf : FA j.1.cls idx t k 2 fin) (hs : msh M a = some (t, n)) (kk : WP G d j (pc + 3) L (dL (mcl M a k) :: S) M Q) : WP G d j pc L (dR a :: S) M Q :=
  x_getf (v := dL (mcl M a k)) hd hf hs (fun H hR => ⟨hR.2.2.2.2.2.2 a k, by obtain ⟨_, _, _, _, _, e, -⟩ := hf; unfold cellV; rw [e]; rfl⟩) kk
theorem x_getR {r : Option Int} (hd : decode j.2.1 pc = .ok (.getfield idx, 3)) (hf : FA j.1.cls idx t k 1 fin) (hs : msh M a = some (t, n)) (hr : mcr M a k = r) (kk : WP G d j (pc + 3) L (dO r :: S) M Q) : WP G d j pc L (dR a :: S) M Q :=
  x_getf (v := dO r) hd hf hs (fun H hR => ⟨trivial, by obtain ⟨_, _, _, _, _, e, -⟩ := hf; unfold cellV; rw [e, ← hr]; rfl⟩) kk
end MR
/-- stores: the step -/
theorem Sx.put {G : GW} {d : Nat} {j : MI} {pc pc' : Nat} {L : LV} {S S' : List DV} {M M' : Mem} (e1 : mnx M' = mnx M) (e2 : mns M' = mns M) (h : ∀ (p : Program) (e : Env) (R : Room) (s : State) (m : MethodId) (args : Array Value) (below : List Frame) (meth : Method) (c : Code) (H : Heap) (locs : List Loc) (cells slots : Nat) (ls : Array Slot) (Q : State → Prop),
    Fr G d j p R s m args meth c → Rp G M H → lrep G ls j.2.2.1 L → okLoc G locs → okS S → okS S' ∧ ((∀ (H1 : Heap) (locs1 : List Loc), Rp G M' H1 → H1.size = H.size → okLoc G locs1 → W p (gl G) e R s m args below meth c H1 locs1 cells slots Q (F0 m pc' ls (S'.map (tv G)))) → W p (gl G) e R s m args below meth c H locs cells slots Q (F0 m pc ls (S.map (tv G))))) : Sx G d j pc L S M pc' L S' M' := by
  refine ⟨Nat.le_of_eq e1.symm, Nat.le_of_eq e2.symm, fun p e R s m args below meth c H locs cells slots ls Q F hs hR hl hL hS hc hk k => ?_⟩
  obtain ⟨a, b⟩ := h p e R s m args below meth c H locs cells slots ls Q F hR hL hl hS
  refine b fun H1 locs1 hR1 hz hl1 => ?_
  have k1 := k H1 locs1 ls hR1 (Nat.le_of_eq hz.symm) hl1 hL a
  rw [e1, e2] at k1
  simp only [Nat.sub_self, Nat.add_zero] at k1
  exact k1
/-- one cell of the heap is another: what stays -/
theorem Rp.chg {G : GW} {M M' : Mem} {H H1 : Heap} {a : Int} (hR : Rp G M H) (ha : 0 ≤ a) (ha2 : a < mnx M) (hsh : msh M' = msh M) (hnx : mnx M' = mnx M) (hci : ∀ b i, b ≠ a → mci M' b i = mci M b i) (hcr : ∀ b i, b ≠ a → mcr M' b i = mcr M b i) (hcl : ∀ b i, b ≠ a → mcl M' b i = mcl M b i) (hri : ∀ i, i32 (mci M' a i)) (hrl : ∀ i, i64 (mcl M' a i))
    (hz : H1.size = H.size) (ho : ∀ q : Nat, q ≠ gB G + a.toNat → H1[q]? = H[q]?) (hn : atM G M' a H1) : Rp G M' H1 := by
  obtain ⟨r1, r2, r3, r4, r5, r6, r7⟩ := hR
  refine ⟨by rw [hz, hnx]; exact r1, fun b hb0 hb1 => ?_, fun b hb => by rw [hsh]; exact r3 b (by rw [hnx] at hb; exact hb), fun b hb => ?_, fun q hq => ?_, fun b i => ?_, fun b i => ?_⟩
  · by_cases e : b = a
    · subst e; exact hn
    · have h := r2 b hb0 (by rw [hnx] at hb1; exact hb1)
      intro t n hs
      rw [hsh] at hs
      obtain ⟨a1, a2, a3, a4⟩ := h t n hs
      have ne : gB G + b.toNat ≠ gB G + a.toNat := by omega
      refine ⟨a1, a2, fun ht => ?_, fun ht => ?_⟩
      · obtain ⟨r, e1, e2⟩ := a3 ht
        refine ⟨r, e1, (e2.kept (ho _ ne)).to fun k _ => ?_⟩
        unfold cellV
        rw [hci b _ e, hcr b _ e, hcl b _ e]
      · rw [ho _ ne, a4 ht]
        congr 2
        funext k
        unfold elemV
        rw [hci b _ e, hcr b _ e, hcl b _ e]
  · have ne : b ≠ a := by omega
    rw [hsh]
    exact ⟨(r4 b hb).1, fun i => by rw [hci b i ne, hcr b i ne]; exact (r4 b hb).2 i⟩
  · rw [ho q (by omega)]
    exact r5 q hq
  · by_cases e : b = a
    · subst e; exact hri i
    · rw [hci b i e]; exact r6 b i
  · by_cases e : b = a
    · subst e; exact hrl i
    · rw [hcl b i e]; exact r7 b i
/-- putfield, whatever it writes -/
theorem x_putf {G : GW} {d : Nat} {j : MI} {pc : Nat} {L : LV} {S : List DV} {M M' : Mem} {Q : Res → Mem → Prop} {a : Int} {t k kd idx : Nat} {n : Int} {fin : Bool} {v : DV} (hd : decode j.2.1 pc = .ok (.putfield idx, 3)) (hf : FA j.1.cls idx t k kd fin) (hfin : fin = false ∨ (j.1.name = "<init>" ∧ ∃ r : vw_C, clG[t]? = some r ∧ (r.2.1 k).1 = j.1.cls ∧ Cond.fieldLink j.1.cls idx (r.2.1 k).1 (r.2.1 k).2.1 (r.2.1 k).2.2.1 ∈ lw_all)) (hs : msh M a = some (t, n))
    (hv : okV v → ∀ s, Wd G s → ∀ ty, tyK ty = kd → narrow ty (tv G v) = tv G v ∧ fits ty (tv G v) = true) (hsh : msh M' = msh M) (hnx : mnx M' = mnx M) (hns : mns M' = mns M) (hci : ∀ b i, b ≠ a → mci M' b i = mci M b i) (hcr : ∀ b i, b ≠ a → mcr M' b i = mcr M b i) (hcl : ∀ b i, b ≠ a → mcl M' b i = mcl M b i) (hri : okV v → (∀ i, i32 (mci M a i)) → ∀ i, i32 (mci M' a i)) (hrl : okV v → (∀ i, i64 (mcl M a i)) → ∀ i, i64 (mcl M' a i))
    (hself : cellV G M' a t k = tv G v) (hoth : ∀ i : Nat, i ≠ k → cellV G M' a t i = cellV G M a t i) (kk : WP G d j (pc + 3) L S M' Q) : WP G d j pc L (v :: dR a :: S) M Q := by
  refine WP.of (Sx.put hnx hns fun p e R s m args below meth c H locs cells slots ls Q F hR hl hlo hS => ⟨okS_tail (okS_tail hS), fun w => ?_⟩) kk
  obtain ⟨C, T, N, hc, hk, hkd, hfl, hlink⟩ := hf
  have hob := hR.ob F.W hs hc
  obtain ⟨h0, h1, cell, q1, q2, q3, q4⟩ := hob
  obtain ⟨hS', hfc, kC, hkC, hkind⟩ := F.W.1.1 t _ hc
  obtain ⟨cf, kf, fi, f, hi, hsl⟩ := hS' k hk
  obtain ⟨hin, hnm, ty, hty, hkt⟩ := clG_ok hc
  have hap := va_apart (own := j.1.cls) F.ts hin ty hty hnm F.W.1 hc
  have hokv : okV v := okS_head hS
  have hnf := hv hokv s F.W (ty k) (by rw [← hkt k]; exact hkd)
  have ht100 : t < 19 := clG_lt hc
  have fin1 : ∀ (H1 : Heap), H1[gB G + a.toNat]? = some (cell.setSlot ((gD G).2 t k) (tv G v)) → H1.size = H.size → (∀ q, q ≠ gB G + a.toNat → H1[q]? = H[q]?) → Rp G M' H1 := by
    intro H1 e1 e2 e3
    refine hR.chg h0 h1 hsh hnx hci hcr hcl (hri hokv fun i => hR.2.2.2.2.2.1 a i) (hrl hokv fun i => hR.2.2.2.2.2.2 a i) e2 e3 fun t' n' hs' => ?_
    rw [hsh, hs] at hs'
    cases hs'
    refine ⟨(hR.2.1 a h0 h1 t n hs).1, (hR.2.1 a h0 h1 t n hs).2.1, fun _ => ⟨_, hc, t_OB.to (V := updV (cellV G M a t) k (tv G v)) ⟨_, e1, q2, q3, t_set q4 hap hk (tv G v)⟩ fun i hi => ?_⟩, fun h => absurd ht100 (by omega)⟩
    unfold updV
    by_cases e : i = k
    · subst e; rw [if_pos rfl, hself]
    · rw [if_neg e, hoth i e]
  have locOk : okLoc G (locs ++ [⟨gB G + a.toNat, f.slot⟩]) := by
    intro z hz
    rcases List.mem_append.mp hz with h | h
    · exact hlo z h
    · rw [List.mem_singleton.mp h]
      exact Nat.le_add_right _ _
  rw [List.map_cons, List.map_cons, tv_r G h0]
  have hlay := F.ts _ (hin _ (u_in_lay hk))
  unfold u_lay at hlay
  have hst := (u_facts hfc hkC (u_lays F.ts hin hk) hi).1
  cases fin with
  | false =>
    rw [if_neg (by rw [hfl]; decide)] at hlay
    have h6 := u_store hfc hkC hkind hlay hi (hty k hk) hnf.1 hnf.2
    rcases hlink with hq | ⟨host, hq⟩
    · refine W.putK F.1 F.2.1 (f := f) ⟨F.own, F.ts _ hq, ⟨_, _, _, hi⟩, hst⟩ (by rw [q2]; exact h6) q1 q3 (by rw [hsl]; exact k2_hasslot (q4 k hk)) rfl rfl hd fun H' e1 e2 e3 => ?_
      rw [hsl] at e1
      exact w H' _ (fin1 H' e1 e2 e3) e2 locOk
    · refine va_WputK F.1 F.2.1 (f := f) F.own (va_Nw.use rfl (F.W.2.1 _ hq rfl)) hi hst (by rw [q2]; exact h6) q1 q3 (by rw [hsl]; exact k2_hasslot (q4 k hk)) rfl rfl hd fun H' e1 e2 e3 => ?_
      rw [hsl] at e1
      exact w H' _ (fin1 H' e1 e2 e3) e2 locOk
  | true =>
    rw [if_pos hfl] at hlay
    rcases hfin with hfin | ⟨hinit, r, hr, hdecl, hq⟩
    · cases hfin
    · cases hr.symm.trans hc
      have hcf : m.cls = cf := by
        obtain ⟨_, _, c', _, _, _, -, -, hf', -, -, -, hown2, -⟩ := Cond.laysFinal_spec hlay
        have e1 : c' = cf := by have := hi.symm.trans hf'; simp at this; exact this.1.symm
        rw [hdecl] at hown2
        rw [← e1]; exact Option.some.inj (F.own.symm.trans hown2)
      have h6 := u_fits hfc hkC hkind (Or.inr hlay) hi (hty k hk) hnf.1 hnf.2
      refine W.putFinK F.1 F.2.1 F.own (F.ts _ hq) hi hst hcf (F.2.2.2.2.2.2.2.2.1.trans hinit) (by rw [q2]; exact h6) q1 q3 (by rw [hsl]; exact k2_hasslot (q4 k hk)) rfl rfl hd fun H' e1 e2 e3 => ?_
      rw [hsl] at e1
      exact w H' _ (fin1 H' e1 e2 e3) e2 locOk
theorem ty0 {ty : FieldType} (h : tyK ty = 0) : ty = .int := by
  cases ty <;> first | rfl | (simp [tyK] at h)
theorem ty1 {ty : FieldType} (h : tyK ty = 1) : (∃ C, ty = .object C) ∨ ∃ u, ty = .array u := by
  cases ty <;> first | exact Or.inl ⟨_, rfl⟩ | exact Or.inr ⟨_, rfl⟩ | (simp [tyK] at h)
theorem ty2 {ty : FieldType} (h : tyK ty = 2) : ty = .long := by
  cases ty <;> first | rfl | (simp [tyK] at h)
theorem ty3 {ty : FieldType} (h : tyK ty = 3) : ty = .boolean := by
  cases ty <;> first | rfl | (simp [tyK] at h)
def FF (j : MI) (idx t k : Nat) : Prop := j.1.name = "<init>" ∧ ∃ r : vw_C, clG[t]? = some r ∧ (r.2.1 k).1 = j.1.cls ∧ Cond.fieldLink j.1.cls idx (r.2.1 k).1 (r.2.1 k).2.1 (r.2.1 k).2.2.1 ∈ lw_all
section MP
variable {G : GW} {d : Nat} {j : MI} {pc : Nat} {L : LV} {S : List DV} {M : Mem} {Q : Res → Mem → Prop} {a x : Int} {t k idx : Nat} {n : Int} {fin : Bool}
theorem nI_r {a b i k x : Int} {M : Mem} (hx : i32 x) (h : ∀ i, i32 (mci M a i)) : i32 (mci (mI M a k x) a i) := by
  show i32 (if a = a ∧ i = k then x else mci M a i)
  split
  · exact hx
  · exact h i
theorem x_putI0 {kd : Nat} (hkd : kd = 0 ∨ kd = 3) (hx : kd = 3 → x = 0 ∨ x = 1) (hd : decode j.2.1 pc = .ok (.putfield idx, 3)) (hf : FA j.1.cls idx t k kd fin) (hfin : fin = false ∨ FF j idx t k) (hs : msh M a = some (t, n)) (kk : WP G d j (pc + 3) L S (mI M a k x) Q) : WP G d j pc L (dI x :: dR a :: S) M Q := by
  have hcv : ∀ M' : Mem, cellV G M' a t k = .int (Int32.ofInt (mci M' a k)) := by
    obtain ⟨_, _, _, _, _, e, -⟩ := hf
    intro M'
    unfold cellV
    rw [e]
    rcases hkd with rfl | rfl <;> rfl
  refine x_putf (M' := mI M a k x) hd hf hfin hs (fun _ _ _ ty hty => ?_) rfl rfl rfl (fun b i hb => ?_) (fun _ _ _ => rfl) (fun _ _ _ => rfl) (fun hv h i => nI_r (b := 0) hv h) (fun _ h => h) ?_ (fun i hi => ?_) kk
  · rcases hkd with rfl | rfl
    · rw [ty0 hty]; exact ⟨rfl, rfl⟩
    · rw [ty3 hty]
      rcases hx rfl with rfl | rfl
      · exact ⟨rfl, rfl⟩
      · exact ⟨rfl, rfl⟩
  · exact if_neg fun q => hb q.1
  · rw [hcv]
    show Value.int (Int32.ofInt (if a = a ∧ (k : Int) = k then x else _)) = _
    rw [if_pos ⟨rfl, rfl⟩]
    rfl
  · unfold cellV
    have e : mci (mI M a k x) a i = mci M a i := if_neg fun q => hi (by omega)
    rw [e]
    rfl
theorem x_putI (hd : decode j.2.1 pc = .ok (.putfield idx, 3)) (hf : FA j.1.cls idx t k 0 false) (hs : msh M a = some (t, n)) (kk : WP G d j (pc + 3) L S (mI M a k x) Q) : WP G d j pc L (dI x :: dR a :: S) M Q := x_putI0 (Or.inl rfl) (fun h => by omega) hd hf (Or.inl rfl) hs kk
theorem x_putZ (hx : x = 0 ∨ x = 1) (hd : decode j.2.1 pc = .ok (.putfield idx, 3)) (hf : FA j.1.cls idx t k 3 false) (hs : msh M a = some (t, n)) (kk : WP G d j (pc + 3) L S (mI M a k x) Q) : WP G d j pc L (dI x :: dR a :: S) M Q := x_putI0 (Or.inr rfl) (fun _ => hx) hd hf (Or.inl rfl) hs kk
theorem x_putIF (hd : decode j.2.1 pc = .ok (.putfield idx, 3)) (hf : FA j.1.cls idx t k 0 true) (hfin : FF j idx t k) (hs : msh M a = some (t, n)) (kk : WP G d j (pc + 3) L S (mI M a k x) Q) : WP G d j pc L (dI x :: dR a :: S) M Q := x_putI0 (Or.inl rfl) (fun h => by omega) hd hf (Or.inr hfin) hs kk
theorem x_putZF (hx : x = 0 ∨ x = 1) (hd : decode j.2.1 pc = .ok (.putfield idx, 3)) (hf : FA j.1.cls idx t k 3 true) (hfin : FF j idx t k) (hs : msh M a = some (t, n)) (kk : WP G d j (pc + 3) L S (mI M a k x) Q) : WP G d j pc L (dI x :: dR a :: S) M Q := x_putI0 (Or.inr rfl) (fun _ => hx) hd hf (Or.inr hfin) hs kk
theorem fits_ref {s : State} {G : GW} (hW : Wd G s) {ty : FieldType} (h : tyK ty = 1) (r : Option Int) : narrow ty (tv G (dO r)) = tv G (dO r) ∧ fits ty (tv G (dO r)) = true := by
  rcases ty1 h with ⟨C, rfl⟩ | ⟨u, rfl⟩ <;> rcases tv_cases hW r with e | ⟨q, e⟩ <;> rw [e] <;> exact ⟨rfl, rfl⟩
theorem x_putR0 {r : Option Int} (hd : decode j.2.1 pc = .ok (.putfield idx, 3)) (hf : FA j.1.cls idx t k 1 fin) (hfin : fin = false ∨ FF j idx t k) (hs : msh M a = some (t, n)) (kk : WP G d j (pc + 3) L S (mR M a k r) Q) : WP G d j pc L (dO r :: dR a :: S) M Q := by
  have hcv : ∀ M' : Mem, cellV G M' a t k = tv G (dO (mcr M' a k)) := by
    obtain ⟨_, _, _, _, _, e, -⟩ := hf
    intro M'
    unfold cellV
    rw [e]
    rfl
  refine x_putf (M' := mR M a k r) hd hf hfin hs (fun _ s hW ty hty => fits_ref hW hty r) rfl rfl rfl (fun _ _ _ => rfl) (fun b i hb => ?_) (fun _ _ _ => rfl) (fun _ h => h) (fun _ h => h) ?_ (fun i hi => ?_) kk
  · exact if_neg fun q => hb q.1
  · rw [hcv]
    show tv G (dO (if a = a ∧ (k : Int) = k then r else _)) = _
    rw [if_pos ⟨rfl, rfl⟩]
  · unfold cellV
    have e : mcr (mR M a k r) a i = mcr M a i := if_neg fun q => hi (by omega)
    rw [e]
    rfl
theorem x_putR {r : Option Int} (hd : decode j.2.1 pc = .ok (.putfield idx, 3)) (hf : FA j.1.cls idx t k 1 false) (hs : msh M a = some (t, n)) (kk : WP G d j (pc + 3) L S (mR M a k r) Q) : WP G d j pc L (dO r :: dR a :: S) M Q := x_putR0 hd hf (Or.inl rfl) hs kk
theorem x_putRF {r : Option Int} (hd : decode j.2.1 pc = .ok (.putfield idx, 3)) (hf : FA j.1.cls idx t k 1 true) (hfin : FF j idx t k) (hs : msh M a = some (t, n)) (kk : WP G d j (pc + 3) L S (mR M a k r) Q) : WP G d j pc L (dO r :: dR a :: S) M Q := x_putR0 hd hf (Or.inr hfin) hs kk
end MP
