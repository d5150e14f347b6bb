/-! RULES: arrays, new cells, statics -/
theorem tys_mem {G : GW} {t : Nat} (h : t = 100 ∨ t = 101 ∨ t = 102 ∨ t = 123 ∨ t = 126 ∨ t = 134 ∨ t = 140) : ∃ k : Nat, (tysG G)[k]? = some (gA G t, aTy t) := by
  rcases h with rfl | rfl | rfl | rfl | rfl | rfl | rfl
  · exact ⟨0, rfl⟩
  · exact ⟨1, rfl⟩
  · exact ⟨2, rfl⟩
  · exact ⟨3, rfl⟩
  · exact ⟨4, rfl⟩
  · exact ⟨5, rfl⟩
  · exact ⟨6, rfl⟩
theorem Wd.arr {G : GW} {s : State} (hW : Wd G s) {t : Nat} (h : t = 100 ∨ t = 101 ∨ t = 102 ∨ t = 123 ∨ t = 126 ∨ t = 134 ∨ t = 140) : ArrOfT s (gA G t) (aTy t) ∧ va_RA s (gA G t) (aTy t) := by
  obtain ⟨k, hk⟩ := tys_mem (G := G) h
  exact hW.1.2 k _ hk
def tOk (t : Nat) : Bool := t == 100 || t == 101 || t == 102 || t == 123 || t == 126 || t == 134 || t == 140
theorem tOk_or {t : Nat} (h : tOk t = true) : t = 100 ∨ t = 101 ∨ t = 102 ∨ t = 123 ∨ t = 126 ∨ t = 134 ∨ t = 140 := by
  simp only [tOk, Bool.or_eq_true, beq_iff_eq] at h
  omega
theorem tOk_ge {t : Nat} (h : tOk t = true) : ¬ t < 100 ∧ t ≠ 99 := by
  have := tOk_or h
  omega
/-- an array's cell, old or new -/
theorem Rp.arr {G : GW} {M : Mem} {H : Heap} {s : State} (hR : Rp G M H) (hW : Wd G s) {a : Int} {t : Nat} {n : Int} (ht : tOk t = true) (hs : msh M a = some (t, n)) :
    ∃ (q : Nat) (cell : Cell), tv G (dR a) = .ref q ∧ H[q]? = some cell ∧ s.isArrayOf cell (aTy t) ∧ cell.vm ≠ .unknown ∧ cell.slots.size = n.toNat ∧ 0 ≤ n ∧ n < 2147483648 ∧ ∀ k : Nat, k < n.toNat → cell.slots[k]? = some (elemV G M a t k) := by
  by_cases h0 : 0 ≤ a
  · have h1 : a < mnx M := by
      by_cases h : a < mnx M
      · exact h
      · rw [hR.2.2.1 a (by omega)] at hs
        cases hs
    obtain ⟨n0, n1, -, e⟩ := hR.2.1 a h0 h1 t n hs
    have e1 := e (tOk_ge ht).1
    exact ⟨_, _, tv_r G h0, e1, (hW.arr (tOk_or ht)).1 _ _, (fun h => by cases h), arrV_size _ _ _, n0, n1, fun k hk => arrV_read _ _ hk⟩
  · have hg := hR.2.2.2.1 a (by omega)
    rw [hg.1] at hs
    obtain ⟨n0, n1, -, h2⟩ := hW.2.2.2.1.2 a t n (by omega) hs
    obtain ⟨-, h102, q, cell, a1, a2, a3, a4, a5, a6, a7⟩ := h2 (tOk_ge ht).2
    refine ⟨q, cell, adv_old (by omega) a1, by rw [hR.2.2.2.2.1 q a2]; exact a3, a4, a5, a6, n0, n1, fun k hk => ?_⟩
    rw [a7 k hk]
    unfold elemV
    have g := hg.2 k
    rcases tOk_or ht with rfl | rfl | rfl | rfl | rfl | rfl | rfl
    · rw [g.1]; rfl
    · rw [g.1]; rfl
    · exact absurd rfl h102
    · rw [g.2]; rfl
    · rw [g.2]; rfl
    · rw [g.2]; rfl
    · rw [g.2]; rfl
section AR
variable {G : GW} {d : Nat} {j : MI} {pc : Nat} {L : LV} {S : List DV} {M : Mem} {Q : Res → Mem → Prop} {a i x : Int} {t idx : Nat} {n : Int}
theorem not_in {i n : Int} (hi : i32 i) (h0 : 0 ≤ i) (h1 : i < n) : ¬ (Int32.ofInt i < 0 ∨ n.toNat ≤ (Int32.ofInt i).toNatClampNeg) := by
  rw [z_lt hi, clamp32 hi]
  omega
theorem x_alen (ht : tOk t = true) (hd : decode j.2.1 pc = .ok (.arraylength, 1)) (hs : msh M a = some (t, n)) (kk : WP G d j (pc + 1) L (dI n :: S) M Q) : WP G d j pc L (dR a :: S) M Q := by
  by_cases hn : 0 ≤ n ∧ n < 2147483648
  · refine WP.of (Sx.st fun p e R s m args below meth c H locs cells slots ls Q F hR hl hS => ⟨okS_cons (okI (by unfold i32; omega)) (okS_tail hS), fun w => ?_⟩) kk
    obtain ⟨q, cell, e1, e2, e3, e4, e5, e6, e7, e8⟩ := hR.arr F.W ht hs
    rw [List.map_cons, e1]
    refine W.alen (n := Int32.ofInt n) F.1 F.2.1 e2 e3 ?_ rfl rfl hd w
    rw [e5]
    show Int32.ofNat n.toNat = Int32.ofInt n
    rw [← Int32.ofInt_eq_ofNat, Int.toNat_of_nonneg e6]
  · obtain ⟨r, M', q, k1, k2, k3⟩ := kk
    refine ⟨r, M', q, k1, k2, fun p e R s m args below meth c H locs cells slots ls F hs' hR hl hL hS hc hk => ?_⟩
    obtain ⟨q, cell, e1, e2, e3, e4, e5, e6, e7, e8⟩ := hR.arr F.W ht hs
    exact absurd ⟨e6, e7⟩ hn
theorem x_iald (hd : decode j.2.1 pc = .ok (.iaload, 1)) (hs : msh M a = some (100, n)) (h0 : 0 ≤ i) (h1 : i < n) (kk : WP G d j (pc + 1) L (dI (mci M a i) :: S) M Q) : WP G d j pc L (dI i :: dR a :: S) M Q := by
  refine WP.of (Sx.st fun p e R s m args below meth c H locs cells slots ls Q F hR hl hS => ⟨okS_cons (okI (hR.2.2.2.2.2.1 a i)) (okS_tail (okS_tail hS)), fun w => ?_⟩) kk
  obtain ⟨q, cell, e1, e2, e3, e4, e5, e6, e7, e8⟩ := hR.arr F.W (t := 100) rfl hs
  have hi : i32 i := okS_head hS
  rw [List.map_cons, List.map_cons, e1]
  refine W.iald (v := .int (Int32.ofInt (mci M a i))) F.1 F.2.1 e2 e3 e4 (by rw [e5]; exact not_in hi h0 h1) ?_ rfl rfl hd w
  rw [clamp32 hi, e8 _ (by omega)]
  show some (Value.int (Int32.ofInt (mci M a (i.toNat : Nat)))) = _
  rw [Int.toNat_of_nonneg h0]
theorem x_bald (hd : decode j.2.1 pc = .ok (.baload, 1)) (hs : msh M a = some (101, n)) (h0 : 0 ≤ i) (h1 : i < n) (kk : WP G d j (pc + 1) L (dI (mci M a i) :: S) M Q) : WP G d j pc L (dI i :: dR a :: S) M Q := by
  refine WP.of (Sx.st fun p e R s m args below meth c H locs cells slots ls Q F hR hl hS => ⟨okS_cons (okI (hR.2.2.2.2.2.1 a i)) (okS_tail (okS_tail hS)), fun w => ?_⟩) kk
  obtain ⟨q, cell, e1, e2, e3, e4, e5, e6, e7, e8⟩ := hR.arr F.W (t := 101) rfl hs
  have hi : i32 i := okS_head hS
  rw [List.map_cons, List.map_cons, e1]
  refine W.bald (v := .int (Int32.ofInt (mci M a i))) F.1 F.2.1 e2 e3 e4 (by rw [e5]; exact not_in hi h0 h1) ?_ rfl rfl hd w
  rw [clamp32 hi, e8 _ (by omega)]
  show some (Value.int (Int32.ofInt (mci M a (i.toNat : Nat)))) = _
  rw [Int.toNat_of_nonneg h0]
theorem x_lald (hd : decode j.2.1 pc = .ok (.laload, 1)) (hs : msh M a = some (102, n)) (h0 : 0 ≤ i) (h1 : i < n) (kk : WP G d j (pc + 1) L (dL (mcl M a i) :: S) M Q) : WP G d j pc L (dI i :: dR a :: S) M Q := by
  refine WP.of (Sx.st fun p e R s m args below meth c H locs cells slots ls Q F hR hl hS => ⟨okS_cons (okJ (hR.2.2.2.2.2.2 a i)) (okS_tail (okS_tail hS)), fun w => ?_⟩) kk
  obtain ⟨q, cell, e1, e2, e3, e4, e5, e6, e7, e8⟩ := hR.arr F.W (t := 102) rfl hs
  have hi : i32 i := okS_head hS
  rw [List.map_cons, List.map_cons, e1]
  refine W.lald (v := .long (Int64.ofInt (mcl M a i))) F.1 F.2.1 e2 e3 e4 (by rw [e5]; exact not_in hi h0 h1) ?_ rfl rfl hd w
  rw [clamp32 hi, e8 _ (by omega)]
  show some (Value.long (Int64.ofInt (mcl M a (i.toNat : Nat)))) = _
  rw [Int.toNat_of_nonneg h0]
theorem x_aald {r : Option Int} (ht : tOk t = true) (ht2 : 103 ≤ t) (hd : decode j.2.1 pc = .ok (.aaload, 1)) (hs : msh M a = some (t, n)) (h0 : 0 ≤ i) (h1 : i < n) (hr : mcr M a i = r) (kk : WP G d j (pc + 1) L (dO r :: S) M Q) : WP G d j pc L (dI i :: dR a :: S) M Q := by
  refine WP.of (Sx.st fun p e R s m args below meth c H locs cells slots ls Q F hR hl hS => ⟨okS_cons (show okV (dO r) from trivial) (okS_tail (okS_tail hS)), fun w => ?_⟩) kk
  obtain ⟨q, cell, e1, e2, e3, e4, e5, e6, e7, e8⟩ := hR.arr F.W ht hs
  have hi : i32 i := okS_head hS
  have hel : elemV G M a t i.toNat = tv G (dO r) := by
    rw [← hr]
    have e9 : ((i.toNat : Nat) : Int) = i := Int.toNat_of_nonneg h0
    rcases tOk_or ht with rfl | rfl | rfl | rfl | rfl | rfl | rfl <;> first | omega | (unfold elemV; rw [e9]; rfl)
  rw [List.map_cons, List.map_cons, e1]
  refine W.aald (v := tv G (dO r)) (ty := aTy t) F.1 F.2.1 e2 e3 ?_ e4 (by rw [e5]; exact not_in hi h0 h1) ?_ rfl rfl hd w
  · rcases tOk_or ht with rfl | rfl | rfl | rfl | rfl | rfl | rfl <;> first | omega | rfl
  · rw [clamp32 hi, e8 _ (by omega), hel]
/-- a new array's cell: where it is -/
theorem Rp.arrN {G : GW} {M : Mem} {H : Heap} (hR : Rp G M H) (h0 : 0 ≤ a) (ht : ¬ t < 100) (hs : msh M a = some (t, n)) : a < mnx M ∧ H[gB G + a.toNat]? = some (arrV (gA G t) n.toNat (elemV G M a t)) ∧ 0 ≤ n ∧ n < 2147483648 := by
  have h1 : a < mnx M := by
    by_cases h : a < mnx M
    · exact h
    · rw [hR.2.2.1 a (by omega)] at hs
      cases hs
  obtain ⟨n0, n1, -, e⟩ := hR.2.1 a h0 h1 t n hs
  exact ⟨h1, e ht, n0, n1⟩
theorem okLoc_app {locs : List Loc} {b k : Nat} (h : okLoc G locs) (hb : gB G ≤ b) : okLoc G (locs ++ [⟨b, k⟩]) := by
  intro z hz
  rcases List.mem_append.mp hz with h' | h'
  · exact h z h'
  · rw [List.mem_singleton.mp h']
    exact hb
theorem mI_ne {b k : Int} (h : b ≠ a) : mci (mI M a i x) b k = mci M b k := if_neg fun q => h q.1
theorem mI_r (hx : i32 x) (h : ∀ b k, i32 (mci M b k)) : ∀ k, i32 (mci (mI M a i x) a k) := fun k => by
  show i32 (if a = a ∧ k = i then x else mci M a k)
  split
  · exact hx
  · exact h a k
theorem x_iast (h2 : 0 ≤ a) (hd : decode j.2.1 pc = .ok (.iastore, 1)) (hs : msh M a = some (100, n)) (h0 : 0 ≤ i) (h1 : i < n) (kk : WP G d j (pc + 1) L S (mI M a i x) Q) : WP G d j pc L (dI x :: dI i :: dR a :: S) M Q := by
  refine WP.of (Sx.put (M' := mI M a i x) rfl rfl fun p e R s m args below meth c H locs cells slots ls Q F hR hl hlo hS => ⟨okS_tail (okS_tail (okS_tail hS)), fun w => ?_⟩) kk
  obtain ⟨g1, g2, g3, g4⟩ := hR.arrN h2 (by omega) hs
  have hx : i32 x := okS_head hS
  have hi : i32 i := okS_head (okS_tail hS)
  have hA := (F.W.arr (t := 100) (by omega)).1
  rw [List.map_cons, List.map_cons, List.map_cons, tv_r G h2]
  refine W.iast F.1 F.2.1 g2 (hA _ _) (fun q => by cases q) (by rw [arrV_size]; exact not_in hi h0 h1) rfl rfl hd fun H1 e z oq => ?_
  refine w H1 _ (hR.chg h2 g1 rfl rfl (fun b k hb => mI_ne hb) (fun _ _ _ => rfl) (fun _ _ _ => rfl) (mI_r hx hR.2.2.2.2.2.1) (fun k => hR.2.2.2.2.2.2 a k) z oq fun t' n' hs' => ?_) z (okLoc_app hlo (Nat.le_add_right _ _))
  cases hs'.symm.trans hs
  refine ⟨g3, g4, fun h => absurd h (by omega), fun _ => ?_⟩
  rw [e, arrV_store]
  congr 2
  funext k
  unfold updV
  rw [clamp32 hi]
  show _ = Value.int (Int32.ofInt (if a = a ∧ (k : Int) = i then x else mci M a k))
  by_cases hk : k = i.toNat
  · rw [if_pos hk, if_pos ⟨rfl, by omega⟩]
  · rw [if_neg hk, if_neg (fun q => hk (by omega))]
    rfl
theorem x_bast (h2 : 0 ≤ a) (hd : decode j.2.1 pc = .ok (.bastore, 1)) (hs : msh M a = some (101, n)) (h0 : 0 ≤ i) (h1 : i < n) (kk : WP G d j (pc + 1) L S (mI M a i (w8 x)) Q) : WP G d j pc L (dI x :: dI i :: dR a :: S) M Q := by
  refine WP.of (Sx.put (M' := mI M a i (w8 x)) rfl rfl fun p e R s m args below meth c H locs cells slots ls Q F hR hl hlo hS => ⟨okS_tail (okS_tail (okS_tail hS)), fun w => ?_⟩) kk
  obtain ⟨g1, g2, g3, g4⟩ := hR.arrN h2 (by omega) hs
  have hx : i32 x := okS_head hS
  have hi : i32 i := okS_head (okS_tail hS)
  have hA := (F.W.arr (t := 101) (by omega)).1
  rw [List.map_cons, List.map_cons, List.map_cons, tv_r G h2]
  refine W.bast F.1 F.2.1 g2 (hA _ _) (fun q => by cases q) (by rw [arrV_size]; exact not_in hi h0 h1) rfl rfl hd fun H1 e z oq => ?_
  refine w H1 _ (hR.chg h2 g1 rfl rfl (fun b k hb => mI_ne hb) (fun _ _ _ => rfl) (fun _ _ _ => rfl) (mI_r (i32_w8 x) hR.2.2.2.2.2.1) (fun k => hR.2.2.2.2.2.2 a k) z oq fun t' n' hs' => ?_) z (okLoc_app hlo (Nat.le_add_right _ _))
  cases hs'.symm.trans hs
  refine ⟨g3, g4, fun h => absurd h (by omega), fun _ => ?_⟩
  rw [e, arrV_store]
  congr 2
  funext k
  unfold updV
  rw [clamp32 hi]
  show _ = Value.int (Int32.ofInt (if a = a ∧ (k : Int) = i then w8 x else mci M a k))
  by_cases hk : k = i.toNat
  · rw [if_pos hk, if_pos ⟨rfl, by omega⟩, ← i2b32]
    rfl
  · rw [if_neg hk, if_neg (fun q => hk (by omega))]
    rfl
theorem x_last (h2 : 0 ≤ a) (hd : decode j.2.1 pc = .ok (.lastore, 1)) (hs : msh M a = some (102, n)) (h0 : 0 ≤ i) (h1 : i < n) (kk : WP G d j (pc + 1) L S (mL M a i x) Q) : WP G d j pc L (dL x :: dI i :: dR a :: S) M Q := by
  refine WP.of (Sx.put (M' := mL M a i x) rfl rfl fun p e R s m args below meth c H locs cells slots ls Q F hR hl hlo hS => ⟨okS_tail (okS_tail (okS_tail hS)), fun w => ?_⟩) kk
  obtain ⟨g1, g2, g3, g4⟩ := hR.arrN h2 (by omega) hs
  have hx : i64 x := okS_head hS
  have hi : i32 i := okS_head (okS_tail hS)
  have hA := (F.W.arr (t := 102) (by omega)).1
  rw [List.map_cons, List.map_cons, List.map_cons, tv_r G h2]
  refine W.last F.1 F.2.1 g2 (hA _ _) (fun q => by cases q) (by rw [arrV_size]; exact not_in hi h0 h1) rfl rfl hd fun H1 e z oq => ?_
  refine w H1 _ (hR.chg h2 g1 rfl rfl (fun _ _ _ => rfl) (fun _ _ _ => rfl) (fun b k hb => if_neg fun q => hb q.1) (fun k => hR.2.2.2.2.2.1 a k) (fun k => ?_) z oq fun t' n' hs' => ?_) z (okLoc_app hlo (Nat.le_add_right _ _))
  · show i64 (if a = a ∧ k = i then x else mcl M a k)
    split
    · exact hx
    · exact hR.2.2.2.2.2.2 a k
  cases hs'.symm.trans hs
  refine ⟨g3, g4, fun h => absurd h (by omega), fun _ => ?_⟩
  rw [e, arrV_store]
  congr 2
  funext k
  unfold updV
  rw [clamp32 hi]
  show _ = Value.long (Int64.ofInt (if a = a ∧ (k : Int) = i then x else mcl M a k))
  by_cases hk : k = i.toNat
  · rw [if_pos hk, if_pos ⟨rfl, by omega⟩]
  · rw [if_neg hk, if_neg (fun q => hk (by omega))]
    rfl
end AR
