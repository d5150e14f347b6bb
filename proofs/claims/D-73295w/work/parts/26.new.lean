/-! RULES: new cells, stores of references, arraycopy, statics -/
theorem Rp.new {G : GW} {M : Mem} {H H1 : Heap} {t sl : Nat} {n : Int} (hR : Rp G M H) (hz : H1.size = H.size + 1) (ho : ∀ q : Nat, q < H.size → H1[q]? = H[q]?) (hn : atM G (mN M t n sl) (mnx M) H1) : Rp G (mN M t n sl) H1 := by
  obtain ⟨r1, r2, r3, r4, r5, r6, r7⟩ := hR
  have e0 : mnx (mN M t n sl) = mnx M + 1 := rfl
  have esh : ∀ b : Int, b ≠ mnx M → msh (mN M t n sl) b = msh M b := fun b hb => if_neg hb
  have eci : ∀ b i : Int, b ≠ mnx M → mci (mN M t n sl) b i = mci M b i := fun b i hb => if_neg hb
  have ecr : ∀ b i : Int, b ≠ mnx M → mcr (mN M t n sl) b i = mcr M b i := fun b i hb => if_neg hb
  have ecl : ∀ b i : Int, b ≠ mnx M → mcl (mN M t n sl) b i = mcl M b i := fun b i hb => if_neg hb
  refine ⟨by rw [hz, r1, e0]; omega, fun b hb0 hb1 => ?_, fun b hb => ?_, fun b hb => ?_, fun q hq => ?_, fun b i => ?_, fun b i => ?_⟩
  · by_cases e : b = mnx M
    · subst e; exact hn
    · have h := r2 b hb0 (by omega)
      intro t' n' hs
      rw [esh b e] at hs
      obtain ⟨a1, a2, a3, a4⟩ := h t' n' hs
      have lt : gB G + b.toNat < H.size := by omega
      refine ⟨a1, a2, fun ht => ?_, fun ht => ?_⟩
      · obtain ⟨r, e1, e2⟩ := a3 ht
        refine ⟨r, e1, (e2.kept (ho _ lt)).to fun k _ => ?_⟩
        unfold cellV
        rw [eci b _ e, ecr b _ e, ecl b _ e]
      · rw [ho _ lt, a4 ht]
        congr 2
        funext k
        unfold elemV
        rw [eci b _ e, ecr b _ e, ecl b _ e]
  · rw [esh b (by omega)]
    exact r3 b (by omega)
  · have ne : b ≠ (mnx M : Int) := by omega
    rw [esh b ne]
    exact ⟨(r4 b hb).1, fun i => by rw [eci b i ne, ecr b i ne]; exact (r4 b hb).2 i⟩
  · rw [ho q (by omega)]
    exact r5 q hq
  · by_cases e : b = mnx M
    · subst e
      show i32 (if (mnx M : Int) = mnx M then 0 else mci M _ i)
      rw [if_pos rfl]
      exact i32_0
    · rw [eci b i e]; exact r6 b i
  · by_cases e : b = mnx M
    · subst e
      show i64 (if (mnx M : Int) = mnx M then 0 else mcl M _ i)
      rw [if_pos rfl]
      exact i64_0
    · rw [ecl b i e]; exact r7 b i
theorem Sx.al {G : GW} {d : Nat} {j : MI} {pc pc' : Nat} {L : LV} {S S' : List DV} {M : Mem} {t sl : Nat} {n : Int} (h : ∀ (p : Program) (e : Env) (R : Room) (s : State) (m : MethodId) (args : Array Value) (below : List Frame) (meth : Method) (c : Code) (H : Heap) (locs : List Loc) (cells slots : Nat) (ls : Array Slot) (Q : State → Prop),
    Fr G d j p R s m args meth c → Rp G M H → lrep G ls j.2.2.1 L → okS S → cells + 1 ≤ R.cells → slots + sl ≤ R.slots → okS S' ∧ ((∀ (H1 : Heap), Rp G (mN M t n sl) H1 → H.size ≤ H1.size → W p (gl G) e R s m args below meth c H1 locs (cells + 1) (slots + sl) Q (F0 m pc' ls (S'.map (tv G)))) → W p (gl G) e R s m args below meth c H locs cells slots Q (F0 m pc ls (S.map (tv G))))) : Sx G d j pc L S M pc' L S' (mN M t n sl) := by
  have e1 : mnx (mN M t n sl) - mnx M = 1 := by show mnx M + 1 - mnx M = 1; omega
  have e2 : mns (mN M t n sl) - mns M = sl := by show mns M + sl - mns M = sl; omega
  refine ⟨Nat.le_succ _, Nat.le_add_right _ _, fun p e R s m args below meth c H locs cells slots ls Q F hs hR hl hL hS hc hk k => ?_⟩
  rw [e1] at hc
  rw [e2] at hk
  obtain ⟨a, b⟩ := h p e R s m args below meth c H locs cells slots ls Q F hR hL hS hc hk
  refine b fun H1 hR1 hz => ?_
  have k1 := k H1 locs ls hR1 hz hl hL a
  rw [e1, e2] at k1
  exact k1
theorem elem0 {G : GW} {M : Mem} {t sl : Nat} {n : Int} (ht : tOk t = true) (k : Nat) : elemV G (mN M t n sl) (mnx M) t k = defaultValue (aTy t) := by
  have e1 : mci (mN M t n sl) (mnx M) k = 0 := if_pos rfl
  have e2 : mcr (mN M t n sl) (mnx M) k = none := if_pos rfl
  have e3 : mcl (mN M t n sl) (mnx M) k = 0 := if_pos rfl
  unfold elemV
  rw [e1, e2, e3]
  rcases tOk_or ht with rfl | rfl | rfl | rfl | rfl | rfl | rfl <;> rfl
theorem clG_k9 {t : Nat} {C : String} {T : u_T} {N : Nat} (h : clG[t]? = some (C, T, N)) : ∀ k, k < N → fK t k ≠ 9 := by
  match t, h with
  | 0, h => cases h; decide
  | 1, h => cases h; decide
  | 2, h => cases h; decide
  | 3, h => cases h; decide
  | 4, h => cases h; decide
  | 5, h => cases h; decide
  | 6, h => cases h; decide
  | 7, h => cases h; decide
  | 8, h => cases h; decide
  | 9, h => cases h; decide
  | 10, h => cases h; decide
  | 11, h => cases h; decide
  | 12, h => cases h; decide
  | 13, h => cases h; decide
  | 14, h => cases h; decide
  | 15, h => cases h; decide
  | 16, h => cases h; decide
  | 17, h => cases h; decide
  | 18, h => cases h; intro k hk; exact absurd hk (Nat.not_lt_zero k)
  | t + 19, h => exact absurd (clG_lt h) (by omega)
section AL
variable {G : GW} {d : Nat} {j : MI} {pc : Nat} {L : LV} {S : List DV} {M : Mem} {Q : Res → Mem → Prop} {a i x : Int} {t idx : Nat} {n : Int}
theorem x_newa {at_ : ArrayType} (ht : t = 100 ∨ t = 101 ∨ t = 102) (hty : newarray.typeOf at_ = aTy t) (hq : Cond.arrayClass (aTy t) ∈ lw_all) (h0 : 0 ≤ n) (h1 : n ≤ 65536) (hd : decode j.2.1 pc = .ok (.newarray at_, 2)) (kk : WP G d j (pc + 2) L (dR (mnx M) :: S) (mN M t n n.toNat) Q) : WP G d j pc L (dI n :: S) M Q := by
  have hto : tOk t = true := by rcases ht with rfl | rfl | rfl <;> rfl
  refine WP.of (Sx.al fun p e R s m args below meth c H locs cells slots ls Q F hR hl hS hc hk => ⟨okS_cons (show okV (dR (mnx M)) from trivial) (okS_tail hS), fun w => ?_⟩) kk
  have hn : i32 n := okS_head hS
  have hRA := (F.W.arr (tOk_or hto)).2
  have hfc : s.vm.findClass ("[" ++ (aTy t).toString) = some (gA G t) := by rcases ht with rfl | rfl | rfl <;> exact hRA
  have hqb : (Cond.arrayClass (newarray.typeOf at_)).before args s = true := by rw [hty]; exact F.ts _ hq
  rw [List.map_cons]
  refine va_newaK F.1 F.2.1 hqb (N := n.toNat) rfl hd rfl (by rw [z_lt hn]; omega) (clamp32 hn) (by
    rw [hty]
    have : componentBytes (aTy t) ≤ 8 := by rcases ht with rfl | rfl | rfl <;> decide
    have h2 : n.toNat ≤ 65536 := by omega
    calc n.toNat * componentBytes (aTy t) ≤ 65536 * 8 := Nat.mul_le_mul h2 this
      _ ≤ 536870912 := by decide) hc hk rfl fun H' cA e1 e2 e3 e4 e5 => ?_
  rw [hty] at e1 e4 e5
  cases e5.symm.trans hfc
  have hw := w H' (hR.new e2 e3 fun t' n' hs => ?_) (by omega)
  · rw [List.map_cons, tv_r G (by omega)] at hw
    have e9 : gB G + ((mnx M : Int)).toNat = H.size := by rw [hR.1]; simp
    rw [e9] at hw
    exact hw
  · have hs' : some (t, n) = some (t', n') := by rw [← hs]; exact (if_pos rfl).symm
    cases hs'
    refine ⟨h0, by omega, fun h => absurd h (tOk_ge hto).1, fun _ => ?_⟩
    have e9 : gB G + ((mnx M : Int)).toNat = H.size := by rw [hR.1]; simp
    rw [e9, e1]
    congr 2
    funext k
    exact (elem0 hto k).symm
theorem x_anew {C : String} (ht : t = 123 ∨ t = 126 ∨ t = 134 ∨ t = 140) (hC : aTy t = .object C) (hq : Cond.classLink j.1.cls idx C ∈ lw_all) (h0 : 0 ≤ n) (h1 : n ≤ 65536) (hd : decode j.2.1 pc = .ok (.anewarray idx, 3)) (kk : WP G d j (pc + 3) L (dR (mnx M) :: S) (mN M t n n.toNat) Q) : WP G d j pc L (dI n :: S) M Q := by
  have hto : tOk t = true := by rcases ht with rfl | rfl | rfl | rfl <;> rfl
  refine WP.of (Sx.al fun p e R s m args below meth c H locs cells slots ls Q F hR hl hS hc hk => ⟨okS_cons (show okV (dR (mnx M)) from trivial) (okS_tail hS), fun w => ?_⟩) kk
  have hn : i32 n := okS_head hS
  have hRA := (F.W.arr (tOk_or hto)).2
  have hfc : s.vm.findClass ("[" ++ (FieldType.object C).toString) = some (gA G t) := by
    rw [hC] at hRA
    obtain ⟨_, _, -, -, -, h⟩ := hRA
    exact h
  rw [List.map_cons]
  refine W.anew F.1 F.2.1 F.own (F.ts _ hq) (va_AO.use (F.W.2.2.1 t ht C hC)) rfl hd rfl (by rw [z_lt hn]; omega) (by rw [clamp32 hn]; omega) hc (by rw [clamp32 hn]; exact hk) fun cA kA comp f1 f2 f3 f4 => ?_
  cases f1.symm.trans hfc
  rw [clamp32 hn]
  generalize hH1 : H.push ({ cls := gA G t, slots := Array.replicate n.toNat .null, vm := .none } : Cell) = H1
  have z1 : H1.size = H.size + 1 := by rw [← hH1, Array.size_push]
  have e1 : H1[H.size]? = some (arrV (gA G t) n.toNat (fun _ => .null)) := by rw [← hH1, Array.getElem?_push_size, ← arrV_new]
  have o1 : ∀ q : Nat, q < H.size → H1[q]? = H[q]? := fun q hq => by rw [← hH1, Array.getElem?_push, if_neg (Nat.ne_of_lt hq)]
  have e9 : gB G + ((mnx M : Int)).toNat = H.size := by rw [hR.1]; simp
  have hw := w H1 (hR.new z1 o1 fun t' n' hs => ?_) (by omega)
  · rw [List.map_cons, tv_r G (by omega), e9] at hw
    exact hw
  · have hs' : some (t, n) = some (t', n') := by rw [← hs]; exact (if_pos rfl).symm
    cases hs'
    refine ⟨h0, by omega, fun h => absurd h (tOk_ge hto).1, fun _ => ?_⟩
    rw [e9, e1]
    congr 2
    funext k
    rw [elem0 hto k, hC]
    rfl
theorem x_new {C : String} {T : u_T} {N : Nat} (hc : clG[t]? = some (C, T, N)) (hq1 : Cond.classLink j.1.cls idx C ∈ lw_all) (hq2 : Cond.instantiable C N ∈ lw_all) (hq3 : Cond.initialized C ∈ lw_all) (hd : decode j.2.1 pc = .ok (.new idx, 3)) (kk : WP G d j (pc + 3) L (dR (mnx M) :: S) (mN M t 0 N) Q) : WP G d j pc L S M Q := by
  refine WP.of (Sx.al fun p e R s m args below meth c H locs cells slots ls Q F hR hl hS hcc hk => ⟨okS_cons (show okV (dR (mnx M)) from trivial) hS, fun w => ?_⟩) kk
  have hKn := F.W.1.1 t _ hc
  obtain ⟨hin, hnm, ty, hty, hkt⟩ := clG_ok hc
  refine W.newcK F.1 F.2.1 F.own (F.ts _ hq1) (F.ts _ hq2) (F.ts _ hq3) rfl hd hcc hk hKn.2.1 rfl fun H1 kC hkC e1 z1 o1 => ?_
  have e9 : gB G + ((mnx M : Int)).toNat = H.size := by rw [hR.1]; simp
  have hw := w H1 (hR.new z1 o1 fun t' n' hs => ?_) (by omega)
  · rw [List.map_cons, tv_r G (by omega), e9] at hw
    exact hw
  · have hs' : some (t, (0 : Int)) = some (t', n') := by rw [← hs]; exact (if_pos rfl).symm
    cases hs'
    refine ⟨by omega, by omega, fun _ => ⟨_, hc, ?_⟩, fun h => absurd (clG_lt hc) (by omega)⟩
    rw [e9]
    refine (u_born ty F.ts hin hKn hkC e1 hty).to fun k hk => ?_
    have h9 := clG_k9 hc k hk
    have e1 : mci (mN M t 0 N) (mnx M) k = 0 := if_pos rfl
    have e2 : mcr (mN M t 0 N) (mnx M) k = none := if_pos rfl
    have e3 : mcl (mN M t 0 N) (mnx M) k = 0 := if_pos rfl
    unfold cellV
    rw [e1, e2, e3]
    rw [hkt k] at h9 ⊢
    generalize ty k = u at h9 ⊢
    cases u <;> first | rfl | exact absurd rfl h9
end AL
