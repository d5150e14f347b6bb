/-! RULES: 'throw new X()' and 'new X()' of JDK exceptions -/
def thrK (own : String) (ik ic : Nat) (cls : String) : Prop := Cond.classLink own ik cls ∈ lw_all ∧ Cond.initialized cls ∈ lw_all ∧ Bundle.fit cls = true ∧ (∀ n ∈ ["java/lang/RuntimeException", "java/lang/Exception"], Bundle.fit n = true) ∧
  ∀ w ∈ Bundle.ownAtoms0 own ic cls ["java/lang/RuntimeException", "java/lang/Exception"], vx_no w = true → w ∈ lw_all ∨ (w ∈ lw_tbl ∧ nestW w = true)
theorem thr_ot {w : Cond} (h : w ∈ lw_all ∨ (w ∈ lw_tbl ∧ nestW w = true)) : vx_ot w = true := by
  unfold vx_ot
  rcases h with h | ⟨-, h⟩
  · rw [(List.mem_filter.mp h).2, Bool.or_true]
  · rw [nest_tab h, Bool.true_or]
theorem thr_at {G : GW} {s : State} {args : Array Value} {w : Cond} (hW : Wd G s) (hts : ∀ w ∈ lw_all, w.before args s = true) (h : w ∈ lw_all ∨ (w ∈ lw_tbl ∧ nestW w = true)) : w.before args s = true := by
  rcases h with h | ⟨h1, h2⟩
  · exact hts w h
  · exact va_Nw.use (nest_tab h2) (hW.2.1 w h1 h2)
theorem thr_all {own cls : String} {ik ic : Nat} (h : thrK own ik ic cls) : ∀ w ∈ vx_at0 own ic cls ["java/lang/RuntimeException", "java/lang/Exception"], w ∈ lw_all ∨ (w ∈ lw_tbl ∧ nestW w = true) := by
  intro w hw
  obtain ⟨h1, h2⟩ := List.mem_filter.mp hw
  exact h.2.2.2.2 w h1 h2
/-- a cell of which nothing is said -/
def mX (M : Mem) (sl : Nat) : Mem := (M.1, M.2.1, M.2.2.1, M.2.2.2.1, mnx M + 1, mns M + sl)
theorem Rp.opq {G : GW} {M : Mem} {H H1 : Heap} {sl : Nat} (hR : Rp G M H) (hz : H1.size = H.size + 1) (ho : ∀ q : Nat, q < H.size → H1[q]? = H[q]?) : Rp G (mX M sl) H1 := by
  obtain ⟨r1, r2, r3, r4, r5, r6, r7⟩ := hR
  have e0 : mnx (mX M sl) = mnx M + 1 := rfl
  refine ⟨by rw [hz, r1, e0]; omega, fun b hb0 hb1 => ?_, fun b hb => r3 b (by omega), r4, fun q hq => by rw [ho q (by omega)]; exact r5 q hq, r6, r7⟩
  intro t n hs
  by_cases e : b < mnx M
  · obtain ⟨a1, a2, a3, a4⟩ := r2 b hb0 e t n hs
    have lt : gB G + b.toNat < H.size := by omega
    refine ⟨a1, a2, fun ht => ?_, fun ht => by rw [ho _ lt]; exact a4 ht⟩
    obtain ⟨r, e1, e2⟩ := a3 ht
    exact ⟨r, e1, e2.kept (ho _ lt)⟩
  · have h9 := r3 b (by omega)
    rw [show msh M b = some (t, n) from hs] at h9
    cases h9
section TW
variable {G : GW} {d : Nat} {j : MI} {pc : Nat} {L : LV} {S : List DV} {M : Mem} {Q : Res → Mem → Prop} {cls : String} {ik ic : Nat}
theorem catS {s : State} (hW : Wd G s) (S : List DV) : ((S.map (tv G)).map fun v => v.category).sum ≤ 2 * S.length := by
  induction S with
  | nil => simp
  | cons v S ih =>
    have hc := tv_cat hW v
    simp only [List.map_cons, List.sum_cons, List.length_cons]
    split at hc <;> omega
theorem Fr.vaS {p : Program} {R : Room} {s : State} {m : MethodId} {args : Array Value} {meth : Method} {c : Code} {H : Heap} {locs : List Loc} (F : Fr G d j p R s m args meth c) (hs : s.heap.size ≤ H.size) (hR : Rp G M H) (hl : okLoc G locs) : va_S (frG G) s.heap H locs := by
  refine ⟨hs, fun q hq hA => ?_, hl⟩
  have hq' : q < gB G := Nat.lt_of_not_le hA
  rw [hR.2.2.2.2.1 q hq', F.2.2.2.2.2.2.2.2.2.2.2.2.2 q hq']
theorem Fr.zq {p : Program} {R : Room} {s : State} {m : MethodId} {args : Array Value} {meth : Method} {c : Code} {C n dd : String} (F : Fr G d j p R s m args meth c) (h : vx_Zq C n dd (frG G) s (gH G)) : vx_Zq C n dd (frG G) s s.heap :=
  h.kept fun q hq hA => F.2.2.2.2.2.2.2.2.2.2.2.2.2 q hq
theorem x_throw0 (hT : thrK j.1.cls ik ic cls) (hdp : 8 ≤ d) (hS0 : S.length ≤ 4) (hh : j.2.2.2.2 = []) (d0 : decode j.2.1 pc = .ok (.new ik, 3)) (d3 : decode j.2.1 (pc + 3) = .ok (.dup, 1)) (d4 : decode j.2.1 (pc + 4) = .ok (.invokespecial ic, 3)) (d7 : decode j.2.1 (pc + 7) = .ok (.athrow, 1)) (hq : Q (rT (-7) cls) (mX M 6)) : WP G d j pc L S M Q := by
  have e1 : mnx (mX M 6) - mnx M = 1 := by show mnx M + 1 - mnx M = 1; omega
  have e2 : mns (mX M 6) - mns M = 6 := by show mns M + 6 - mns M = 6; omega
  refine ⟨rT (-7) cls, mX M 6, hq, Nat.le_succ _, Nat.le_add_right _ _, fun p e R s m args below meth c H locs cells slots ls F hs hR hl hL hS hc hk => ?_⟩
  rw [e1] at hc ⊢
  rw [e2] at hk ⊢
  have hW := F.W
  have htab : c.exceptionTable.toList = [] := by rw [F.2.2.2.2.2.2.2.2.2.1, hh]; rfl
  have hfr : d ≤ R.frames := F.2.2.2.2.2.2.2.2.2.2.1
  have hlo9 : 64 * d ≤ R.locals := F.2.2.2.2.2.2.2.2.2.2.2.1
  have hcs := catS hW S
  have hall := thr_all hT
  refine vx_throw0 F.1 F.2.1 hW.2.2.2.2.2.1.1 F.own hT.2.2.1 hT.2.2.2.1 (F.ts _ hT.1) (F.ts _ hT.2.1) (fun w hw => thr_at hW F.ts (hall w hw)) (fun w hw => ?_) (F.zq hW.2.2.2.2.2.1.2.1) (F.zq hW.2.2.2.2.2.1.2.2) (F.vaS hs hR hl) (by rw [F.2.2.2.2.1]; exact hL.1.1) d0 d3 d4 d7 (fun x hx => by rw [htab] at hx; cases hx) (by show 2 + 3 < R.frames; omega) (by show _ + (13 * (2 + 1) + 42) ≤ R.locals; omega) hc hk F.lk (fun t hv hz ho => ⟨-7, rfl, fun h => absurd h (by decide), hR.opq hz ho, by rw [hz]; omega⟩) hl (Nat.le_refl _) (Nat.le_refl _)
  rcases List.mem_cons.mp hw with rfl | hw
  · exact thr_ot (Or.inl hT.1)
  · rcases List.mem_cons.mp hw with rfl | hw
    · exact thr_ot (Or.inl hT.2.1)
    · exact thr_ot (hall w hw)
theorem x_make0 (hT : thrK j.1.cls ik ic "java/lang/IllegalArgumentException") (hdp : 8 ≤ d) (hS0 : S.length ≤ 4) (d0 : decode j.2.1 pc = .ok (.new ik, 3)) (d3 : decode j.2.1 (pc + 3) = .ok (.dup, 1)) (d4 : decode j.2.1 (pc + 4) = .ok (.invokespecial ic, 3)) (kk : WP G d j (pc + 7) L (dR (mnx M) :: S) (mN M 18 0 6) Q) : WP G d j pc L S M Q := by
  have e1 : mnx (mN M 18 0 6) - mnx M = 1 := by show mnx M + 1 - mnx M = 1; omega
  have e2 : mns (mN M 18 0 6) - mns M = 6 := by show mns M + 6 - mns M = 6; omega
  refine WP.of ⟨Nat.le_succ _, Nat.le_add_right _ _, fun p e R s m args below meth c H locs cells slots ls Q F hs hR hl hL hS hc hk w => ?_⟩ kk
  rw [e1] at hc w
  rw [e2] at hk w
  have hW := F.W
  have hfr : d ≤ R.frames := F.2.2.2.2.2.2.2.2.2.2.1
  have hlo9 : 64 * d ≤ R.locals := F.2.2.2.2.2.2.2.2.2.2.2.1
  have hcs := catS hW S
  have hall := thr_all hT
  refine vx_make0 F.1 F.2.1 hW.2.2.2.2.2.1.1 F.own hT.2.2.1 hT.2.2.2.1 (F.ts _ hT.1) (F.ts _ hT.2.1) (fun w hw => thr_at hW F.ts (hall w hw)) (fun w hw => ?_) (F.zq hW.2.2.2.2.2.1.2.1) (F.zq hW.2.2.2.2.2.1.2.2) (F.vaS hs hR hl) (by rw [F.2.2.2.2.1]; exact hL.1.1) d0 d3 d4 (by show 2 + 3 < R.frames; omega) (by show _ + (13 * (2 + 1) + 42) ≤ R.locals; omega) hc hk fun H1 ce z1 o1 c1 c2 c3 => ?_
  · rcases List.mem_cons.mp hw with rfl | hw
    · exact thr_ot (Or.inl hT.1)
    · rcases List.mem_cons.mp hw with rfl | hw
      · exact thr_ot (Or.inl hT.2.1)
      · exact thr_ot (hall w hw)
  · have hcl : clG[18]? = some (RJ7, TJ7, 0) := rfl
    have hat := (hW.1.1 18 _ hcl).2.1
    have e9 : gB G + ((mnx M : Int)).toNat = H.size := by rw [hR.1]; simp
    have hw := w H1 locs ls (hR.new z1 o1 fun t' n' hs' => ?_) (by omega) hl hL (okS_cons (show okV (dR (mnx M)) from trivial) hS)
    · rw [List.map_cons, tv_r G (by omega), e9] at hw
      exact hw
    · have hs2 : some (18, (0 : Int)) = some (t', n') := by rw [← hs']; exact (if_pos rfl).symm
      cases hs2
      refine ⟨by omega, by omega, fun _ => ⟨_, hcl, ce, ?_, ?_, c2, fun k hk => absurd hk (Nat.not_lt_zero k)⟩, fun h => absurd h (by decide)⟩
      · rw [e9]; exact c1
      · exact Option.some.inj (c3.symm.trans hat)
end TW
theorem thr_IAE : thrK "GuestView" 86 88 "java/lang/IllegalArgumentException" := by
  refine ⟨lw_g (lw_at lw_m4 176 rfl) rfl, lw_g (lw_at lw_m1 17 rfl) rfl, by decide +kernel, by decide +kernel, fun w hw hno => ?_⟩
  simp only [Bundle.ownAtoms0, Bundle.throwableAtoms, Bundle.chain0Atoms, Bundle.passAtoms, Bundle.five, List.cons_append, List.nil_append, List.append_nil, List.mem_cons, List.not_mem_nil, or_false] at hw
  rcases hw with rfl | rfl | rfl | rfl | rfl | rfl | rfl | rfl | rfl | rfl | rfl | rfl | rfl | rfl | rfl | rfl | rfl | rfl | rfl | rfl | rfl | rfl | rfl | rfl | rfl | rfl | rfl | rfl | rfl | rfl | rfl | rfl | rfl | rfl | rfl | rfl | rfl | rfl | rfl | rfl | rfl | rfl | rfl | rfl | rfl | rfl | rfl | rfl | rfl | rfl | rfl | rfl | rfl
  · exact Or.inl (lw_g (lw_at lw_m1 7 rfl) rfl)
  · exact Or.inl (lw_g (lw_at lw_m2 59 rfl) rfl)
  · exact Or.inl (lw_g (lw_at lw_m2 68 rfl) rfl)
  · exact Or.inl (lw_g (lw_at lw_m2 75 rfl) rfl)
  · exact Or.inl (lw_g (lw_at lw_m2 78 rfl) rfl)
  · exact Or.inl (lw_g (lw_at lw_m2 80 rfl) rfl)
  · exact Or.inl (lw_g (lw_at lw_m2 60 rfl) rfl)
  · exact Or.inl (lw_g (lw_at lw_m2 61 rfl) rfl)
  · exact Or.inl (lw_g (lw_at lw_m1 42 rfl) rfl)
  · exact Or.inl (lw_g (lw_at lw_m1 43 rfl) rfl)
  · exact Or.inl (lw_g (lw_at lw_m2 62 rfl) rfl)
  · exact Or.inl (lw_g (lw_at lw_m2 67 rfl) rfl)
  · exact Or.inl (lw_g (lw_at lw_m2 76 rfl) rfl)
  · exact Or.inl (lw_g (lw_at lw_m2 97 rfl) rfl)
  · exact Or.inl (lw_g (lw_at lw_m2 49 rfl) rfl)
  · exact Or.inl (lw_g (lw_at lw_m2 98 rfl) rfl)
  · exact Or.inl (lw_g (lw_at lw_m2 51 rfl) rfl)
  · exact Or.inl (lw_g (lw_at lw_m2 99 rfl) rfl)
  · exact Or.inl (lw_g (lw_at lw_m2 53 rfl) rfl)
  · exact Or.inl (lw_g (lw_at lw_m2 63 rfl) rfl)
  · exact absurd hno (by decide +kernel)
  · exact Or.inl (lw_g (lw_at lw_m2 65 rfl) rfl)
  · exact absurd hno (by decide +kernel)
  · exact Or.inl (lw_g (lw_at lw_m2 55 rfl) rfl)
  · exact Or.inl (lw_g (lw_at lw_m4 186 rfl) rfl)
  · exact Or.inl (lw_g (lw_at lw_m4 187 rfl) rfl)
  · exact Or.inl (lw_g (lw_at lw_m4 188 rfl) rfl)
  · exact Or.inl (lw_g (lw_at lw_m4 189 rfl) rfl)
  · exact Or.inr ⟨lw_at lw_m2 40 rfl, rfl⟩
  · exact Or.inl (lw_g (lw_at lw_m4 189 rfl) rfl)
  · exact Or.inl (lw_g (lw_at lw_m4 190 rfl) rfl)
  · exact Or.inl (lw_g (lw_at lw_m4 191 rfl) rfl)
  · exact Or.inl (lw_g (lw_at lw_m4 192 rfl) rfl)
  · exact Or.inr ⟨lw_at lw_m2 42 rfl, rfl⟩
  · exact Or.inl (lw_g (lw_at lw_m4 192 rfl) rfl)
  · exact Or.inl (lw_g (lw_at lw_m4 193 rfl) rfl)
  · exact Or.inl (lw_g (lw_at lw_m4 194 rfl) rfl)
  · exact Or.inl (lw_g (lw_at lw_m2 60 rfl) rfl)
  · exact Or.inr ⟨lw_at lw_m2 44 rfl, rfl⟩
  · exact Or.inl (lw_g (lw_at lw_m4 185 rfl) rfl)
  · exact Or.inl (lw_g (lw_at lw_m4 177 rfl) rfl)
  · exact Or.inr ⟨lw_at lw_m4 178 rfl, rfl⟩
  · exact Or.inl (lw_g (lw_at lw_m4 179 rfl) rfl)
  · exact Or.inl (lw_g (lw_at lw_m2 71 rfl) rfl)
  · exact Or.inl (lw_g (lw_at lw_m4 180 rfl) rfl)
  · exact Or.inl (lw_g (lw_at lw_m4 181 rfl) rfl)
  · exact Or.inl (lw_g (lw_at lw_m4 182 rfl) rfl)
  · exact Or.inl (lw_g (lw_at lw_m4 183 rfl) rfl)
  · exact absurd hno (by decide +kernel)
  · exact absurd hno (by decide +kernel)
  · exact Or.inl (lw_g (lw_at lw_m2 58 rfl) rfl)
  · exact Or.inl (lw_g (lw_at lw_m2 57 rfl) rfl)
  · exact Or.inl (lw_g (lw_at lw_m4 184 rfl) rfl)
theorem thr_UOE : thrK "GuestView" 89 91 "java/lang/UnsupportedOperationException" := by
  refine ⟨lw_g (lw_at lw_m4 200 rfl) rfl, lw_g (lw_at lw_m1 18 rfl) rfl, by decide +kernel, by decide +kernel, fun w hw hno => ?_⟩
  simp only [Bundle.ownAtoms0, Bundle.throwableAtoms, Bundle.chain0Atoms, Bundle.passAtoms, Bundle.five, List.cons_append, List.nil_append, List.append_nil, List.mem_cons, List.not_mem_nil, or_false] at hw
  rcases hw with rfl | rfl | rfl | rfl | rfl | rfl | rfl | rfl | rfl | rfl | rfl | rfl | rfl | rfl | rfl | rfl | rfl | rfl | rfl | rfl | rfl | rfl | rfl | rfl | rfl | rfl | rfl | rfl | rfl | rfl | rfl | rfl | rfl | rfl | rfl | rfl | rfl | rfl | rfl | rfl | rfl | rfl | rfl | rfl | rfl | rfl | rfl | rfl | rfl | rfl | rfl | rfl | rfl
  · exact Or.inl (lw_g (lw_at lw_m1 7 rfl) rfl)
  · exact Or.inl (lw_g (lw_at lw_m2 59 rfl) rfl)
  · exact Or.inl (lw_g (lw_at lw_m2 68 rfl) rfl)
  · exact Or.inl (lw_g (lw_at lw_m2 75 rfl) rfl)
  · exact Or.inl (lw_g (lw_at lw_m2 78 rfl) rfl)
  · exact Or.inl (lw_g (lw_at lw_m2 80 rfl) rfl)
  · exact Or.inl (lw_g (lw_at lw_m2 60 rfl) rfl)
  · exact Or.inl (lw_g (lw_at lw_m2 61 rfl) rfl)
  · exact Or.inl (lw_g (lw_at lw_m1 42 rfl) rfl)
  · exact Or.inl (lw_g (lw_at lw_m1 43 rfl) rfl)
  · exact Or.inl (lw_g (lw_at lw_m2 62 rfl) rfl)
  · exact Or.inl (lw_g (lw_at lw_m2 67 rfl) rfl)
  · exact Or.inl (lw_g (lw_at lw_m2 76 rfl) rfl)
  · exact Or.inl (lw_g (lw_at lw_m2 97 rfl) rfl)
  · exact Or.inl (lw_g (lw_at lw_m2 49 rfl) rfl)
  · exact Or.inl (lw_g (lw_at lw_m2 98 rfl) rfl)
  · exact Or.inl (lw_g (lw_at lw_m2 51 rfl) rfl)
  · exact Or.inl (lw_g (lw_at lw_m2 99 rfl) rfl)
  · exact Or.inl (lw_g (lw_at lw_m2 53 rfl) rfl)
  · exact Or.inl (lw_g (lw_at lw_m2 63 rfl) rfl)
  · exact absurd hno (by decide +kernel)
  · exact Or.inl (lw_g (lw_at lw_m2 65 rfl) rfl)
  · exact absurd hno (by decide +kernel)
  · exact Or.inl (lw_g (lw_at lw_m2 55 rfl) rfl)
  · exact Or.inl (lw_g (lw_at lw_m4 210 rfl) rfl)
  · exact Or.inl (lw_g (lw_at lw_m4 211 rfl) rfl)
  · exact Or.inl (lw_g (lw_at lw_m4 212 rfl) rfl)
  · exact Or.inl (lw_g (lw_at lw_m4 189 rfl) rfl)
  · exact Or.inr ⟨lw_at lw_m2 40 rfl, rfl⟩
  · exact Or.inl (lw_g (lw_at lw_m4 189 rfl) rfl)
  · exact Or.inl (lw_g (lw_at lw_m4 190 rfl) rfl)
  · exact Or.inl (lw_g (lw_at lw_m4 191 rfl) rfl)
  · exact Or.inl (lw_g (lw_at lw_m4 192 rfl) rfl)
  · exact Or.inr ⟨lw_at lw_m2 42 rfl, rfl⟩
  · exact Or.inl (lw_g (lw_at lw_m4 192 rfl) rfl)
  · exact Or.inl (lw_g (lw_at lw_m4 193 rfl) rfl)
  · exact Or.inl (lw_g (lw_at lw_m4 194 rfl) rfl)
  · exact Or.inl (lw_g (lw_at lw_m2 60 rfl) rfl)
  · exact Or.inr ⟨lw_at lw_m2 44 rfl, rfl⟩
  · exact Or.inl (lw_g (lw_at lw_m4 209 rfl) rfl)
  · exact Or.inl (lw_g (lw_at lw_m4 201 rfl) rfl)
  · exact Or.inr ⟨lw_at lw_m4 202 rfl, rfl⟩
  · exact Or.inl (lw_g (lw_at lw_m4 203 rfl) rfl)
  · exact Or.inl (lw_g (lw_at lw_m2 73 rfl) rfl)
  · exact Or.inl (lw_g (lw_at lw_m4 204 rfl) rfl)
  · exact Or.inl (lw_g (lw_at lw_m4 205 rfl) rfl)
  · exact Or.inl (lw_g (lw_at lw_m4 206 rfl) rfl)
  · exact Or.inl (lw_g (lw_at lw_m4 207 rfl) rfl)
  · exact absurd hno (by decide +kernel)
  · exact absurd hno (by decide +kernel)
  · exact Or.inl (lw_g (lw_at lw_m2 58 rfl) rfl)
  · exact Or.inl (lw_g (lw_at lw_m2 57 rfl) rfl)
  · exact Or.inl (lw_g (lw_at lw_m4 208 rfl) rfl)
theorem thr_IOB : thrK "GuestView" 92 94 "java/lang/IndexOutOfBoundsException" := by
  refine ⟨lw_g (lw_at lw_m5 202 rfl) rfl, lw_g (lw_at lw_m1 28 rfl) rfl, by decide +kernel, by decide +kernel, fun w hw hno => ?_⟩
  simp only [Bundle.ownAtoms0, Bundle.throwableAtoms, Bundle.chain0Atoms, Bundle.passAtoms, Bundle.five, List.cons_append, List.nil_append, List.append_nil, List.mem_cons, List.not_mem_nil, or_false] at hw
  rcases hw with rfl | rfl | rfl | rfl | rfl | rfl | rfl | rfl | rfl | rfl | rfl | rfl | rfl | rfl | rfl | rfl | rfl | rfl | rfl | rfl | rfl | rfl | rfl | rfl | rfl | rfl | rfl | rfl | rfl | rfl | rfl | rfl | rfl | rfl | rfl | rfl | rfl | rfl | rfl | rfl | rfl | rfl | rfl | rfl | rfl | rfl | rfl | rfl | rfl | rfl | rfl | rfl | rfl
  · exact Or.inl (lw_g (lw_at lw_m1 7 rfl) rfl)
  · exact Or.inl (lw_g (lw_at lw_m2 59 rfl) rfl)
  · exact Or.inl (lw_g (lw_at lw_m2 68 rfl) rfl)
  · exact Or.inl (lw_g (lw_at lw_m2 75 rfl) rfl)
  · exact Or.inl (lw_g (lw_at lw_m2 78 rfl) rfl)
  · exact Or.inl (lw_g (lw_at lw_m2 80 rfl) rfl)
  · exact Or.inl (lw_g (lw_at lw_m2 60 rfl) rfl)
  · exact Or.inl (lw_g (lw_at lw_m2 61 rfl) rfl)
  · exact Or.inl (lw_g (lw_at lw_m1 42 rfl) rfl)
  · exact Or.inl (lw_g (lw_at lw_m1 43 rfl) rfl)
  · exact Or.inl (lw_g (lw_at lw_m2 62 rfl) rfl)
  · exact Or.inl (lw_g (lw_at lw_m2 67 rfl) rfl)
  · exact Or.inl (lw_g (lw_at lw_m2 76 rfl) rfl)
  · exact Or.inl (lw_g (lw_at lw_m2 97 rfl) rfl)
  · exact Or.inl (lw_g (lw_at lw_m2 49 rfl) rfl)
  · exact Or.inl (lw_g (lw_at lw_m2 98 rfl) rfl)
  · exact Or.inl (lw_g (lw_at lw_m2 51 rfl) rfl)
  · exact Or.inl (lw_g (lw_at lw_m2 99 rfl) rfl)
  · exact Or.inl (lw_g (lw_at lw_m2 53 rfl) rfl)
  · exact Or.inl (lw_g (lw_at lw_m2 63 rfl) rfl)
  · exact absurd hno (by decide +kernel)
  · exact Or.inl (lw_g (lw_at lw_m2 65 rfl) rfl)
  · exact absurd hno (by decide +kernel)
  · exact Or.inl (lw_g (lw_at lw_m2 55 rfl) rfl)
  · exact Or.inl (lw_g (lw_at lw_m5 212 rfl) rfl)
  · exact Or.inl (lw_g (lw_at lw_m5 213 rfl) rfl)
  · exact Or.inl (lw_g (lw_at lw_m5 214 rfl) rfl)
  · exact Or.inl (lw_g (lw_at lw_m4 189 rfl) rfl)
  · exact Or.inr ⟨lw_at lw_m2 40 rfl, rfl⟩
  · exact Or.inl (lw_g (lw_at lw_m4 189 rfl) rfl)
  · exact Or.inl (lw_g (lw_at lw_m4 190 rfl) rfl)
  · exact Or.inl (lw_g (lw_at lw_m4 191 rfl) rfl)
  · exact Or.inl (lw_g (lw_at lw_m4 192 rfl) rfl)
  · exact Or.inr ⟨lw_at lw_m2 42 rfl, rfl⟩
  · exact Or.inl (lw_g (lw_at lw_m4 192 rfl) rfl)
  · exact Or.inl (lw_g (lw_at lw_m4 193 rfl) rfl)
  · exact Or.inl (lw_g (lw_at lw_m4 194 rfl) rfl)
  · exact Or.inl (lw_g (lw_at lw_m2 60 rfl) rfl)
  · exact Or.inr ⟨lw_at lw_m2 44 rfl, rfl⟩
  · exact Or.inl (lw_g (lw_at lw_m5 211 rfl) rfl)
  · exact Or.inl (lw_g (lw_at lw_m5 203 rfl) rfl)
  · exact Or.inr ⟨lw_at lw_m5 204 rfl, rfl⟩
  · exact Or.inl (lw_g (lw_at lw_m5 205 rfl) rfl)
  · exact Or.inl (lw_g (lw_at lw_m2 72 rfl) rfl)
  · exact Or.inl (lw_g (lw_at lw_m5 206 rfl) rfl)
  · exact Or.inl (lw_g (lw_at lw_m5 207 rfl) rfl)
  · exact Or.inl (lw_g (lw_at lw_m5 208 rfl) rfl)
  · exact Or.inl (lw_g (lw_at lw_m5 209 rfl) rfl)
  · exact absurd hno (by decide +kernel)
  · exact absurd hno (by decide +kernel)
  · exact Or.inl (lw_g (lw_at lw_m2 58 rfl) rfl)
  · exact Or.inl (lw_g (lw_at lw_m2 57 rfl) rfl)
  · exact Or.inl (lw_g (lw_at lw_m5 210 rfl) rfl)
theorem thr_NSE : thrK "GuestView" 95 97 "java/util/NoSuchElementException" := by
  refine ⟨lw_g (lw_at lw_m5 228 rfl) rfl, lw_g (lw_at lw_m1 30 rfl) rfl, by decide +kernel, by decide +kernel, fun w hw hno => ?_⟩
  simp only [Bundle.ownAtoms0, Bundle.throwableAtoms, Bundle.chain0Atoms, Bundle.passAtoms, Bundle.five, List.cons_append, List.nil_append, List.append_nil, List.mem_cons, List.not_mem_nil, or_false] at hw
  rcases hw with rfl | rfl | rfl | rfl | rfl | rfl | rfl | rfl | rfl | rfl | rfl | rfl | rfl | rfl | rfl | rfl | rfl | rfl | rfl | rfl | rfl | rfl | rfl | rfl | rfl | rfl | rfl | rfl | rfl | rfl | rfl | rfl | rfl | rfl | rfl | rfl | rfl | rfl | rfl | rfl | rfl | rfl | rfl | rfl | rfl | rfl | rfl | rfl | rfl | rfl | rfl | rfl | rfl
  · exact Or.inl (lw_g (lw_at lw_m1 7 rfl) rfl)
  · exact Or.inl (lw_g (lw_at lw_m2 59 rfl) rfl)
  · exact Or.inl (lw_g (lw_at lw_m2 68 rfl) rfl)
  · exact Or.inl (lw_g (lw_at lw_m2 75 rfl) rfl)
  · exact Or.inl (lw_g (lw_at lw_m2 78 rfl) rfl)
  · exact Or.inl (lw_g (lw_at lw_m2 80 rfl) rfl)
  · exact Or.inl (lw_g (lw_at lw_m2 60 rfl) rfl)
  · exact Or.inl (lw_g (lw_at lw_m2 61 rfl) rfl)
  · exact Or.inl (lw_g (lw_at lw_m1 42 rfl) rfl)
  · exact Or.inl (lw_g (lw_at lw_m1 43 rfl) rfl)
  · exact Or.inl (lw_g (lw_at lw_m2 62 rfl) rfl)
  · exact Or.inl (lw_g (lw_at lw_m2 67 rfl) rfl)
  · exact Or.inl (lw_g (lw_at lw_m2 76 rfl) rfl)
  · exact Or.inl (lw_g (lw_at lw_m2 97 rfl) rfl)
  · exact Or.inl (lw_g (lw_at lw_m2 49 rfl) rfl)
  · exact Or.inl (lw_g (lw_at lw_m2 98 rfl) rfl)
  · exact Or.inl (lw_g (lw_at lw_m2 51 rfl) rfl)
  · exact Or.inl (lw_g (lw_at lw_m2 99 rfl) rfl)
  · exact Or.inl (lw_g (lw_at lw_m2 53 rfl) rfl)
  · exact Or.inl (lw_g (lw_at lw_m2 63 rfl) rfl)
  · exact absurd hno (by decide +kernel)
  · exact Or.inl (lw_g (lw_at lw_m2 65 rfl) rfl)
  · exact absurd hno (by decide +kernel)
  · exact Or.inl (lw_g (lw_at lw_m2 55 rfl) rfl)
  · exact Or.inl (lw_g (lw_at lw_m5 238 rfl) rfl)
  · exact Or.inl (lw_g (lw_at lw_m5 239 rfl) rfl)
  · exact Or.inl (lw_g (lw_at lw_m6 0 rfl) rfl)
  · exact Or.inl (lw_g (lw_at lw_m4 189 rfl) rfl)
  · exact Or.inr ⟨lw_at lw_m2 40 rfl, rfl⟩
  · exact Or.inl (lw_g (lw_at lw_m4 189 rfl) rfl)
  · exact Or.inl (lw_g (lw_at lw_m4 190 rfl) rfl)
  · exact Or.inl (lw_g (lw_at lw_m4 191 rfl) rfl)
  · exact Or.inl (lw_g (lw_at lw_m4 192 rfl) rfl)
  · exact Or.inr ⟨lw_at lw_m2 42 rfl, rfl⟩
  · exact Or.inl (lw_g (lw_at lw_m4 192 rfl) rfl)
  · exact Or.inl (lw_g (lw_at lw_m4 193 rfl) rfl)
  · exact Or.inl (lw_g (lw_at lw_m4 194 rfl) rfl)
  · exact Or.inl (lw_g (lw_at lw_m2 60 rfl) rfl)
  · exact Or.inr ⟨lw_at lw_m2 44 rfl, rfl⟩
  · exact Or.inl (lw_g (lw_at lw_m5 237 rfl) rfl)
  · exact Or.inl (lw_g (lw_at lw_m5 229 rfl) rfl)
  · exact Or.inr ⟨lw_at lw_m5 230 rfl, rfl⟩
  · exact Or.inl (lw_g (lw_at lw_m5 231 rfl) rfl)
  · exact Or.inl (lw_g (lw_at lw_m2 74 rfl) rfl)
  · exact Or.inl (lw_g (lw_at lw_m5 232 rfl) rfl)
  · exact Or.inl (lw_g (lw_at lw_m5 233 rfl) rfl)
  · exact Or.inl (lw_g (lw_at lw_m5 234 rfl) rfl)
  · exact Or.inl (lw_g (lw_at lw_m5 235 rfl) rfl)
  · exact absurd hno (by decide +kernel)
  · exact absurd hno (by decide +kernel)
  · exact Or.inl (lw_g (lw_at lw_m2 58 rfl) rfl)
  · exact Or.inl (lw_g (lw_at lw_m2 57 rfl) rfl)
  · exact Or.inl (lw_g (lw_at lw_m5 236 rfl) rfl)
