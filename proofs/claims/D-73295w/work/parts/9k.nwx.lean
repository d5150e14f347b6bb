/-! NEW CELLS at places that are known; reads of shapes, references, longs -/
/-- a new cell at x -/
def mNx (M : Mem) (x : Int) (t : Nat) (n : Int) (sl : Nat) : Mem :=
  (fun b => if b = x then some (t, n) else M.1 b, fun b k => if b = x then 0 else M.2.1 b k, fun b k => if b = x then none else M.2.2.1 b k, fun b k => if b = x then 0 else M.2.2.2.1 b k, mnx M + 1, mns M + sl)
theorem mNx_e {M : Mem} {x : Int} {t : Nat} {n : Int} {sl : Nat} (h : (mnx M : Int) = x) : mN M t n sl = mNx M x t n sl := by
  subst h
  rfl
section AX
variable {G : GW} {d : Nat} {j : MI} {pc : Nat} {L : LV} {S : List DV} {M : Mem} {Q : Res → Mem → Prop} {x : Int} {t idx : Nat} {n : Int}
theorem x_newaX {at_ : ArrayType} (hx : (mnx M : Int) = x) (ht : t = 100 ∨ t = 101 ∨ t = 102) (hty : newarray.typeOf at_ = aTy t) (hq : Cond.arrayClass (aTy t) ∈ lw_all) (h0 : 0 ≤ n) (h1 : n ≤ 65536) (hd : decode j.2.1 pc = .ok (.newarray at_, 2)) (kk : WP G d j (pc + 2) L (dR x :: S) (mNx M x t n n.toNat) Q) : WP G d j pc L (dI n :: S) M Q := by
  subst hx
  exact x_newa ht hty hq h0 h1 hd kk
theorem x_anewX {C : String} (hx : (mnx M : Int) = x) (ht : t = 123 ∨ t = 126 ∨ t = 134 ∨ t = 140) (hC : aTy t = .object C) (hq : Cond.classLink j.1.cls idx C ∈ lw_all) (h0 : 0 ≤ n) (h1 : n ≤ 65536) (hd : decode j.2.1 pc = .ok (.anewarray idx, 3)) (kk : WP G d j (pc + 3) L (dR x :: S) (mNx M x t n n.toNat) Q) : WP G d j pc L (dI n :: S) M Q := by
  subst hx
  exact x_anew ht hC hq h0 h1 hd kk
theorem x_newX {C : String} {T : u_T} {N : Nat} (hx : (mnx M : Int) = x) (hc : clG[t]? = some (C, T, N)) (hq1 : Cond.classLink j.1.cls idx C ∈ lw_all) (hq2 : Cond.instantiable C N ∈ lw_all) (hq3 : Cond.initialized C ∈ lw_all) (hd : decode j.2.1 pc = .ok (.new idx, 3)) (kk : WP G d j (pc + 3) L (dR x :: S) (mNx M x t 0 N) Q) : WP G d j pc L S M Q := by
  subst hx
  exact x_new hc hq1 hq2 hq3 hd kk
end AX
section RX
variable {M : Mem} {a i x b k c sp dp v : Int} {t sl : Nat} {n : Int} {r : Option Int} {g l : Int → Int → Int}
theorem nxI : mnx (mI M a i v) = mnx M := rfl
theorem nxR : mnx (mR M a i r) = mnx M := rfl
theorem nxL : mnx (mL M a i v) = mnx M := rfl
theorem nxC : mnx (mC M c sp a dp n) = mnx M := rfl
theorem nxD : mnx (mD M c sp a dp n) = mnx M := rfl
theorem nxW : mnx (wI M g) = mnx M := rfl
theorem nxV : mnx (wL M g l) = mnx M := rfl
theorem nxN : mnx (mNx M x t n sl) = mnx M + 1 := rfl
theorem nsI : mns (mI M a i v) = mns M := rfl
theorem nsR : mns (mR M a i r) = mns M := rfl
theorem nsL : mns (mL M a i v) = mns M := rfl
theorem nsC : mns (mC M c sp a dp n) = mns M := rfl
theorem nsD : mns (mD M c sp a dp n) = mns M := rfl
theorem nsW : mns (wI M g) = mns M := rfl
theorem nsV : mns (wL M g l) = mns M := rfl
theorem nsN : mns (mNx M x t n sl) = mns M + sl := rfl
theorem shI : msh (mI M a i v) b = msh M b := rfl
theorem shR : msh (mR M a i r) b = msh M b := rfl
theorem shL : msh (mL M a i v) b = msh M b := rfl
theorem shC : msh (mC M c sp a dp n) b = msh M b := rfl
theorem shD : msh (mD M c sp a dp n) b = msh M b := rfl
theorem shW : msh (wI M g) b = msh M b := rfl
theorem sh_V : msh (wL M g l) b = msh M b := rfl
theorem shN_e (h : b = x) : msh (mNx M x t n sl) b = some (t, n) := if_pos h
theorem shN_n (h : ¬ b = x) : msh (mNx M x t n sl) b = msh M b := if_neg h
theorem crI : mcr (mI M a i v) b k = mcr M b k := rfl
theorem crL : mcr (mL M a i v) b k = mcr M b k := rfl
theorem crC : mcr (mC M c sp a dp n) b k = mcr M b k := rfl
theorem crW : mcr (wI M g) b k = mcr M b k := rfl
theorem crV : mcr (wL M g l) b k = mcr M b k := rfl
theorem crR_e (h : b = a ∧ k = i) : mcr (mR M a i r) b k = r := if_pos h
theorem crR_n (h : ¬ (b = a ∧ k = i)) : mcr (mR M a i r) b k = mcr M b k := if_neg h
theorem crN_e (h : b = x) : mcr (mNx M x t n sl) b k = none := if_pos h
theorem crN_n (h : ¬ b = x) : mcr (mNx M x t n sl) b k = mcr M b k := if_neg h
theorem crD_i (h : b = a ∧ dp ≤ k ∧ k < dp + n) : mcr (mD M c sp a dp n) b k = mcr M c (sp + (k - dp)) := if_pos h
theorem crD_o (h : ¬ (b = a ∧ dp ≤ k ∧ k < dp + n)) : mcr (mD M c sp a dp n) b k = mcr M b k := if_neg h
theorem ciR : mci (mR M a i r) b k = mci M b k := rfl
theorem ciL : mci (mL M a i v) b k = mci M b k := rfl
theorem ciD : mci (mD M c sp a dp n) b k = mci M b k := rfl
theorem ciN_e (h : b = x) : mci (mNx M x t n sl) b k = 0 := if_pos h
theorem ciN_n (h : ¬ b = x) : mci (mNx M x t n sl) b k = mci M b k := if_neg h
theorem clI : mcl (mI M a i v) b k = mcl M b k := rfl
theorem clR : mcl (mR M a i r) b k = mcl M b k := rfl
theorem clC : mcl (mC M c sp a dp n) b k = mcl M b k := rfl
theorem clD : mcl (mD M c sp a dp n) b k = mcl M b k := rfl
theorem clW : mcl (wI M g) b k = mcl M b k := rfl
theorem clV : mcl (wL M g l) b k = l b k := rfl
theorem clN_e (h : b = x) : mcl (mNx M x t n sl) b k = 0 := if_pos h
theorem clN_n (h : ¬ b = x) : mcl (mNx M x t n sl) b k = mcl M b k := if_neg h
theorem clL_e (h : b = a ∧ k = i) : mcl (mL M a i v) b k = v := if_pos h
theorem clL_n (h : ¬ (b = a ∧ k = i)) : mcl (mL M a i v) b k = mcl M b k := if_neg h
end RX
/-- some cells are as they were -/
def Kp (P : Int → Prop) (M M1 : Mem) : Prop := ∀ b, P b → msh M1 b = msh M b ∧ (∀ k, mci M1 b k = mci M b k) ∧ (∀ k, mcr M1 b k = mcr M b k) ∧ ∀ k, mcl M1 b k = mcl M b k
theorem Kp.rfl {P : Int → Prop} {M : Mem} : Kp P M M := fun _ _ => ⟨_root_.rfl, fun _ => _root_.rfl, fun _ => _root_.rfl, fun _ => _root_.rfl⟩
theorem Kp.trans {P : Int → Prop} {M M1 M2 : Mem} (h : Kp P M M1) (h' : Kp P M1 M2) : Kp P M M2 := fun b hb =>
  ⟨(h' b hb).1.trans (h b hb).1, fun k => ((h' b hb).2.1 k).trans ((h b hb).2.1 k), fun k => ((h' b hb).2.2.1 k).trans ((h b hb).2.2.1 k), fun k => ((h' b hb).2.2.2 k).trans ((h b hb).2.2.2 k)⟩
theorem Kp.mono {P P' : Int → Prop} {M M1 : Mem} (h : Kp P M M1) (hp : ∀ b, P' b → P b) : Kp P' M M1 := fun b hb => h b (hp b hb)
/-- a new object, nothing written yet -/
def Frsh (M : Mem) (a : Int) : Prop := ∀ k, mci M a k = 0 ∧ mcr M a k = none ∧ mcl M a k = 0
theorem Frsh.n {M : Mem} {x : Int} {t sl : Nat} {n : Int} : Frsh (mNx M x t n sl) x := fun k => ⟨ciN_e rfl, crN_e rfl, clN_e rfl⟩
theorem Frsh.kp {P : Int → Prop} {M M1 : Mem} {a : Int} (h : Frsh M a) (hk : Kp P M M1) (ha : P a) : Frsh M1 a := fun k => ⟨((hk a ha).2.1 k).trans (h k).1, ((hk a ha).2.2.1 k).trans (h k).2.1, ((hk a ha).2.2.2 k).trans (h k).2.2⟩
