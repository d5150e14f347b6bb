/-! GuestViewModel: lines of the law -/
/-- a pile of numbers lies in a row -/
def PR (f : Int → Int) : List Int → Prop
  | [] => True
  | x :: r => f (r.length : Int) = x ∧ PR f r
theorem PR.at {f f' : Int → Int} : ∀ {st : List Int}, PR f st → (∀ k, 0 ≤ k → k < (st.length : Int) → f' k = f k) → PR f' st := by
  intro st
  induction st with
  | nil => intro _ _; trivial
  | cons x r ih =>
    intro h he
    have hl : ((x :: r).length : Int) = r.length + 1 := by simp
    exact ⟨(he _ (by omega) (by omega)).trans h.1, ih h.2 fun k a b => he k a (by omega)⟩
theorem PR.last {f : Int → Int} : ∀ {st : List Int}, PR f st → st ≠ [] → st.getLast? = some (f 0) := by
  intro st
  induction st with
  | nil => intro _ h; exact absurd rfl h
  | cons x r ih =>
    intro h _
    cases r with
    | nil =>
      have e : f 0 = x := h.1
      rw [e]
      rfl
    | cons y r =>
      rw [List.getLast?_cons_cons]
      exact ih h.2 (by simp)
/-- only the pile is another one -/
def TV (m : Int) (f g : Ci) : Prop := ∀ a k, ¬ a = m + 12 → g a k = f a k
theorem TV.rfl {m : Int} {f : Ci} : TV m f f := fun _ _ _ => _root_.rfl
theorem TV.trans {m : Int} {f g h : Ci} (a : TV m f g) (b : TV m g h) : TV m f h := fun x k r => (b x k r).trans (a x k r)
theorem TV.te {m : Int} {f g : Ci} (h : TV m f g) : TE m f g := fun a k r => h a k (by unfold scr at r; omega)
theorem TV.w {m : Int} {f g : Ci} {v : Vw} (h : TV m f g) (hw : f (m + 1) = v) : g (m + 1) = v := h.te.w hw
theorem TV.sk {m : Int} {f g : Ci} (h : TV m f g) (hs : sk01 f m) : sk01 g m := by
  unfold sk01 at hs ⊢
  rw [h _ _ (by omega)]
  exact hs
def asum : List Int → Int
  | [] => 0
  | x :: r => (x.natAbs : Int) + asum r
theorem asum_0 : ∀ st : List Int, 0 ≤ asum st := by
  intro st
  induction st with
  | nil => exact Int.le_refl 0
  | cons x r ih =>
    show 0 ≤ (x.natAbs : Int) + asum r
    omega
/-- so many codes from i on are a pile's, which holds so many -/
def wfC (v : Vw) : Nat → Int → Nat → Prop
  | 0, _, _ => True
  | t + 1, i, n => if v (417 + 2 * i) ≤ 10 then wfC v t (i + 1) (n + 1) else if v (417 + 2 * i) = 14 then 1 ≤ n ∧ wfC v t (i + 1) n else 2 ≤ n ∧ wfC v t (i + 1) (n - 1)
/-- a line of the law is well formed -/
def lineOK (v : Vw) (n : Int) : Prop :=
  (0 ≤ v (369 + 4 * n) ∧ v (369 + 4 * n) ≤ 2) ∧ (0 ≤ v (370 + 4 * n) ∧ v (370 + 4 * n) ≤ 40) ∧ (0 ≤ v (371 + 4 * n) ∧ v (371 + 4 * n) ≤ v (372 + 4 * n) ∧ v (372 + 4 * n) ≤ 400) ∧
  (∀ i, v (371 + 4 * n) ≤ i → i < v (372 + 4 * n) → (0 ≤ v (417 + 2 * i) ∧ v (417 + 2 * i) ≤ 16) ∧ (v (417 + 2 * i) = 10 → 0 ≤ v (418 + 2 * i) ∧ v (418 + 2 * i) ≤ 999)) ∧
  wfC v (v (372 + 4 * n) - v (371 + 4 * n)).toNat (v (371 + 4 * n)) 0
def lawOK (v : Vw) : Prop := (v 2 = 0 ∨ v 2 = 1) ∧ (v 2 = 1 → (0 ≤ v 368 ∧ v 368 ≤ 12) ∧ ∀ n, 0 ≤ n → n < v 368 → lineOK v n)
/-- what a code makes of a pile -/
def nxtC (v : Vw) (fc : Int → Int) (i : Int) (st : List Int) : List Int := if v (417 + 2 * i) ≤ 9 then fc (v (417 + 2 * i)) :: st else if v (417 + 2 * i) = 10 then v (418 + 2 * i) :: st
      else if v (417 + 2 * i) = 14 then (match st with | a :: r => (1 - a) :: r | [] => []) else pop2 (v (417 + 2 * i)) st
theorem runC_s {v : Vw} {fc : Int → Int} {t : Nat} {i : Int} {st : List Int} : runC v fc (t + 1) i st = runC v fc t (i + 1) (nxtC v fc i st) := rfl
theorem nxtC_10 {v : Vw} {fc : Int → Int} {i : Int} {st : List Int} (h : v (417 + 2 * i) ≤ 10) : nxtC v fc i st = (if v (417 + 2 * i) ≤ 9 then fc (v (417 + 2 * i)) else v (418 + 2 * i)) :: st := by
  unfold nxtC
  by_cases q : v (417 + 2 * i) ≤ 9
  · rw [if_pos q, if_pos q]
  · rw [if_neg q, if_neg q, if_pos (by omega)]
theorem nxtC_14 {v : Vw} {fc : Int → Int} {i y : Int} {r : List Int} (h : v (417 + 2 * i) = 14) : nxtC v fc i (y :: r) = (1 - y) :: r := by
  unfold nxtC
  rw [if_neg (by omega), if_neg (by omega), if_pos h]
theorem nxtC_2 {v : Vw} {fc : Int → Int} {i : Int} {st : List Int} (h : ¬ v (417 + 2 * i) ≤ 10) (h2 : ¬ v (417 + 2 * i) = 14) : nxtC v fc i st = pop2 (v (417 + 2 * i)) st := by
  unfold nxtC
  rw [if_neg (by omega), if_neg (by omega), if_neg h2]
theorem pop2_e {c y z : Int} {r : List Int} : pop2 c (y :: z :: r) = (if c = 11 then z + y else if c = 12 then (if z < y then 1 else 0) else if c = 13 then (if z > y then 1 else 0) else if c = 15 then (if z + y = 2 then 1 else 0) else if z + y > 0 then 1 else 0) :: r := rfl
theorem factV_r {v : Vw} {p k : Int} (h : okB v) (hp : 0 ≤ p ∧ p < v 0) (hk : 0 ≤ k ∧ k ≤ 9) : 0 ≤ factV v p k ∧ factV v p k ≤ 10 := (factOk h hp).r k hk.1 (by omega)
section X8
variable {G : GW} {d : Nat} {M : Mem} {m a b c p k i what n st : Int} {v : Vw}
theorem s_X8_holdsLine (hd : 14 ≤ d) (hT : TwS (msh M) (mcr M) m) (hw : mci M (m + 1) = v) (hv : okB v) (hp : 0 ≤ p ∧ p < v 0) (hTr : TrOk (mci M) m v) (hn : 0 ≤ n ∧ n < 12) (hL : lineOK v n) : CS G d mX8_holdsLine [dR m, dI n, dI p] M (postI fun x M1 => x = vP (holdV v (factV v p) n) ∧ ∃ g, M1 = wI M g ∧ TV m (mci M) g) := by
  have hT_ := hT; obtain ⟨p0, p1, ⟨c1, c2, c3, c4, c5, c6, c7, c8, c9, c10, c11, c12, c13, c14, c15⟩, ⟨t1, t2, t3, t4, t5, t6, t7, t8, t9, t10, t11, t12, t13, t14, t15⟩⟩ := hT_
  obtain ⟨w1, w2, w3, w4, w5⟩ := hL
  refine CS.mkQ (by decide) (Nat.le_of_ble_eq_true rfl) fun Q hQ => ?_
  have loop : ∀ (t : Nat) (i top : Int) (st : List Int) (g : Ci), (v (372 + 4 * n) - i).toNat = t → (v (371 + 4 * n) ≤ i) → (i ≤ v (372 + 4 * n)) → (top = (st.length : Int)) → (PR (g (m + 12)) st) → (top ≤ i - v (371 + 4 * n)) → (asum st ≤ 1000 * (i - v (371 + 4 * n))) → (wfC v t i st.length) → (runC v (factV v p) (v (372 + 4 * n) - v (371 + 4 * n)).toNat (v (371 + 4 * n)) [] = runC v (factV v p) t i st) → (TV m (mci M) g) → WP G d mX8_holdsLine 22 [some (dR m), some (dI n), some (dI p), some (dI top), some (dI (369 + 4 * n)), some (dI i), none, none, none, none] [] (wI M g) Q := by
    intro t
    induction t using Nat.strongRecOn with
    | _ t ih =>
      intro i top st g ht i0 i1 htop hpr hsz has hwf hR hf
      have hw : g (m + 1) = v := hf.w hw
      have hTr : TrOk g m v := hTr.te hf.te
      have e3 : ∀ j, j = 372 + 4 * n → v j = v (372 + 4 * n) := fun j q => by rw [q]
      have ec : ∀ j, j = 417 + 2 * i → v j = v (417 + 2 * i) := fun j q => by rw [q]
      have ed : ∀ j, j = 418 + 2 * i → v j = v (418 + 2 * i) := fun j q => by rw [q]
      by_cases hie : i < v (372 + 4 * n)
      · have et : t = (v (372 + 4 * n) - (i + 1)).toNat + 1 := by omega
        have hc := w4 i i0 hie
        rw [et, runC_s] at hR
        rw [et] at hwf
        have ftop : ∀ (X : Int) (st' : List Int) (tp : Int), tp = (st'.length : Int) → PR (g (m + 12)) st' → (tp < top + 1) → (X.natAbs : Int) + asum st' ≤ 1000 * (i + 1 - v (371 + 4 * n)) → wfC v (v (372 + 4 * n) - (i + 1)).toNat (i + 1) (st'.length + 1) → runC v (factV v p) (v (372 + 4 * n) - v (371 + 4 * n)).toNat (v (371 + 4 * n)) [] = runC v (factV v p) (v (372 + 4 * n) - (i + 1)).toNat (i + 1) (X :: st') → ∀ j tq, j = tp → tq = tp + 1 → WP G d mX8_holdsLine 22 [some (dR m), some (dI n), some (dI p), some (dI tq), some (dI (369 + 4 * n)), some (dI (i + 1)), none, none, none, none] [] (mI (wI M g) (m + 12) j X) Q := by
          intro X st' tp k1 k2 k3 k4 k5 k6 j tq k7 k8
          subst k7
          subst k8
          refine ih _ (by omega) (i + 1) (j + 1) (X :: st') (up g (m + 12) j X) rfl (by omega) (by omega) ?_ ?_ (by omega) k4 k5 k6 (fun a' k' q => ?_)
          · simp [k1]
          · refine ⟨?_, PR.at k2 fun k q0 q1 => rdU_n (by omega)⟩
            rw [← k1]
            exact rdU_e ⟨rfl, rfl⟩
          · have := hf a' k' q
            rw [rdU_n (by omega)]
            exact this
        have htop0 : 0 ≤ top := by omega
        have h400 : top < 400 := by omega
        by_cases c10 : v (417 + 2 * i) ≤ 10
        · have hwf' : wfC v (v (372 + 4 * n) - (i + 1)).toNat (i + 1) (st.length + 1) := by
            unfold wfC at hwf
            rw [if_pos c10] at hwf
            exact hwf
          rw [nxtC_10 c10] at hR
          have hXr : 0 ≤ (if v (417 + 2 * i) ≤ 9 then factV v p (v (417 + 2 * i)) else v (418 + 2 * i)) ∧ (if v (417 + 2 * i) ≤ 9 then factV v p (v (417 + 2 * i)) else v (418 + 2 * i)) ≤ 999 := by
            split
            · have := factV_r hv hp ⟨hc.1.1, ‹_›⟩
              omega
            · exact hc.2 (by omega)
          refine x_iload dX8_holdsLine_22 rfl ?_
          refine x_aload_n dX8_holdsLine_24 rfl rfl ?_
          refine g_getR (kI := 1) rfl dX8_holdsLine_25 fX8_13_8 (by first | assumption | exact hT.2.1) (by first | assumption | exact hT.2.1) ?_
          refine x_iload dX8_holdsLine_28 rfl ?_
          refine x_iconst dX8_holdsLine_30 rfl ?_
          first | refine x_iaddN dX8_holdsLine_31 (by unfold i32; omega) ?_ | refine x_iadd dX8_holdsLine_31 ?_
          refine x_iald dX8_holdsLine_32 (by first | assumption | exact hT.2.1) (by omega) (by omega) ?_
          try simp (disch := omega) only [rdI_e, rdI_n, rdC_i, rdC_o, rdW, rdR, rdU_e, rdU_n, rdLW, Int.add_zero, hw, e3, ec, ed]
          refine x_icmp_ge (tgt := 263) dX8_holdsLine_33 (by decide) (fun h33 => ?_) (fun h33 => ?_)
          · omega
          · refine x_aload_n dX8_holdsLine_36 rfl rfl ?_
            refine g_getR (kI := 1) rfl dX8_holdsLine_37 fX8_13_8 (by first | assumption | exact hT.2.1) (by first | assumption | exact hT.2.1) ?_
            refine x_sipush dX8_holdsLine_40 rfl ?_
            refine x_iconst dX8_holdsLine_43 rfl ?_
            refine x_iload dX8_holdsLine_44 rfl ?_
            first | refine x_imulN dX8_holdsLine_46 (by unfold i32; omega) ?_ | refine x_imul dX8_holdsLine_46 ?_
            first | refine x_iaddN dX8_holdsLine_47 (by unfold i32; omega) ?_ | refine x_iadd dX8_holdsLine_47 ?_
            refine x_iald dX8_holdsLine_48 (by first | assumption | exact hT.2.1) (by omega) (by omega) ?_
            try simp (disch := omega) only [rdI_e, rdI_n, rdC_i, rdC_o, rdW, rdR, rdU_e, rdU_n, rdLW, Int.add_zero, hw, e3, ec, ed]
            refine x_istore (L' := [some _, some _, some _, some _, some _, some _, some _, none, none, none]) dX8_holdsLine_49 (by decide) rfl ?_
            refine x_iload dX8_holdsLine_51 rfl ?_
            refine x_bipush dX8_holdsLine_53 rfl ?_
            refine x_icmp_gt (tgt := 92) dX8_holdsLine_55 (by decide) (fun h55 => ?_) (fun h55 => ?_)
            · omega
            · refine x_aload_n dX8_holdsLine_58 rfl rfl ?_
              refine g_getR (kI := 28) rfl dX8_holdsLine_59 fX8_52_8 (by first | assumption | exact hT.2.1) (by first | assumption | exact hT.2.1) ?_
              refine x_iload_n dX8_holdsLine_62 rfl rfl ?_
              refine x_aload_n dX8_holdsLine_63 rfl rfl ?_
              refine x_iload dX8_holdsLine_64 rfl ?_
              refine x_aload_n dX8_holdsLine_66 rfl rfl ?_
              refine g_getR (kI := 1) rfl dX8_holdsLine_67 fX8_13_8 (by first | assumption | exact hT.2.1) (by first | assumption | exact hT.2.1) ?_
              refine x_sipush dX8_holdsLine_70 rfl ?_
              refine x_iconst dX8_holdsLine_73 rfl ?_
              refine x_iload dX8_holdsLine_74 rfl ?_
              first | refine x_imulN dX8_holdsLine_76 (by unfold i32; omega) ?_ | refine x_imul dX8_holdsLine_76 ?_
              first | refine x_iaddN dX8_holdsLine_77 (by unfold i32; omega) ?_ | refine x_iadd dX8_holdsLine_77 ?_
              refine x_iconst dX8_holdsLine_78 rfl ?_
              first | refine x_iaddN dX8_holdsLine_79 (by unfold i32; omega) ?_ | refine x_iadd dX8_holdsLine_79 ?_
              refine x_iald dX8_holdsLine_80 (by first | assumption | exact hT.2.1) (by omega) (by omega) ?_
              try simp (disch := omega) only [rdI_e, rdI_n, rdC_i, rdC_o, rdW, rdR, rdU_e, rdU_n, rdLW, Int.add_zero, hw, e3, ec, ed]
              refine x_iload_n dX8_holdsLine_81 rfl rfl ?_
              refine g_callI (vs := [_, _, _, _]) (d' := d - 1) rfl (s_X8_factOf (M := wI M g) (by omega) hT hw hv hp hTr ⟨hc.1.1, by omega⟩) dX8_holdsLine_82 kX8_374 (by omega) (by decide) rfl (Nat.le_of_ble_eq_true rfl) (rcv_o (by first | assumption | exact hT.2.1) rfl) (fun x82 M82 h82 => ?_)
              obtain ⟨e82, f82⟩ := h82
              have f82' := f82.symm
              subst f82'
              subst e82
              try simp (disch := omega) only [rdI_e, rdI_n, rdC_i, rdC_o, rdW, rdR, rdU_e, rdU_n, rdLW, Int.add_zero, hw, e3, ec, ed]
              refine x_iast (by omega) dX8_holdsLine_85 (by first | assumption | exact hT.2.1) (by omega) (by omega) ?_
              first | refine x_iincN (L' := [some _, some _, some _, some _, some _, some _, some _, none, none, none]) dX8_holdsLine_86 rfl (by decide) (by unfold i32; omega) rfl ?_ | refine x_iinc (L' := [some _, some _, some _, some _, some _, some _, some _, none, none, none]) dX8_holdsLine_86 rfl (by decide) rfl ?_
              refine x_goto (tgt := 257) dX8_holdsLine_89 (by decide) ?_
              first | refine x_iincN (L' := [some _, some _, some _, some _, some _, some _, some _, none, none, none]) dX8_holdsLine_257 rfl (by decide) (by unfold i32; omega) rfl ?_ | refine x_iinc (L' := [some _, some _, some _, some _, some _, some _, some _, none, none, none]) dX8_holdsLine_257 rfl (by decide) rfl ?_
              refine x_goto (tgt := 22) dX8_holdsLine_260 (by decide) ?_
              exact x_fgt (L' := [some (dR m), some (dI n), some (dI p), some (dI (top + 1)), some (dI (369 + 4 * n)), some (dI (i + 1)), none, none, none, none]) (by simp [subL]) (ftop _ st top htop hpr (by omega) (by omega) hwf' hR top (top + 1) rfl rfl)
        · by_cases c14 : v (417 + 2 * i) = 14
          · have hwf' : 1 ≤ st.length ∧ wfC v (v (372 + 4 * n) - (i + 1)).toNat (i + 1) st.length := by
              unfold wfC at hwf
              rw [if_neg c10, if_pos c14] at hwf
              exact hwf
            cases st with
            | nil => exact absurd hwf'.1 (by simp)
            | cons y r =>
              rw [nxtC_14 c14] at hR
              have hl : ((y :: r).length : Int) = r.length + 1 := by simp
              have ey : ∀ j, j = top - 1 → g (m + 12) j = y := fun j q => by
                rw [show j = (r.length : Int) by omega]
                exact hpr.1
              have has' : (y.natAbs : Int) + asum r ≤ 1000 * (i - v (371 + 4 * n)) := has
              have h0 := asum_0 r
              refine x_iload dX8_holdsLine_22 rfl ?_
              refine x_aload_n dX8_holdsLine_24 rfl rfl ?_
              refine g_getR (kI := 1) rfl dX8_holdsLine_25 fX8_13_8 (by first | assumption | exact hT.2.1) (by first | assumption | exact hT.2.1) ?_
              refine x_iload dX8_holdsLine_28 rfl ?_
              refine x_iconst dX8_holdsLine_30 rfl ?_
              first | refine x_iaddN dX8_holdsLine_31 (by unfold i32; omega) ?_ | refine x_iadd dX8_holdsLine_31 ?_
              refine x_iald dX8_holdsLine_32 (by first | assumption | exact hT.2.1) (by omega) (by omega) ?_
              try simp (disch := omega) only [rdI_e, rdI_n, rdC_i, rdC_o, rdW, rdR, rdU_e, rdU_n, rdLW, Int.add_zero, hw, e3, ec, ed, ey]
              refine x_icmp_ge (tgt := 263) dX8_holdsLine_33 (by decide) (fun h33 => ?_) (fun h33 => ?_)
              · omega
              · refine x_aload_n dX8_holdsLine_36 rfl rfl ?_
                refine g_getR (kI := 1) rfl dX8_holdsLine_37 fX8_13_8 (by first | assumption | exact hT.2.1) (by first | assumption | exact hT.2.1) ?_
                refine x_sipush dX8_holdsLine_40 rfl ?_
                refine x_iconst dX8_holdsLine_43 rfl ?_
                refine x_iload dX8_holdsLine_44 rfl ?_
                first | refine x_imulN dX8_holdsLine_46 (by unfold i32; omega) ?_ | refine x_imul dX8_holdsLine_46 ?_
                first | refine x_iaddN dX8_holdsLine_47 (by unfold i32; omega) ?_ | refine x_iadd dX8_holdsLine_47 ?_
                refine x_iald dX8_holdsLine_48 (by first | assumption | exact hT.2.1) (by omega) (by omega) ?_
                try simp (disch := omega) only [rdI_e, rdI_n, rdC_i, rdC_o, rdW, rdR, rdU_e, rdU_n, rdLW, Int.add_zero, hw, e3, ec, ed, ey]
                refine x_istore (L' := [some _, some _, some _, some _, some _, some _, some _, none, none, none]) dX8_holdsLine_49 (by decide) rfl ?_
                refine x_iload dX8_holdsLine_51 rfl ?_
                refine x_bipush dX8_holdsLine_53 rfl ?_
                refine x_icmp_gt (tgt := 92) dX8_holdsLine_55 (by decide) (fun h55 => ?_) (fun h55 => ?_)
                · refine x_iload dX8_holdsLine_92 rfl ?_
                  refine x_bipush dX8_holdsLine_94 rfl ?_
                  refine x_icmp_ne (tgt := 120) dX8_holdsLine_96 (by decide) (fun h96 => ?_) (fun h96 => ?_)
                  · omega
                  · refine x_aload_n dX8_holdsLine_99 rfl rfl ?_
                    refine g_getR (kI := 28) rfl dX8_holdsLine_100 fX8_52_8 (by first | assumption | exact hT.2.1) (by first | assumption | exact hT.2.1) ?_
                    refine x_iload_n dX8_holdsLine_103 rfl rfl ?_
                    refine x_iconst dX8_holdsLine_104 rfl ?_
                    first | refine x_isubN dX8_holdsLine_105 (by unfold i32; omega) ?_ | refine x_isub dX8_holdsLine_105 ?_
                    refine x_iconst dX8_holdsLine_106 rfl ?_
                    refine x_aload_n dX8_holdsLine_107 rfl rfl ?_
                    refine g_getR (kI := 28) rfl dX8_holdsLine_108 fX8_52_8 (by first | assumption | exact hT.2.1) (by first | assumption | exact hT.2.1) ?_
                    refine x_iload_n dX8_holdsLine_111 rfl rfl ?_
                    refine x_iconst dX8_holdsLine_112 rfl ?_
                    first | refine x_isubN dX8_holdsLine_113 (by unfold i32; omega) ?_ | refine x_isub dX8_holdsLine_113 ?_
                    refine x_iald dX8_holdsLine_114 (by first | assumption | exact hT.2.1) (by omega) (by omega) ?_
                    try simp (disch := omega) only [rdI_e, rdI_n, rdC_i, rdC_o, rdW, rdR, rdU_e, rdU_n, rdLW, Int.add_zero, hw, e3, ec, ed, ey]
                    first | refine x_isubN dX8_holdsLine_115 (by unfold i32; omega) ?_ | refine x_isub dX8_holdsLine_115 ?_
                    refine x_iast (by omega) dX8_holdsLine_116 (by first | assumption | exact hT.2.1) (by omega) (by omega) ?_
                    refine x_goto (tgt := 257) dX8_holdsLine_117 (by decide) ?_
                    first | refine x_iincN (L' := [some _, some _, some _, some _, some _, some _, some _, none, none, none]) dX8_holdsLine_257 rfl (by decide) (by unfold i32; omega) rfl ?_ | refine x_iinc (L' := [some _, some _, some _, some _, some _, some _, some _, none, none, none]) dX8_holdsLine_257 rfl (by decide) rfl ?_
                    refine x_goto (tgt := 22) dX8_holdsLine_260 (by decide) ?_
                    exact x_fgt (L' := [some (dR m), some (dI n), some (dI p), some (dI top), some (dI (369 + 4 * n)), some (dI (i + 1)), none, none, none, none]) (by simp [subL]) (ftop (1 - y) r (top - 1) (by omega) hpr.2 (by omega) (by omega) hwf'.2 hR (top - 1) top rfl (by omega))
                · omega
          · have hwf' : 2 ≤ st.length ∧ wfC v (v (372 + 4 * n) - (i + 1)).toNat (i + 1) (st.length - 1) := by
              unfold wfC at hwf
              rw [if_neg c10, if_neg c14] at hwf
              exact hwf
            rw [nxtC_2 c10 c14] at hR
            match st, hwf', htop, hpr, has, hR with
            | [], hwf', _, _, _, _ => exact absurd hwf'.1 (by simp)
            | [_], hwf', _, _, _, _ => exact absurd hwf'.1 (by simp)
            | y :: z :: r, hwf', htop, hpr, has, hR =>
              have hl : ((y :: z :: r).length : Int) = r.length + 2 := by simp; omega
              have hl1 : ((z :: r).length : Int) = r.length + 1 := by simp
              have ey : ∀ j, j = top - 1 → g (m + 12) j = y := fun j q => by
                rw [show j = ((z :: r).length : Int) by omega]
                exact hpr.1
              have ez : ∀ j, j = top - 2 → g (m + 12) j = z := fun j q => by
                rw [show j = (r.length : Int) by omega]
                exact hpr.2.1
              have has' : (y.natAbs : Int) + ((z.natAbs : Int) + asum r) ≤ 1000 * (i - v (371 + 4 * n)) := has
              have h0 := asum_0 r
              have fin : ∀ X, pop2 (v (417 + 2 * i)) (y :: z :: r) = X :: r → (X.natAbs : Int) ≤ (y.natAbs : Int) + (z.natAbs : Int) + 1000 → ∀ j tq, j = top - 2 → tq = top - 1 → WP G d mX8_holdsLine 22 [some (dR m), some (dI n), some (dI p), some (dI tq), some (dI (369 + 4 * n)), some (dI (i + 1)), none, none, none, none] [] (mI (wI M g) (m + 12) j X) Q := fun X k1 k2 j tq k3 k4 =>
                ftop X r (top - 2) (by omega) hpr.2.2 (by omega) (by omega) hwf'.2 (k1 ▸ hR) j tq k3 (by omega)
              refine x_iload dX8_holdsLine_22 rfl ?_
              refine x_aload_n dX8_holdsLine_24 rfl rfl ?_
              refine g_getR (kI := 1) rfl dX8_holdsLine_25 fX8_13_8 (by first | assumption | exact hT.2.1) (by first | assumption | exact hT.2.1) ?_
              refine x_iload dX8_holdsLine_28 rfl ?_
              refine x_iconst dX8_holdsLine_30 rfl ?_
              first | refine x_iaddN dX8_holdsLine_31 (by unfold i32; omega) ?_ | refine x_iadd dX8_holdsLine_31 ?_
              refine x_iald dX8_holdsLine_32 (by first | assumption | exact hT.2.1) (by omega) (by omega) ?_
              try simp (disch := omega) only [rdI_e, rdI_n, rdC_i, rdC_o, rdW, rdR, rdU_e, rdU_n, rdLW, Int.add_zero, hw, e3, ec, ed, ey, ez]
              refine x_icmp_ge (tgt := 263) dX8_holdsLine_33 (by decide) (fun h33 => ?_) (fun h33 => ?_)
              · omega
              · refine x_aload_n dX8_holdsLine_36 rfl rfl ?_
                refine g_getR (kI := 1) rfl dX8_holdsLine_37 fX8_13_8 (by first | assumption | exact hT.2.1) (by first | assumption | exact hT.2.1) ?_
                refine x_sipush dX8_holdsLine_40 rfl ?_
                refine x_iconst dX8_holdsLine_43 rfl ?_
                refine x_iload dX8_holdsLine_44 rfl ?_
                first | refine x_imulN dX8_holdsLine_46 (by unfold i32; omega) ?_ | refine x_imul dX8_holdsLine_46 ?_
                first | refine x_iaddN dX8_holdsLine_47 (by unfold i32; omega) ?_ | refine x_iadd dX8_holdsLine_47 ?_
                refine x_iald dX8_holdsLine_48 (by first | assumption | exact hT.2.1) (by omega) (by omega) ?_
                try simp (disch := omega) only [rdI_e, rdI_n, rdC_i, rdC_o, rdW, rdR, rdU_e, rdU_n, rdLW, Int.add_zero, hw, e3, ec, ed, ey, ez]
                refine x_istore (L' := [some _, some _, some _, some _, some _, some _, some _, none, none, none]) dX8_holdsLine_49 (by decide) rfl ?_
                refine x_iload dX8_holdsLine_51 rfl ?_
                refine x_bipush dX8_holdsLine_53 rfl ?_
                refine x_icmp_gt (tgt := 92) dX8_holdsLine_55 (by decide) (fun h55 => ?_) (fun h55 => ?_)
                · refine x_iload dX8_holdsLine_92 rfl ?_
                  refine x_bipush dX8_holdsLine_94 rfl ?_
                  refine x_icmp_ne (tgt := 120) dX8_holdsLine_96 (by decide) (fun h96 => ?_) (fun h96 => ?_)
                  · first | refine x_iincN (L' := [some _, some _, some _, some _, some _, some _, some _, none, none, none]) dX8_holdsLine_120 rfl (by decide) (by unfold i32; omega) rfl ?_ | refine x_iinc (L' := [some _, some _, some _, some _, some _, some _, some _, none, none, none]) dX8_holdsLine_120 rfl (by decide) rfl ?_
                    refine x_aload_n dX8_holdsLine_123 rfl rfl ?_
                    refine g_getR (kI := 28) rfl dX8_holdsLine_124 fX8_52_8 (by first | assumption | exact hT.2.1) (by first | assumption | exact hT.2.1) ?_
                    refine x_iload_n dX8_holdsLine_127 rfl rfl ?_
                    refine x_iconst dX8_holdsLine_128 rfl ?_
                    first | refine x_isubN dX8_holdsLine_129 (by unfold i32; omega) ?_ | refine x_isub dX8_holdsLine_129 ?_
                    refine x_iald dX8_holdsLine_130 (by first | assumption | exact hT.2.1) (by omega) (by omega) ?_
                    try simp (disch := omega) only [rdI_e, rdI_n, rdC_i, rdC_o, rdW, rdR, rdU_e, rdU_n, rdLW, Int.add_zero, hw, e3, ec, ed, ey, ez]
                    refine x_istore (L' := [some _, some _, some _, some _, some _, some _, some _, some _, none, none]) dX8_holdsLine_131 (by decide) rfl ?_
                    refine x_aload_n dX8_holdsLine_133 rfl rfl ?_
                    refine g_getR (kI := 28) rfl dX8_holdsLine_134 fX8_52_8 (by first | assumption | exact hT.2.1) (by first | assumption | exact hT.2.1) ?_
                    refine x_iload_n dX8_holdsLine_137 rfl rfl ?_
                    refine x_iald dX8_holdsLine_138 (by first | assumption | exact hT.2.1) (by omega) (by omega) ?_
                    try simp (disch := omega) only [rdI_e, rdI_n, rdC_i, rdC_o, rdW, rdR, rdU_e, rdU_n, rdLW, Int.add_zero, hw, e3, ec, ed, ey, ez]
                    refine x_istore (L' := [some _, some _, some _, some _, some _, some _, some _, some _, some _, none]) dX8_holdsLine_139 (by decide) rfl ?_
                    refine x_iload dX8_holdsLine_141 rfl ?_
                    refine x_bipush dX8_holdsLine_143 rfl ?_
                    refine x_icmp_ne (tgt := 163) dX8_holdsLine_145 (by decide) (fun h145 => ?_) (fun h145 => ?_)
                    · refine x_iload dX8_holdsLine_163 rfl ?_
                      refine x_bipush dX8_holdsLine_165 rfl ?_
                      refine x_icmp_ne (tgt := 185) dX8_holdsLine_167 (by decide) (fun h167 => ?_) (fun h167 => ?_)
                      · refine x_iload dX8_holdsLine_185 rfl ?_
                        refine x_bipush dX8_holdsLine_187 rfl ?_
                        refine x_icmp_ne (tgt := 209) dX8_holdsLine_189 (by decide) (fun h189 => ?_) (fun h189 => ?_)
                        · refine x_iload dX8_holdsLine_209 rfl ?_
                          refine x_iload dX8_holdsLine_211 rfl ?_
                          first | refine x_iaddN dX8_holdsLine_213 (by unfold i32; omega) ?_ | refine x_iadd dX8_holdsLine_213 ?_
                          refine x_if_le (tgt := 221) dX8_holdsLine_214 (by decide) (fun h214 => ?_) (fun h214 => ?_)
                          · refine x_iconst dX8_holdsLine_221 rfl ?_
                            refine x_istore (L' := [some _, some _, some _, some _, some _, some _, some _, some _, some _, some _]) dX8_holdsLine_222 (by decide) rfl ?_
                            refine x_aload_n dX8_holdsLine_224 rfl rfl ?_
                            refine g_getR (kI := 28) rfl dX8_holdsLine_225 fX8_52_8 (by first | assumption | exact hT.2.1) (by first | assumption | exact hT.2.1) ?_
                            refine x_iload_n dX8_holdsLine_228 rfl rfl ?_
                            refine x_iconst dX8_holdsLine_229 rfl ?_
                            first | refine x_isubN dX8_holdsLine_230 (by unfold i32; omega) ?_ | refine x_isub dX8_holdsLine_230 ?_
                            refine x_iload dX8_holdsLine_231 rfl ?_
                            refine x_bipush dX8_holdsLine_233 rfl ?_
                            refine x_icmp_ne (tgt := 246) dX8_holdsLine_235 (by decide) (fun h235 => ?_) (fun h235 => ?_)
                            · refine x_iload dX8_holdsLine_246 rfl ?_
                              refine x_if_eq (tgt := 255) dX8_holdsLine_248 (by decide) (fun h248 => ?_) (fun h248 => ?_)
                              · try simp only [vP_0, vP_1, vP_n0, vP_n1, Classical.not_not] at h248
                                refine x_iconst dX8_holdsLine_255 rfl ?_
                                refine x_iast (by omega) dX8_holdsLine_256 (by first | assumption | exact hT.2.1) (by omega) (by omega) ?_
                                first | refine x_iincN (L' := [some _, some _, some _, some _, some _, some _, some _, some _, some _, some _]) dX8_holdsLine_257 rfl (by decide) (by unfold i32; omega) rfl ?_ | refine x_iinc (L' := [some _, some _, some _, some _, some _, some _, some _, some _, some _, some _]) dX8_holdsLine_257 rfl (by decide) rfl ?_
                                refine x_goto (tgt := 22) dX8_holdsLine_260 (by decide) ?_
                                first
                                | exact absurd rfl h248
                                | exact absurd h248 (by decide)
                                | exact absurd h235 (by omega)
                                | exact x_fgt (L' := [some (dR m), some (dI n), some (dI p), some (dI (top + -1)), some (dI (369 + 4 * n)), some (dI (i + 1)), none, none, none, none]) (by simp [subL]) (fin _ (by rw [pop2_e]; congr 1; repeat (first | rfl | rw [if_pos (by omega)] | rw [if_neg (by omega)])) (by omega) _ _ (by omega) (by omega))
                              · try simp only [vP_0, vP_1, vP_n0, vP_n1, Classical.not_not] at h248
                                refine x_iconst dX8_holdsLine_251 rfl ?_
                                refine x_goto (tgt := 256) dX8_holdsLine_252 (by decide) ?_
                                refine x_iast (by omega) dX8_holdsLine_256 (by first | assumption | exact hT.2.1) (by omega) (by omega) ?_
                                first | refine x_iincN (L' := [some _, some _, some _, some _, some _, some _, some _, some _, some _, some _]) dX8_holdsLine_257 rfl (by decide) (by unfold i32; omega) rfl ?_ | refine x_iinc (L' := [some _, some _, some _, some _, some _, some _, some _, some _, some _, some _]) dX8_holdsLine_257 rfl (by decide) rfl ?_
                                refine x_goto (tgt := 22) dX8_holdsLine_260 (by decide) ?_
                                first
                                | exact absurd rfl h248
                                | exact absurd h248 (by decide)
                                | exact absurd h235 (by omega)
                                | exact x_fgt (L' := [some (dR m), some (dI n), some (dI p), some (dI (top + -1)), some (dI (369 + 4 * n)), some (dI (i + 1)), none, none, none, none]) (by simp [subL]) (fin _ (by rw [pop2_e]; congr 1; repeat (first | rfl | rw [if_pos (by omega)] | rw [if_neg (by omega)])) (by omega) _ _ (by omega) (by omega))
                            · refine x_iload dX8_holdsLine_238 rfl ?_
                              refine x_iload dX8_holdsLine_240 rfl ?_
                              first | refine x_iaddN dX8_holdsLine_242 (by unfold i32; omega) ?_ | refine x_iadd dX8_holdsLine_242 ?_
                              refine x_goto (tgt := 256) dX8_holdsLine_243 (by decide) ?_
                              refine x_iast (by omega) dX8_holdsLine_256 (by first | assumption | exact hT.2.1) (by omega) (by omega) ?_
                              first | refine x_iincN (L' := [some _, some _, some _, some _, some _, some _, some _, some _, some _, some _]) dX8_holdsLine_257 rfl (by decide) (by unfold i32; omega) rfl ?_ | refine x_iinc (L' := [some _, some _, some _, some _, some _, some _, some _, some _, some _, some _]) dX8_holdsLine_257 rfl (by decide) rfl ?_
                              refine x_goto (tgt := 22) dX8_holdsLine_260 (by decide) ?_
                              first
                              | exact absurd rfl h248
                              | exact absurd h248 (by decide)
                              | exact absurd h235 (by omega)
                              | exact x_fgt (L' := [some (dR m), some (dI n), some (dI p), some (dI (top + -1)), some (dI (369 + 4 * n)), some (dI (i + 1)), none, none, none, none]) (by simp [subL]) (fin _ (by rw [pop2_e]; congr 1; repeat (first | rfl | rw [if_pos (by omega)] | rw [if_neg (by omega)])) (by omega) _ _ (by omega) (by omega))
                          · refine x_iconst dX8_holdsLine_217 rfl ?_
                            refine x_goto (tgt := 222) dX8_holdsLine_218 (by decide) ?_
                            refine x_istore (L' := [some _, some _, some _, some _, some _, some _, some _, some _, some _, some _]) dX8_holdsLine_222 (by decide) rfl ?_
                            refine x_aload_n dX8_holdsLine_224 rfl rfl ?_
                            refine g_getR (kI := 28) rfl dX8_holdsLine_225 fX8_52_8 (by first | assumption | exact hT.2.1) (by first | assumption | exact hT.2.1) ?_
                            refine x_iload_n dX8_holdsLine_228 rfl rfl ?_
                            refine x_iconst dX8_holdsLine_229 rfl ?_
                            first | refine x_isubN dX8_holdsLine_230 (by unfold i32; omega) ?_ | refine x_isub dX8_holdsLine_230 ?_
                            refine x_iload dX8_holdsLine_231 rfl ?_
                            refine x_bipush dX8_holdsLine_233 rfl ?_
                            refine x_icmp_ne (tgt := 246) dX8_holdsLine_235 (by decide) (fun h235 => ?_) (fun h235 => ?_)
                            · refine x_iload dX8_holdsLine_246 rfl ?_
                              refine x_if_eq (tgt := 255) dX8_holdsLine_248 (by decide) (fun h248 => ?_) (fun h248 => ?_)
                              · try simp only [vP_0, vP_1, vP_n0, vP_n1, Classical.not_not] at h248
                                refine x_iconst dX8_holdsLine_255 rfl ?_
                                refine x_iast (by omega) dX8_holdsLine_256 (by first | assumption | exact hT.2.1) (by omega) (by omega) ?_
                                first | refine x_iincN (L' := [some _, some _, some _, some _, some _, some _, some _, some _, some _, some _]) dX8_holdsLine_257 rfl (by decide) (by unfold i32; omega) rfl ?_ | refine x_iinc (L' := [some _, some _, some _, some _, some _, some _, some _, some _, some _, some _]) dX8_holdsLine_257 rfl (by decide) rfl ?_
                                refine x_goto (tgt := 22) dX8_holdsLine_260 (by decide) ?_
                                first
                                | exact absurd rfl h248
                                | exact absurd h248 (by decide)
                                | exact absurd h235 (by omega)
                                | exact x_fgt (L' := [some (dR m), some (dI n), some (dI p), some (dI (top + -1)), some (dI (369 + 4 * n)), some (dI (i + 1)), none, none, none, none]) (by simp [subL]) (fin _ (by rw [pop2_e]; congr 1; repeat (first | rfl | rw [if_pos (by omega)] | rw [if_neg (by omega)])) (by omega) _ _ (by omega) (by omega))
                              · try simp only [vP_0, vP_1, vP_n0, vP_n1, Classical.not_not] at h248
                                refine x_iconst dX8_holdsLine_251 rfl ?_
                                refine x_goto (tgt := 256) dX8_holdsLine_252 (by decide) ?_
                                refine x_iast (by omega) dX8_holdsLine_256 (by first | assumption | exact hT.2.1) (by omega) (by omega) ?_
                                first | refine x_iincN (L' := [some _, some _, some _, some _, some _, some _, some _, some _, some _, some _]) dX8_holdsLine_257 rfl (by decide) (by unfold i32; omega) rfl ?_ | refine x_iinc (L' := [some _, some _, some _, some _, some _, some _, some _, some _, some _, some _]) dX8_holdsLine_257 rfl (by decide) rfl ?_
                                refine x_goto (tgt := 22) dX8_holdsLine_260 (by decide) ?_
                                first
                                | exact absurd rfl h248
                                | exact absurd h248 (by decide)
                                | exact absurd h235 (by omega)
                                | exact x_fgt (L' := [some (dR m), some (dI n), some (dI p), some (dI (top + -1)), some (dI (369 + 4 * n)), some (dI (i + 1)), none, none, none, none]) (by simp [subL]) (fin _ (by rw [pop2_e]; congr 1; repeat (first | rfl | rw [if_pos (by omega)] | rw [if_neg (by omega)])) (by omega) _ _ (by omega) (by omega))
                            · refine x_iload dX8_holdsLine_238 rfl ?_
                              refine x_iload dX8_holdsLine_240 rfl ?_
                              first | refine x_iaddN dX8_holdsLine_242 (by unfold i32; omega) ?_ | refine x_iadd dX8_holdsLine_242 ?_
                              refine x_goto (tgt := 256) dX8_holdsLine_243 (by decide) ?_
                              refine x_iast (by omega) dX8_holdsLine_256 (by first | assumption | exact hT.2.1) (by omega) (by omega) ?_
                              first | refine x_iincN (L' := [some _, some _, some _, some _, some _, some _, some _, some _, some _, some _]) dX8_holdsLine_257 rfl (by decide) (by unfold i32; omega) rfl ?_ | refine x_iinc (L' := [some _, some _, some _, some _, some _, some _, some _, some _, some _, some _]) dX8_holdsLine_257 rfl (by decide) rfl ?_
                              refine x_goto (tgt := 22) dX8_holdsLine_260 (by decide) ?_
                              first
                              | exact absurd rfl h248
                              | exact absurd h248 (by decide)
                              | exact absurd h235 (by omega)
                              | exact x_fgt (L' := [some (dR m), some (dI n), some (dI p), some (dI (top + -1)), some (dI (369 + 4 * n)), some (dI (i + 1)), none, none, none, none]) (by simp [subL]) (fin _ (by rw [pop2_e]; congr 1; repeat (first | rfl | rw [if_pos (by omega)] | rw [if_neg (by omega)])) (by omega) _ _ (by omega) (by omega))
                        · refine x_iload dX8_holdsLine_192 rfl ?_
                          refine x_iload dX8_holdsLine_194 rfl ?_
                          first | refine x_iaddN dX8_holdsLine_196 (by unfold i32; omega) ?_ | refine x_iadd dX8_holdsLine_196 ?_
                          refine x_iconst dX8_holdsLine_197 rfl ?_
                          refine x_icmp_ne (tgt := 205) dX8_holdsLine_198 (by decide) (fun h198 => ?_) (fun h198 => ?_)
                          · refine x_iconst dX8_holdsLine_205 rfl ?_
                            refine x_goto (tgt := 222) dX8_holdsLine_206 (by decide) ?_
                            refine x_istore (L' := [some _, some _, some _, some _, some _, some _, some _, some _, some _, some _]) dX8_holdsLine_222 (by decide) rfl ?_
                            refine x_aload_n dX8_holdsLine_224 rfl rfl ?_
                            refine g_getR (kI := 28) rfl dX8_holdsLine_225 fX8_52_8 (by first | assumption | exact hT.2.1) (by first | assumption | exact hT.2.1) ?_
                            refine x_iload_n dX8_holdsLine_228 rfl rfl ?_
                            refine x_iconst dX8_holdsLine_229 rfl ?_
                            first | refine x_isubN dX8_holdsLine_230 (by unfold i32; omega) ?_ | refine x_isub dX8_holdsLine_230 ?_
                            refine x_iload dX8_holdsLine_231 rfl ?_
                            refine x_bipush dX8_holdsLine_233 rfl ?_
                            refine x_icmp_ne (tgt := 246) dX8_holdsLine_235 (by decide) (fun h235 => ?_) (fun h235 => ?_)
                            · refine x_iload dX8_holdsLine_246 rfl ?_
                              refine x_if_eq (tgt := 255) dX8_holdsLine_248 (by decide) (fun h248 => ?_) (fun h248 => ?_)
                              · try simp only [vP_0, vP_1, vP_n0, vP_n1, Classical.not_not] at h248
                                refine x_iconst dX8_holdsLine_255 rfl ?_
                                refine x_iast (by omega) dX8_holdsLine_256 (by first | assumption | exact hT.2.1) (by omega) (by omega) ?_
                                first | refine x_iincN (L' := [some _, some _, some _, some _, some _, some _, some _, some _, some _, some _]) dX8_holdsLine_257 rfl (by decide) (by unfold i32; omega) rfl ?_ | refine x_iinc (L' := [some _, some _, some _, some _, some _, some _, some _, some _, some _, some _]) dX8_holdsLine_257 rfl (by decide) rfl ?_
                                refine x_goto (tgt := 22) dX8_holdsLine_260 (by decide) ?_
                                first
                                | exact absurd rfl h248
                                | exact absurd h248 (by decide)
                                | exact absurd h235 (by omega)
                                | exact x_fgt (L' := [some (dR m), some (dI n), some (dI p), some (dI (top + -1)), some (dI (369 + 4 * n)), some (dI (i + 1)), none, none, none, none]) (by simp [subL]) (fin _ (by rw [pop2_e]; congr 1; repeat (first | rfl | rw [if_pos (by omega)] | rw [if_neg (by omega)])) (by omega) _ _ (by omega) (by omega))
                              · try simp only [vP_0, vP_1, vP_n0, vP_n1, Classical.not_not] at h248
                                refine x_iconst dX8_holdsLine_251 rfl ?_
                                refine x_goto (tgt := 256) dX8_holdsLine_252 (by decide) ?_
                                refine x_iast (by omega) dX8_holdsLine_256 (by first | assumption | exact hT.2.1) (by omega) (by omega) ?_
                                first | refine x_iincN (L' := [some _, some _, some _, some _, some _, some _, some _, some _, some _, some _]) dX8_holdsLine_257 rfl (by decide) (by unfold i32; omega) rfl ?_ | refine x_iinc (L' := [some _, some _, some _, some _, some _, some _, some _, some _, some _, some _]) dX8_holdsLine_257 rfl (by decide) rfl ?_
                                refine x_goto (tgt := 22) dX8_holdsLine_260 (by decide) ?_
                                first
                                | exact absurd rfl h248
                                | exact absurd h248 (by decide)
                                | exact absurd h235 (by omega)
                                | exact x_fgt (L' := [some (dR m), some (dI n), some (dI p), some (dI (top + -1)), some (dI (369 + 4 * n)), some (dI (i + 1)), none, none, none, none]) (by simp [subL]) (fin _ (by rw [pop2_e]; congr 1; repeat (first | rfl | rw [if_pos (by omega)] | rw [if_neg (by omega)])) (by omega) _ _ (by omega) (by omega))
                            · refine x_iload dX8_holdsLine_238 rfl ?_
                              refine x_iload dX8_holdsLine_240 rfl ?_
                              first | refine x_iaddN dX8_holdsLine_242 (by unfold i32; omega) ?_ | refine x_iadd dX8_holdsLine_242 ?_
                              refine x_goto (tgt := 256) dX8_holdsLine_243 (by decide) ?_
                              refine x_iast (by omega) dX8_holdsLine_256 (by first | assumption | exact hT.2.1) (by omega) (by omega) ?_
                              first | refine x_iincN (L' := [some _, some _, some _, some _, some _, some _, some _, some _, some _, some _]) dX8_holdsLine_257 rfl (by decide) (by unfold i32; omega) rfl ?_ | refine x_iinc (L' := [some _, some _, some _, some _, some _, some _, some _, some _, some _, some _]) dX8_holdsLine_257 rfl (by decide) rfl ?_
                              refine x_goto (tgt := 22) dX8_holdsLine_260 (by decide) ?_
                              first
                              | exact absurd rfl h248
                              | exact absurd h248 (by decide)
                              | exact absurd h235 (by omega)
                              | exact x_fgt (L' := [some (dR m), some (dI n), some (dI p), some (dI (top + -1)), some (dI (369 + 4 * n)), some (dI (i + 1)), none, none, none, none]) (by simp [subL]) (fin _ (by rw [pop2_e]; congr 1; repeat (first | rfl | rw [if_pos (by omega)] | rw [if_neg (by omega)])) (by omega) _ _ (by omega) (by omega))
                          · refine x_iconst dX8_holdsLine_201 rfl ?_
                            refine x_goto (tgt := 222) dX8_holdsLine_202 (by decide) ?_
                            refine x_istore (L' := [some _, some _, some _, some _, some _, some _, some _, some _, some _, some _]) dX8_holdsLine_222 (by decide) rfl ?_
                            refine x_aload_n dX8_holdsLine_224 rfl rfl ?_
                            refine g_getR (kI := 28) rfl dX8_holdsLine_225 fX8_52_8 (by first | assumption | exact hT.2.1) (by first | assumption | exact hT.2.1) ?_
                            refine x_iload_n dX8_holdsLine_228 rfl rfl ?_
                            refine x_iconst dX8_holdsLine_229 rfl ?_
                            first | refine x_isubN dX8_holdsLine_230 (by unfold i32; omega) ?_ | refine x_isub dX8_holdsLine_230 ?_
                            refine x_iload dX8_holdsLine_231 rfl ?_
                            refine x_bipush dX8_holdsLine_233 rfl ?_
                            refine x_icmp_ne (tgt := 246) dX8_holdsLine_235 (by decide) (fun h235 => ?_) (fun h235 => ?_)
                            · refine x_iload dX8_holdsLine_246 rfl ?_
                              refine x_if_eq (tgt := 255) dX8_holdsLine_248 (by decide) (fun h248 => ?_) (fun h248 => ?_)
                              · try simp only [vP_0, vP_1, vP_n0, vP_n1, Classical.not_not] at h248
                                refine x_iconst dX8_holdsLine_255 rfl ?_
                                refine x_iast (by omega) dX8_holdsLine_256 (by first | assumption | exact hT.2.1) (by omega) (by omega) ?_
                                first | refine x_iincN (L' := [some _, some _, some _, some _, some _, some _, some _, some _, some _, some _]) dX8_holdsLine_257 rfl (by decide) (by unfold i32; omega) rfl ?_ | refine x_iinc (L' := [some _, some _, some _, some _, some _, some _, some _, some _, some _, some _]) dX8_holdsLine_257 rfl (by decide) rfl ?_
                                refine x_goto (tgt := 22) dX8_holdsLine_260 (by decide) ?_
                                first
                                | exact absurd rfl h248
                                | exact absurd h248 (by decide)
                                | exact absurd h235 (by omega)
                                | exact x_fgt (L' := [some (dR m), some (dI n), some (dI p), some (dI (top + -1)), some (dI (369 + 4 * n)), some (dI (i + 1)), none, none, none, none]) (by simp [subL]) (fin _ (by rw [pop2_e]; congr 1; repeat (first | rfl | rw [if_pos (by omega)] | rw [if_neg (by omega)])) (by omega) _ _ (by omega) (by omega))
                              · try simp only [vP_0, vP_1, vP_n0, vP_n1, Classical.not_not] at h248
                                refine x_iconst dX8_holdsLine_251 rfl ?_
                                refine x_goto (tgt := 256) dX8_holdsLine_252 (by decide) ?_
                                refine x_iast (by omega) dX8_holdsLine_256 (by first | assumption | exact hT.2.1) (by omega) (by omega) ?_
                                first | refine x_iincN (L' := [some _, some _, some _, some _, some _, some _, some _, some _, some _, some _]) dX8_holdsLine_257 rfl (by decide) (by unfold i32; omega) rfl ?_ | refine x_iinc (L' := [some _, some _, some _, some _, some _, some _, some _, some _, some _, some _]) dX8_holdsLine_257 rfl (by decide) rfl ?_
                                refine x_goto (tgt := 22) dX8_holdsLine_260 (by decide) ?_
                                first
                                | exact absurd rfl h248
                                | exact absurd h248 (by decide)
                                | exact absurd h235 (by omega)
                                | exact x_fgt (L' := [some (dR m), some (dI n), some (dI p), some (dI (top + -1)), some (dI (369 + 4 * n)), some (dI (i + 1)), none, none, none, none]) (by simp [subL]) (fin _ (by rw [pop2_e]; congr 1; repeat (first | rfl | rw [if_pos (by omega)] | rw [if_neg (by omega)])) (by omega) _ _ (by omega) (by omega))
                            · refine x_iload dX8_holdsLine_238 rfl ?_
                              refine x_iload dX8_holdsLine_240 rfl ?_
                              first | refine x_iaddN dX8_holdsLine_242 (by unfold i32; omega) ?_ | refine x_iadd dX8_holdsLine_242 ?_
                              refine x_goto (tgt := 256) dX8_holdsLine_243 (by decide) ?_
                              refine x_iast (by omega) dX8_holdsLine_256 (by first | assumption | exact hT.2.1) (by omega) (by omega) ?_
                              first | refine x_iincN (L' := [some _, some _, some _, some _, some _, some _, some _, some _, some _, some _]) dX8_holdsLine_257 rfl (by decide) (by unfold i32; omega) rfl ?_ | refine x_iinc (L' := [some _, some _, some _, some _, some _, some _, some _, some _, some _, some _]) dX8_holdsLine_257 rfl (by decide) rfl ?_
                              refine x_goto (tgt := 22) dX8_holdsLine_260 (by decide) ?_
                              first
                              | exact absurd rfl h248
                              | exact absurd h248 (by decide)
                              | exact absurd h235 (by omega)
                              | exact x_fgt (L' := [some (dR m), some (dI n), some (dI p), some (dI (top + -1)), some (dI (369 + 4 * n)), some (dI (i + 1)), none, none, none, none]) (by simp [subL]) (fin _ (by rw [pop2_e]; congr 1; repeat (first | rfl | rw [if_pos (by omega)] | rw [if_neg (by omega)])) (by omega) _ _ (by omega) (by omega))
                      · refine x_iload dX8_holdsLine_170 rfl ?_
                        refine x_iload dX8_holdsLine_172 rfl ?_
                        refine x_icmp_le (tgt := 181) dX8_holdsLine_174 (by decide) (fun h174 => ?_) (fun h174 => ?_)
                        · refine x_iconst dX8_holdsLine_181 rfl ?_
                          refine x_goto (tgt := 222) dX8_holdsLine_182 (by decide) ?_
                          refine x_istore (L' := [some _, some _, some _, some _, some _, some _, some _, some _, some _, some _]) dX8_holdsLine_222 (by decide) rfl ?_
                          refine x_aload_n dX8_holdsLine_224 rfl rfl ?_
                          refine g_getR (kI := 28) rfl dX8_holdsLine_225 fX8_52_8 (by first | assumption | exact hT.2.1) (by first | assumption | exact hT.2.1) ?_
                          refine x_iload_n dX8_holdsLine_228 rfl rfl ?_
                          refine x_iconst dX8_holdsLine_229 rfl ?_
                          first | refine x_isubN dX8_holdsLine_230 (by unfold i32; omega) ?_ | refine x_isub dX8_holdsLine_230 ?_
                          refine x_iload dX8_holdsLine_231 rfl ?_
                          refine x_bipush dX8_holdsLine_233 rfl ?_
                          refine x_icmp_ne (tgt := 246) dX8_holdsLine_235 (by decide) (fun h235 => ?_) (fun h235 => ?_)
                          · refine x_iload dX8_holdsLine_246 rfl ?_
                            refine x_if_eq (tgt := 255) dX8_holdsLine_248 (by decide) (fun h248 => ?_) (fun h248 => ?_)
                            · try simp only [vP_0, vP_1, vP_n0, vP_n1, Classical.not_not] at h248
                              refine x_iconst dX8_holdsLine_255 rfl ?_
                              refine x_iast (by omega) dX8_holdsLine_256 (by first | assumption | exact hT.2.1) (by omega) (by omega) ?_
                              first | refine x_iincN (L' := [some _, some _, some _, some _, some _, some _, some _, some _, some _, some _]) dX8_holdsLine_257 rfl (by decide) (by unfold i32; omega) rfl ?_ | refine x_iinc (L' := [some _, some _, some _, some _, some _, some _, some _, some _, some _, some _]) dX8_holdsLine_257 rfl (by decide) rfl ?_
                              refine x_goto (tgt := 22) dX8_holdsLine_260 (by decide) ?_
                              first
                              | exact absurd rfl h248
                              | exact absurd h248 (by decide)
                              | exact absurd h235 (by omega)
                              | exact x_fgt (L' := [some (dR m), some (dI n), some (dI p), some (dI (top + -1)), some (dI (369 + 4 * n)), some (dI (i + 1)), none, none, none, none]) (by simp [subL]) (fin _ (by rw [pop2_e]; congr 1; repeat (first | rfl | rw [if_pos (by omega)] | rw [if_neg (by omega)])) (by omega) _ _ (by omega) (by omega))
                            · try simp only [vP_0, vP_1, vP_n0, vP_n1, Classical.not_not] at h248
                              refine x_iconst dX8_holdsLine_251 rfl ?_
                              refine x_goto (tgt := 256) dX8_holdsLine_252 (by decide) ?_
                              refine x_iast (by omega) dX8_holdsLine_256 (by first | assumption | exact hT.2.1) (by omega) (by omega) ?_
                              first | refine x_iincN (L' := [some _, some _, some _, some _, some _, some _, some _, some _, some _, some _]) dX8_holdsLine_257 rfl (by decide) (by unfold i32; omega) rfl ?_ | refine x_iinc (L' := [some _, some _, some _, some _, some _, some _, some _, some _, some _, some _]) dX8_holdsLine_257 rfl (by decide) rfl ?_
                              refine x_goto (tgt := 22) dX8_holdsLine_260 (by decide) ?_
                              first
                              | exact absurd rfl h248
                              | exact absurd h248 (by decide)
                              | exact absurd h235 (by omega)
                              | exact x_fgt (L' := [some (dR m), some (dI n), some (dI p), some (dI (top + -1)), some (dI (369 + 4 * n)), some (dI (i + 1)), none, none, none, none]) (by simp [subL]) (fin _ (by rw [pop2_e]; congr 1; repeat (first | rfl | rw [if_pos (by omega)] | rw [if_neg (by omega)])) (by omega) _ _ (by omega) (by omega))
                          · refine x_iload dX8_holdsLine_238 rfl ?_
                            refine x_iload dX8_holdsLine_240 rfl ?_
                            first | refine x_iaddN dX8_holdsLine_242 (by unfold i32; omega) ?_ | refine x_iadd dX8_holdsLine_242 ?_
                            refine x_goto (tgt := 256) dX8_holdsLine_243 (by decide) ?_
                            refine x_iast (by omega) dX8_holdsLine_256 (by first | assumption | exact hT.2.1) (by omega) (by omega) ?_
                            first | refine x_iincN (L' := [some _, some _, some _, some _, some _, some _, some _, some _, some _, some _]) dX8_holdsLine_257 rfl (by decide) (by unfold i32; omega) rfl ?_ | refine x_iinc (L' := [some _, some _, some _, some _, some _, some _, some _, some _, some _, some _]) dX8_holdsLine_257 rfl (by decide) rfl ?_
                            refine x_goto (tgt := 22) dX8_holdsLine_260 (by decide) ?_
                            first
                            | exact absurd rfl h248
                            | exact absurd h248 (by decide)
                            | exact absurd h235 (by omega)
                            | exact x_fgt (L' := [some (dR m), some (dI n), some (dI p), some (dI (top + -1)), some (dI (369 + 4 * n)), some (dI (i + 1)), none, none, none, none]) (by simp [subL]) (fin _ (by rw [pop2_e]; congr 1; repeat (first | rfl | rw [if_pos (by omega)] | rw [if_neg (by omega)])) (by omega) _ _ (by omega) (by omega))
                        · refine x_iconst dX8_holdsLine_177 rfl ?_
                          refine x_goto (tgt := 222) dX8_holdsLine_178 (by decide) ?_
                          refine x_istore (L' := [some _, some _, some _, some _, some _, some _, some _, some _, some _, some _]) dX8_holdsLine_222 (by decide) rfl ?_
                          refine x_aload_n dX8_holdsLine_224 rfl rfl ?_
                          refine g_getR (kI := 28) rfl dX8_holdsLine_225 fX8_52_8 (by first | assumption | exact hT.2.1) (by first | assumption | exact hT.2.1) ?_
                          refine x_iload_n dX8_holdsLine_228 rfl rfl ?_
                          refine x_iconst dX8_holdsLine_229 rfl ?_
                          first | refine x_isubN dX8_holdsLine_230 (by unfold i32; omega) ?_ | refine x_isub dX8_holdsLine_230 ?_
                          refine x_iload dX8_holdsLine_231 rfl ?_
                          refine x_bipush dX8_holdsLine_233 rfl ?_
                          refine x_icmp_ne (tgt := 246) dX8_holdsLine_235 (by decide) (fun h235 => ?_) (fun h235 => ?_)
                          · refine x_iload dX8_holdsLine_246 rfl ?_
                            refine x_if_eq (tgt := 255) dX8_holdsLine_248 (by decide) (fun h248 => ?_) (fun h248 => ?_)
                            · try simp only [vP_0, vP_1, vP_n0, vP_n1, Classical.not_not] at h248
                              refine x_iconst dX8_holdsLine_255 rfl ?_
                              refine x_iast (by omega) dX8_holdsLine_256 (by first | assumption | exact hT.2.1) (by omega) (by omega) ?_
                              first | refine x_iincN (L' := [some _, some _, some _, some _, some _, some _, some _, some _, some _, some _]) dX8_holdsLine_257 rfl (by decide) (by unfold i32; omega) rfl ?_ | refine x_iinc (L' := [some _, some _, some _, some _, some _, some _, some _, some _, some _, some _]) dX8_holdsLine_257 rfl (by decide) rfl ?_
                              refine x_goto (tgt := 22) dX8_holdsLine_260 (by decide) ?_
                              first
                              | exact absurd rfl h248
                              | exact absurd h248 (by decide)
                              | exact absurd h235 (by omega)
                              | exact x_fgt (L' := [some (dR m), some (dI n), some (dI p), some (dI (top + -1)), some (dI (369 + 4 * n)), some (dI (i + 1)), none, none, none, none]) (by simp [subL]) (fin _ (by rw [pop2_e]; congr 1; repeat (first | rfl | rw [if_pos (by omega)] | rw [if_neg (by omega)])) (by omega) _ _ (by omega) (by omega))
                            · try simp only [vP_0, vP_1, vP_n0, vP_n1, Classical.not_not] at h248
                              refine x_iconst dX8_holdsLine_251 rfl ?_
                              refine x_goto (tgt := 256) dX8_holdsLine_252 (by decide) ?_
                              refine x_iast (by omega) dX8_holdsLine_256 (by first | assumption | exact hT.2.1) (by omega) (by omega) ?_
                              first | refine x_iincN (L' := [some _, some _, some _, some _, some _, some _, some _, some _, some _, some _]) dX8_holdsLine_257 rfl (by decide) (by unfold i32; omega) rfl ?_ | refine x_iinc (L' := [some _, some _, some _, some _, some _, some _, some _, some _, some _, some _]) dX8_holdsLine_257 rfl (by decide) rfl ?_
                              refine x_goto (tgt := 22) dX8_holdsLine_260 (by decide) ?_
                              first
                              | exact absurd rfl h248
                              | exact absurd h248 (by decide)
                              | exact absurd h235 (by omega)
                              | exact x_fgt (L' := [some (dR m), some (dI n), some (dI p), some (dI (top + -1)), some (dI (369 + 4 * n)), some (dI (i + 1)), none, none, none, none]) (by simp [subL]) (fin _ (by rw [pop2_e]; congr 1; repeat (first | rfl | rw [if_pos (by omega)] | rw [if_neg (by omega)])) (by omega) _ _ (by omega) (by omega))
                          · refine x_iload dX8_holdsLine_238 rfl ?_
                            refine x_iload dX8_holdsLine_240 rfl ?_
                            first | refine x_iaddN dX8_holdsLine_242 (by unfold i32; omega) ?_ | refine x_iadd dX8_holdsLine_242 ?_
                            refine x_goto (tgt := 256) dX8_holdsLine_243 (by decide) ?_
                            refine x_iast (by omega) dX8_holdsLine_256 (by first | assumption | exact hT.2.1) (by omega) (by omega) ?_
                            first | refine x_iincN (L' := [some _, some _, some _, some _, some _, some _, some _, some _, some _, some _]) dX8_holdsLine_257 rfl (by decide) (by unfold i32; omega) rfl ?_ | refine x_iinc (L' := [some _, some _, some _, some _, some _, some _, some _, some _, some _, some _]) dX8_holdsLine_257 rfl (by decide) rfl ?_
                            refine x_goto (tgt := 22) dX8_holdsLine_260 (by decide) ?_
                            first
                            | exact absurd rfl h248
                            | exact absurd h248 (by decide)
                            | exact absurd h235 (by omega)
                            | exact x_fgt (L' := [some (dR m), some (dI n), some (dI p), some (dI (top + -1)), some (dI (369 + 4 * n)), some (dI (i + 1)), none, none, none, none]) (by simp [subL]) (fin _ (by rw [pop2_e]; congr 1; repeat (first | rfl | rw [if_pos (by omega)] | rw [if_neg (by omega)])) (by omega) _ _ (by omega) (by omega))
                    · refine x_iload dX8_holdsLine_148 rfl ?_
                      refine x_iload dX8_holdsLine_150 rfl ?_
                      refine x_icmp_ge (tgt := 159) dX8_holdsLine_152 (by decide) (fun h152 => ?_) (fun h152 => ?_)
                      · refine x_iconst dX8_holdsLine_159 rfl ?_
                        refine x_goto (tgt := 222) dX8_holdsLine_160 (by decide) ?_
                        refine x_istore (L' := [some _, some _, some _, some _, some _, some _, some _, some _, some _, some _]) dX8_holdsLine_222 (by decide) rfl ?_
                        refine x_aload_n dX8_holdsLine_224 rfl rfl ?_
                        refine g_getR (kI := 28) rfl dX8_holdsLine_225 fX8_52_8 (by first | assumption | exact hT.2.1) (by first | assumption | exact hT.2.1) ?_
                        refine x_iload_n dX8_holdsLine_228 rfl rfl ?_
                        refine x_iconst dX8_holdsLine_229 rfl ?_
                        first | refine x_isubN dX8_holdsLine_230 (by unfold i32; omega) ?_ | refine x_isub dX8_holdsLine_230 ?_
                        refine x_iload dX8_holdsLine_231 rfl ?_
                        refine x_bipush dX8_holdsLine_233 rfl ?_
                        refine x_icmp_ne (tgt := 246) dX8_holdsLine_235 (by decide) (fun h235 => ?_) (fun h235 => ?_)
                        · refine x_iload dX8_holdsLine_246 rfl ?_
                          refine x_if_eq (tgt := 255) dX8_holdsLine_248 (by decide) (fun h248 => ?_) (fun h248 => ?_)
                          · try simp only [vP_0, vP_1, vP_n0, vP_n1, Classical.not_not] at h248
                            refine x_iconst dX8_holdsLine_255 rfl ?_
                            refine x_iast (by omega) dX8_holdsLine_256 (by first | assumption | exact hT.2.1) (by omega) (by omega) ?_
                            first | refine x_iincN (L' := [some _, some _, some _, some _, some _, some _, some _, some _, some _, some _]) dX8_holdsLine_257 rfl (by decide) (by unfold i32; omega) rfl ?_ | refine x_iinc (L' := [some _, some _, some _, some _, some _, some _, some _, some _, some _, some _]) dX8_holdsLine_257 rfl (by decide) rfl ?_
                            refine x_goto (tgt := 22) dX8_holdsLine_260 (by decide) ?_
                            first
                            | exact absurd rfl h248
                            | exact absurd h248 (by decide)
                            | exact absurd h235 (by omega)
                            | exact x_fgt (L' := [some (dR m), some (dI n), some (dI p), some (dI (top + -1)), some (dI (369 + 4 * n)), some (dI (i + 1)), none, none, none, none]) (by simp [subL]) (fin _ (by rw [pop2_e]; congr 1; repeat (first | rfl | rw [if_pos (by omega)] | rw [if_neg (by omega)])) (by omega) _ _ (by omega) (by omega))
                          · try simp only [vP_0, vP_1, vP_n0, vP_n1, Classical.not_not] at h248
                            refine x_iconst dX8_holdsLine_251 rfl ?_
                            refine x_goto (tgt := 256) dX8_holdsLine_252 (by decide) ?_
                            refine x_iast (by omega) dX8_holdsLine_256 (by first | assumption | exact hT.2.1) (by omega) (by omega) ?_
                            first | refine x_iincN (L' := [some _, some _, some _, some _, some _, some _, some _, some _, some _, some _]) dX8_holdsLine_257 rfl (by decide) (by unfold i32; omega) rfl ?_ | refine x_iinc (L' := [some _, some _, some _, some _, some _, some _, some _, some _, some _, some _]) dX8_holdsLine_257 rfl (by decide) rfl ?_
                            refine x_goto (tgt := 22) dX8_holdsLine_260 (by decide) ?_
                            first
                            | exact absurd rfl h248
                            | exact absurd h248 (by decide)
                            | exact absurd h235 (by omega)
                            | exact x_fgt (L' := [some (dR m), some (dI n), some (dI p), some (dI (top + -1)), some (dI (369 + 4 * n)), some (dI (i + 1)), none, none, none, none]) (by simp [subL]) (fin _ (by rw [pop2_e]; congr 1; repeat (first | rfl | rw [if_pos (by omega)] | rw [if_neg (by omega)])) (by omega) _ _ (by omega) (by omega))
                        · refine x_iload dX8_holdsLine_238 rfl ?_
                          refine x_iload dX8_holdsLine_240 rfl ?_
                          first | refine x_iaddN dX8_holdsLine_242 (by unfold i32; omega) ?_ | refine x_iadd dX8_holdsLine_242 ?_
                          refine x_goto (tgt := 256) dX8_holdsLine_243 (by decide) ?_
                          refine x_iast (by omega) dX8_holdsLine_256 (by first | assumption | exact hT.2.1) (by omega) (by omega) ?_
                          first | refine x_iincN (L' := [some _, some _, some _, some _, some _, some _, some _, some _, some _, some _]) dX8_holdsLine_257 rfl (by decide) (by unfold i32; omega) rfl ?_ | refine x_iinc (L' := [some _, some _, some _, some _, some _, some _, some _, some _, some _, some _]) dX8_holdsLine_257 rfl (by decide) rfl ?_
                          refine x_goto (tgt := 22) dX8_holdsLine_260 (by decide) ?_
                          first
                          | exact absurd rfl h248
                          | exact absurd h248 (by decide)
                          | exact absurd h235 (by omega)
                          | exact x_fgt (L' := [some (dR m), some (dI n), some (dI p), some (dI (top + -1)), some (dI (369 + 4 * n)), some (dI (i + 1)), none, none, none, none]) (by simp [subL]) (fin _ (by rw [pop2_e]; congr 1; repeat (first | rfl | rw [if_pos (by omega)] | rw [if_neg (by omega)])) (by omega) _ _ (by omega) (by omega))
                      · refine x_iconst dX8_holdsLine_155 rfl ?_
                        refine x_goto (tgt := 222) dX8_holdsLine_156 (by decide) ?_
                        refine x_istore (L' := [some _, some _, some _, some _, some _, some _, some _, some _, some _, some _]) dX8_holdsLine_222 (by decide) rfl ?_
                        refine x_aload_n dX8_holdsLine_224 rfl rfl ?_
                        refine g_getR (kI := 28) rfl dX8_holdsLine_225 fX8_52_8 (by first | assumption | exact hT.2.1) (by first | assumption | exact hT.2.1) ?_
                        refine x_iload_n dX8_holdsLine_228 rfl rfl ?_
                        refine x_iconst dX8_holdsLine_229 rfl ?_
                        first | refine x_isubN dX8_holdsLine_230 (by unfold i32; omega) ?_ | refine x_isub dX8_holdsLine_230 ?_
                        refine x_iload dX8_holdsLine_231 rfl ?_
                        refine x_bipush dX8_holdsLine_233 rfl ?_
                        refine x_icmp_ne (tgt := 246) dX8_holdsLine_235 (by decide) (fun h235 => ?_) (fun h235 => ?_)
                        · refine x_iload dX8_holdsLine_246 rfl ?_
                          refine x_if_eq (tgt := 255) dX8_holdsLine_248 (by decide) (fun h248 => ?_) (fun h248 => ?_)
                          · try simp only [vP_0, vP_1, vP_n0, vP_n1, Classical.not_not] at h248
                            refine x_iconst dX8_holdsLine_255 rfl ?_
                            refine x_iast (by omega) dX8_holdsLine_256 (by first | assumption | exact hT.2.1) (by omega) (by omega) ?_
                            first | refine x_iincN (L' := [some _, some _, some _, some _, some _, some _, some _, some _, some _, some _]) dX8_holdsLine_257 rfl (by decide) (by unfold i32; omega) rfl ?_ | refine x_iinc (L' := [some _, some _, some _, some _, some _, some _, some _, some _, some _, some _]) dX8_holdsLine_257 rfl (by decide) rfl ?_
                            refine x_goto (tgt := 22) dX8_holdsLine_260 (by decide) ?_
                            first
                            | exact absurd rfl h248
                            | exact absurd h248 (by decide)
                            | exact absurd h235 (by omega)
                            | exact x_fgt (L' := [some (dR m), some (dI n), some (dI p), some (dI (top + -1)), some (dI (369 + 4 * n)), some (dI (i + 1)), none, none, none, none]) (by simp [subL]) (fin _ (by rw [pop2_e]; congr 1; repeat (first | rfl | rw [if_pos (by omega)] | rw [if_neg (by omega)])) (by omega) _ _ (by omega) (by omega))
                          · try simp only [vP_0, vP_1, vP_n0, vP_n1, Classical.not_not] at h248
                            refine x_iconst dX8_holdsLine_251 rfl ?_
                            refine x_goto (tgt := 256) dX8_holdsLine_252 (by decide) ?_
                            refine x_iast (by omega) dX8_holdsLine_256 (by first | assumption | exact hT.2.1) (by omega) (by omega) ?_
                            first | refine x_iincN (L' := [some _, some _, some _, some _, some _, some _, some _, some _, some _, some _]) dX8_holdsLine_257 rfl (by decide) (by unfold i32; omega) rfl ?_ | refine x_iinc (L' := [some _, some _, some _, some _, some _, some _, some _, some _, some _, some _]) dX8_holdsLine_257 rfl (by decide) rfl ?_
                            refine x_goto (tgt := 22) dX8_holdsLine_260 (by decide) ?_
                            first
                            | exact absurd rfl h248
                            | exact absurd h248 (by decide)
                            | exact absurd h235 (by omega)
                            | exact x_fgt (L' := [some (dR m), some (dI n), some (dI p), some (dI (top + -1)), some (dI (369 + 4 * n)), some (dI (i + 1)), none, none, none, none]) (by simp [subL]) (fin _ (by rw [pop2_e]; congr 1; repeat (first | rfl | rw [if_pos (by omega)] | rw [if_neg (by omega)])) (by omega) _ _ (by omega) (by omega))
                        · refine x_iload dX8_holdsLine_238 rfl ?_
                          refine x_iload dX8_holdsLine_240 rfl ?_
                          first | refine x_iaddN dX8_holdsLine_242 (by unfold i32; omega) ?_ | refine x_iadd dX8_holdsLine_242 ?_
                          refine x_goto (tgt := 256) dX8_holdsLine_243 (by decide) ?_
                          refine x_iast (by omega) dX8_holdsLine_256 (by first | assumption | exact hT.2.1) (by omega) (by omega) ?_
                          first | refine x_iincN (L' := [some _, some _, some _, some _, some _, some _, some _, some _, some _, some _]) dX8_holdsLine_257 rfl (by decide) (by unfold i32; omega) rfl ?_ | refine x_iinc (L' := [some _, some _, some _, some _, some _, some _, some _, some _, some _, some _]) dX8_holdsLine_257 rfl (by decide) rfl ?_
                          refine x_goto (tgt := 22) dX8_holdsLine_260 (by decide) ?_
                          first
                          | exact absurd rfl h248
                          | exact absurd h248 (by decide)
                          | exact absurd h235 (by omega)
                          | exact x_fgt (L' := [some (dR m), some (dI n), some (dI p), some (dI (top + -1)), some (dI (369 + 4 * n)), some (dI (i + 1)), none, none, none, none]) (by simp [subL]) (fin _ (by rw [pop2_e]; congr 1; repeat (first | rfl | rw [if_pos (by omega)] | rw [if_neg (by omega)])) (by omega) _ _ (by omega) (by omega))
                  · omega
                · omega
      · have t0 : t = 0 := by omega
        rw [t0] at hR
        have hRR : runC v (factV v p) (v (372 + 4 * n) - v (371 + 4 * n)).toNat (v (371 + 4 * n)) [] = st := hR
        cases st with
        | nil =>
          refine x_iload dX8_holdsLine_22 rfl ?_
          refine x_aload_n dX8_holdsLine_24 rfl rfl ?_
          refine g_getR (kI := 1) rfl dX8_holdsLine_25 fX8_13_8 (by first | assumption | exact hT.2.1) (by first | assumption | exact hT.2.1) ?_
          refine x_iload dX8_holdsLine_28 rfl ?_
          refine x_iconst dX8_holdsLine_30 rfl ?_
          first | refine x_iaddN dX8_holdsLine_31 (by unfold i32; omega) ?_ | refine x_iadd dX8_holdsLine_31 ?_
          refine x_iald dX8_holdsLine_32 (by first | assumption | exact hT.2.1) (by omega) (by omega) ?_
          try simp (disch := omega) only [rdI_e, rdI_n, rdC_i, rdC_o, rdW, rdR, rdU_e, rdU_n, rdLW, Int.add_zero, hw, e3]
          refine x_icmp_ge (tgt := 263) dX8_holdsLine_33 (by decide) (fun h33 => ?_) (fun h33 => ?_)
          · refine x_iload_n dX8_holdsLine_263 rfl rfl ?_
            refine x_if_eq (tgt := 277) dX8_holdsLine_264 (by decide) (fun h264 => ?_) (fun h264 => ?_)
            · refine x_iconst dX8_holdsLine_277 rfl ?_
              refine x_goto (tgt := 282) dX8_holdsLine_278 (by decide) ?_
              refine x_zreturn (by first | exact Or.inl rfl | exact Or.inr rfl | exact vB_r _ | exact vP_r _ | assumption | omega) rfl dX8_holdsLine_282 ?_
              refine hQ _ _ ⟨_, rfl, (vP_t ?_).symm, g, rfl, hf⟩
              unfold holdV
              rw [hRR]
              trivial
            · exact absurd htop h264
          · omega
        | cons y r =>
          have hl : ((y :: r).length : Int) = r.length + 1 := by simp
          have hla := PR.last hpr (by simp)
          have e0 : holdV v (factV v p) n ↔ g (m + 12) 0 = 1 := by
            unfold holdV
            rw [hRR]
            show (y :: r).getLast? = some 1 ↔ _
            rw [hla]
            simp
          refine x_iload dX8_holdsLine_22 rfl ?_
          refine x_aload_n dX8_holdsLine_24 rfl rfl ?_
          refine g_getR (kI := 1) rfl dX8_holdsLine_25 fX8_13_8 (by first | assumption | exact hT.2.1) (by first | assumption | exact hT.2.1) ?_
          refine x_iload dX8_holdsLine_28 rfl ?_
          refine x_iconst dX8_holdsLine_30 rfl ?_
          first | refine x_iaddN dX8_holdsLine_31 (by unfold i32; omega) ?_ | refine x_iadd dX8_holdsLine_31 ?_
          refine x_iald dX8_holdsLine_32 (by first | assumption | exact hT.2.1) (by omega) (by omega) ?_
          try simp (disch := omega) only [rdI_e, rdI_n, rdC_i, rdC_o, rdW, rdR, rdU_e, rdU_n, rdLW, Int.add_zero, hw, e3]
          refine x_icmp_ge (tgt := 263) dX8_holdsLine_33 (by decide) (fun h33 => ?_) (fun h33 => ?_)
          · refine x_iload_n dX8_holdsLine_263 rfl rfl ?_
            refine x_if_eq (tgt := 277) dX8_holdsLine_264 (by decide) (fun h264 => ?_) (fun h264 => ?_)
            · omega
            · refine x_aload_n dX8_holdsLine_267 rfl rfl ?_
              refine g_getR (kI := 28) rfl dX8_holdsLine_268 fX8_52_8 (by first | assumption | exact hT.2.1) (by first | assumption | exact hT.2.1) ?_
              refine x_iconst dX8_holdsLine_271 rfl ?_
              refine x_iald dX8_holdsLine_272 (by first | assumption | exact hT.2.1) (by omega) (by omega) ?_
              try simp (disch := omega) only [rdI_e, rdI_n, rdC_i, rdC_o, rdW, rdR, rdU_e, rdU_n, rdLW, Int.add_zero, hw, e3]
              refine x_iconst dX8_holdsLine_273 rfl ?_
              refine x_icmp_ne (tgt := 281) dX8_holdsLine_274 (by decide) (fun h274 => ?_) (fun h274 => ?_)
              · refine x_iconst dX8_holdsLine_281 rfl ?_
                refine x_zreturn (by first | exact Or.inl rfl | exact Or.inr rfl | exact vB_r _ | exact vP_r _ | assumption | omega) rfl dX8_holdsLine_282 ?_
                refine hQ _ _ ⟨_, rfl, ?_, g, rfl, hf⟩
                first
                | exact (vP_t (e0.mpr h274)).symm
                | exact (vP_f fun q => h274 (e0.mp q)).symm
              · refine x_iconst dX8_holdsLine_277 rfl ?_
                refine x_goto (tgt := 282) dX8_holdsLine_278 (by decide) ?_
                refine x_zreturn (by first | exact Or.inl rfl | exact Or.inr rfl | exact vB_r _ | exact vP_r _ | assumption | omega) rfl dX8_holdsLine_282 ?_
                refine hQ _ _ ⟨_, rfl, ?_, g, rfl, hf⟩
                first
                | exact (vP_t (e0.mpr h274)).symm
                | exact (vP_f fun q => h274 (e0.mp q)).symm
          · omega
  have es : ∀ j, j = 371 + 4 * n → v j = v (371 + 4 * n) := fun j q => by rw [q]
  refine x_iconst dX8_holdsLine_0 rfl ?_
  refine x_istore_n (L' := [some _, some _, some _, some _, none, none, none, none, none, none]) dX8_holdsLine_1 rfl (by decide) rfl ?_
  refine x_sipush dX8_holdsLine_2 rfl ?_
  refine x_iconst dX8_holdsLine_5 rfl ?_
  refine x_iload_n dX8_holdsLine_6 rfl rfl ?_
  first | refine x_imulN dX8_holdsLine_7 (by unfold i32; omega) ?_ | refine x_imul dX8_holdsLine_7 ?_
  first | refine x_iaddN dX8_holdsLine_8 (by unfold i32; omega) ?_ | refine x_iadd dX8_holdsLine_8 ?_
  refine x_istore (L' := [some _, some _, some _, some _, some _, none, none, none, none, none]) dX8_holdsLine_9 (by decide) rfl ?_
  refine x_aload_n dX8_holdsLine_11 rfl rfl ?_
  refine g_getR (kI := 1) rfl dX8_holdsLine_12 fX8_13_8 (by first | assumption | exact hT.2.1) (by first | assumption | exact hT.2.1) ?_
  refine x_iload dX8_holdsLine_15 rfl ?_
  refine x_iconst dX8_holdsLine_17 rfl ?_
  first | refine x_iaddN dX8_holdsLine_18 (by unfold i32; omega) ?_ | refine x_iadd dX8_holdsLine_18 ?_
  refine x_iald dX8_holdsLine_19 (by first | assumption | exact hT.2.1) (by omega) (by omega) ?_
  try simp (disch := omega) only [rdI_e, rdI_n, rdC_i, rdC_o, rdW, rdR, rdU_e, rdU_n, rdLW, Int.add_zero, hw, es]
  refine x_istore (L' := [some _, some _, some _, some _, some _, some _, none, none, none, none]) dX8_holdsLine_20 (by decide) rfl ?_
  exact x_fgt (L' := [some (dR m), some (dI n), some (dI p), some (dI 0), some (dI (369 + 4 * n)), some (dI (v (371 + 4 * n))), none, none, none, none]) (by simp [subL]) (loop _ (v (371 + 4 * n)) 0 [] (mci M) rfl (by omega) (by omega) rfl trivial (by omega) (by show (0 : Int) ≤ _; omega) w5 rfl TV.rfl)
theorem s_X8_sumOf (hd : 15 ≤ d) (hT : TwS (msh M) (mcr M) m) (hw : mci M (m + 1) = v) (hv : okB v) (hp : 0 ≤ p ∧ p < v 0) (hTr : TrOk (mci M) m v) (hL : lawOK v) : CS G d mX8_sumOf [dR m, dI what, dI p] M (postI fun x M1 => (x = sumV v what p ∧ 0 ≤ x ∧ x ≤ 480) ∧ ∃ g, M1 = wI M g ∧ TV m (mci M) g) := by
  have hT_ := hT; obtain ⟨p0, p1, ⟨c1, c2, c3, c4, c5, c6, c7, c8, c9, c10, c11, c12, c13, c14, c15⟩, ⟨t1, t2, t3, t4, t5, t6, t7, t8, t9, t10, t11, t12, t13, t14, t15⟩⟩ := hT_
  obtain ⟨l1, l2⟩ := hL
  refine CS.mkQ (by decide) (Nat.le_of_ble_eq_true rfl) fun Q hQ => ?_
  by_cases hl : v 2 = 1
  · obtain ⟨l3, l4⟩ := l2 hl
    have loop : ∀ (t : Nat) (k x : Int) (g : Ci), (v 368 - k).toNat = t → (0 ≤ k) → (k ≤ v 368) → (x = sumR v (factV v p) what k.toNat) → (0 ≤ x ∧ x ≤ 40 * k) → (TV m (mci M) g) → WP G d mX8_sumOf 5 [some (dR m), some (dI what), some (dI p), some (dI x), some (dI k)] [] (wI M g) Q := by
      intro t
      induction t using Nat.strongRecOn with
      | _ t ih =>
        intro k x g ht k0 k1 hx hx0 hf
        have hw : g (m + 1) = v := hf.w hw
        have hTr : TrOk g m v := hTr.te hf.te
        have hs := sumR_s v (factV v p) what k k0
        have e1 : ∀ j, j = 369 + 4 * k → v j = v (369 + 4 * k) := fun j q => by rw [q]
        have e2 : ∀ j, j = 370 + 4 * k → v j = v (370 + 4 * k) := fun j q => by rw [q]
        by_cases hk : k < v 368
        · have hlk := l4 k k0 hk
          have hk40 := hlk.2.1
          refine x_aload_n dX8_sumOf_5 rfl rfl ?_
          refine g_getR (kI := 1) rfl dX8_sumOf_6 fX8_13_8 (by first | assumption | exact hT.2.1) (by first | assumption | exact hT.2.1) ?_
          refine x_iconst dX8_sumOf_9 rfl ?_
          refine x_iald dX8_sumOf_10 (by first | assumption | exact hT.2.1) (by omega) (by omega) ?_
          try simp (disch := omega) only [rdI_e, rdI_n, rdC_i, rdC_o, rdW, rdR, rdU_e, rdU_n, rdLW, Int.add_zero, hw, e1, e2]
          refine x_iconst dX8_sumOf_11 rfl ?_
          refine x_icmp_ne (tgt := 79) dX8_sumOf_12 (by decide) (fun h12 => ?_) (fun h12 => ?_)
          · omega
          · refine x_iload dX8_sumOf_15 rfl ?_
            refine x_aload_n dX8_sumOf_17 rfl rfl ?_
            refine g_getR (kI := 1) rfl dX8_sumOf_18 fX8_13_8 (by first | assumption | exact hT.2.1) (by first | assumption | exact hT.2.1) ?_
            refine x_sipush dX8_sumOf_21 rfl ?_
            refine x_iald dX8_sumOf_24 (by first | assumption | exact hT.2.1) (by omega) (by omega) ?_
            try simp (disch := omega) only [rdI_e, rdI_n, rdC_i, rdC_o, rdW, rdR, rdU_e, rdU_n, rdLW, Int.add_zero, hw, e1, e2]
            refine x_icmp_ge (tgt := 79) dX8_sumOf_25 (by decide) (fun h25 => ?_) (fun h25 => ?_)
            · omega
            · refine x_aload_n dX8_sumOf_28 rfl rfl ?_
              refine g_getR (kI := 1) rfl dX8_sumOf_29 fX8_13_8 (by first | assumption | exact hT.2.1) (by first | assumption | exact hT.2.1) ?_
              refine x_sipush dX8_sumOf_32 rfl ?_
              refine x_iconst dX8_sumOf_35 rfl ?_
              refine x_iload dX8_sumOf_36 rfl ?_
              first | refine x_imulN dX8_sumOf_38 (by unfold i32; omega) ?_ | refine x_imul dX8_sumOf_38 ?_
              first | refine x_iaddN dX8_sumOf_39 (by unfold i32; omega) ?_ | refine x_iadd dX8_sumOf_39 ?_
              refine x_iald dX8_sumOf_40 (by first | assumption | exact hT.2.1) (by omega) (by omega) ?_
              try simp (disch := omega) only [rdI_e, rdI_n, rdC_i, rdC_o, rdW, rdR, rdU_e, rdU_n, rdLW, Int.add_zero, hw, e1, e2]
              refine x_iload_n dX8_sumOf_41 rfl rfl ?_
              refine x_icmp_ne (tgt := 73) dX8_sumOf_42 (by decide) (fun h42 => ?_) (fun h42 => ?_)
              · first | refine x_iincN (L' := [some _, some _, some _, some _, some _]) dX8_sumOf_73 rfl (by decide) (by unfold i32; omega) rfl ?_ | refine x_iinc (L' := [some _, some _, some _, some _, some _]) dX8_sumOf_73 rfl (by decide) rfl ?_
                refine x_goto (tgt := 5) dX8_sumOf_76 (by decide) ?_
                first
                | (rw [if_pos ⟨h42, h52⟩] at hs
                   exact WP.mem (M1 := wI M g49) rfl (ih _ (by omega) (k + 1) _ g49 rfl (by omega) (by omega) (by omega) (by omega) (TV.trans hf q49)))
                | (rw [if_neg fun q => h52 q.2] at hs
                   exact WP.mem (M1 := wI M g49) rfl (ih _ (by omega) (k + 1) _ g49 rfl (by omega) (by omega) (by omega) (by omega) (TV.trans hf q49)))
                | (rw [if_neg fun q => h42 q.1] at hs
                   exact ih _ (by omega) (k + 1) _ g rfl (by omega) (by omega) (by omega) (by omega) hf)
              · refine x_aload_n dX8_sumOf_45 rfl rfl ?_
                refine x_iload dX8_sumOf_46 rfl ?_
                refine x_iload_n dX8_sumOf_48 rfl rfl ?_
                refine g_callI (vs := [_, _, _]) (d' := d - 1) rfl (s_X8_holdsLine (M := wI M g) (by omega) hT hw hv hp hTr ⟨k0, by omega⟩ hlk) dX8_sumOf_49 kX8_378 (by omega) (by decide) rfl (Nat.le_of_ble_eq_true rfl) (rcv_o (by first | assumption | exact hT.2.1) rfl) (fun x49 M49 h49 => ?_)
                obtain ⟨e49, g49, hM49, q49⟩ := h49
                subst hM49
                have hw : g49 (m + 1) = v := TV.w q49 hw
                rw [e49]
                refine x_if_eq (tgt := 73) dX8_sumOf_52 (by decide) (fun h52 => ?_) (fun h52 => ?_)
                · try simp only [vP_0, vP_1, vP_n0, vP_n1, Classical.not_not] at h52
                  first | refine x_iincN (L' := [some _, some _, some _, some _, some _]) dX8_sumOf_73 rfl (by decide) (by unfold i32; omega) rfl ?_ | refine x_iinc (L' := [some _, some _, some _, some _, some _]) dX8_sumOf_73 rfl (by decide) rfl ?_
                  refine x_goto (tgt := 5) dX8_sumOf_76 (by decide) ?_
                  first
                  | (rw [if_pos ⟨h42, h52⟩] at hs
                     exact WP.mem (M1 := wI M g49) rfl (ih _ (by omega) (k + 1) _ g49 rfl (by omega) (by omega) (by omega) (by omega) (TV.trans hf q49)))
                  | (rw [if_neg fun q => h52 q.2] at hs
                     exact WP.mem (M1 := wI M g49) rfl (ih _ (by omega) (k + 1) _ g49 rfl (by omega) (by omega) (by omega) (by omega) (TV.trans hf q49)))
                  | (rw [if_neg fun q => h42 q.1] at hs
                     exact ih _ (by omega) (k + 1) _ g rfl (by omega) (by omega) (by omega) (by omega) hf)
                · try simp only [vP_0, vP_1, vP_n0, vP_n1, Classical.not_not] at h52
                  refine x_iload_n dX8_sumOf_55 rfl rfl ?_
                  refine x_aload_n dX8_sumOf_56 rfl rfl ?_
                  refine g_getR (kI := 1) rfl dX8_sumOf_57 fX8_13_8 (by first | assumption | exact hT.2.1) (by first | assumption | exact hT.2.1) ?_
                  refine x_sipush dX8_sumOf_60 rfl ?_
                  refine x_iconst dX8_sumOf_63 rfl ?_
                  refine x_iload dX8_sumOf_64 rfl ?_
                  first | refine x_imulN dX8_sumOf_66 (by unfold i32; omega) ?_ | refine x_imul dX8_sumOf_66 ?_
                  first | refine x_iaddN dX8_sumOf_67 (by unfold i32; omega) ?_ | refine x_iadd dX8_sumOf_67 ?_
                  refine x_iconst dX8_sumOf_68 rfl ?_
                  first | refine x_iaddN dX8_sumOf_69 (by unfold i32; omega) ?_ | refine x_iadd dX8_sumOf_69 ?_
                  refine x_iald dX8_sumOf_70 (by first | assumption | exact hT.2.1) (by omega) (by omega) ?_
                  try simp (disch := omega) only [rdI_e, rdI_n, rdC_i, rdC_o, rdW, rdR, rdU_e, rdU_n, rdLW, Int.add_zero, hw, e1, e2]
                  first | refine x_iaddN dX8_sumOf_71 (by unfold i32; omega) ?_ | refine x_iadd dX8_sumOf_71 ?_
                  refine x_istore_n (L' := [some _, some _, some _, some _, some _]) dX8_sumOf_72 rfl (by decide) rfl ?_
                  first | refine x_iincN (L' := [some _, some _, some _, some _, some _]) dX8_sumOf_73 rfl (by decide) (by unfold i32; omega) rfl ?_ | refine x_iinc (L' := [some _, some _, some _, some _, some _]) dX8_sumOf_73 rfl (by decide) rfl ?_
                  refine x_goto (tgt := 5) dX8_sumOf_76 (by decide) ?_
                  first
                  | (rw [if_pos ⟨h42, h52⟩] at hs
                     exact WP.mem (M1 := wI M g49) rfl (ih _ (by omega) (k + 1) _ g49 rfl (by omega) (by omega) (by omega) (by omega) (TV.trans hf q49)))
                  | (rw [if_neg fun q => h52 q.2] at hs
                     exact WP.mem (M1 := wI M g49) rfl (ih _ (by omega) (k + 1) _ g49 rfl (by omega) (by omega) (by omega) (by omega) (TV.trans hf q49)))
                  | (rw [if_neg fun q => h42 q.1] at hs
                     exact ih _ (by omega) (k + 1) _ g rfl (by omega) (by omega) (by omega) (by omega) hf)
        · refine x_aload_n dX8_sumOf_5 rfl rfl ?_
          refine g_getR (kI := 1) rfl dX8_sumOf_6 fX8_13_8 (by first | assumption | exact hT.2.1) (by first | assumption | exact hT.2.1) ?_
          refine x_iconst dX8_sumOf_9 rfl ?_
          refine x_iald dX8_sumOf_10 (by first | assumption | exact hT.2.1) (by omega) (by omega) ?_
          try simp (disch := omega) only [rdI_e, rdI_n, rdC_i, rdC_o, rdW, rdR, rdU_e, rdU_n, rdLW, Int.add_zero, hw]
          refine x_iconst dX8_sumOf_11 rfl ?_
          refine x_icmp_ne (tgt := 79) dX8_sumOf_12 (by decide) (fun h12 => ?_) (fun h12 => ?_)
          · omega
          · refine x_iload dX8_sumOf_15 rfl ?_
            refine x_aload_n dX8_sumOf_17 rfl rfl ?_
            refine g_getR (kI := 1) rfl dX8_sumOf_18 fX8_13_8 (by first | assumption | exact hT.2.1) (by first | assumption | exact hT.2.1) ?_
            refine x_sipush dX8_sumOf_21 rfl ?_
            refine x_iald dX8_sumOf_24 (by first | assumption | exact hT.2.1) (by omega) (by omega) ?_
            try simp (disch := omega) only [rdI_e, rdI_n, rdC_i, rdC_o, rdW, rdR, rdU_e, rdU_n, rdLW, Int.add_zero, hw]
            refine x_icmp_ge (tgt := 79) dX8_sumOf_25 (by decide) (fun h25 => ?_) (fun h25 => ?_)
            · refine x_iload_n dX8_sumOf_79 rfl rfl ?_
              refine x_ireturn rfl dX8_sumOf_80 ?_
              refine hQ _ _ ⟨_, rfl, ⟨?_, by omega, by omega⟩, g, rfl, hf⟩
              unfold sumV
              rw [if_pos hl, hx, show k = v 368 by omega]
            · omega
    refine x_iconst dX8_sumOf_0 rfl ?_
    refine x_istore_n (L' := [some _, some _, some _, some _, none]) dX8_sumOf_1 rfl (by decide) rfl ?_
    refine x_iconst dX8_sumOf_2 rfl ?_
    refine x_istore (L' := [some _, some _, some _, some _, some _]) dX8_sumOf_3 (by decide) rfl ?_
    exact loop _ 0 0 (mci M) rfl (by omega) (by omega) rfl (by omega) TV.rfl
  · refine x_iconst dX8_sumOf_0 rfl ?_
    refine x_istore_n (L' := [some _, some _, some _, some _, none]) dX8_sumOf_1 rfl (by decide) rfl ?_
    refine x_iconst dX8_sumOf_2 rfl ?_
    refine x_istore (L' := [some _, some _, some _, some _, some _]) dX8_sumOf_3 (by decide) rfl ?_
    refine x_aload_n dX8_sumOf_5 rfl rfl ?_
    refine g_getR (kI := 1) rfl dX8_sumOf_6 fX8_13_8 (by first | assumption | exact hT.2.1) (by first | assumption | exact hT.2.1) ?_
    refine x_iconst dX8_sumOf_9 rfl ?_
    refine x_iald dX8_sumOf_10 (by first | assumption | exact hT.2.1) (by omega) (by omega) ?_
    try simp (disch := omega) only [rdI_e, rdI_n, rdC_i, rdC_o, rdW, rdR, rdU_e, rdU_n, rdLW, Int.add_zero, hw]
    refine x_iconst dX8_sumOf_11 rfl ?_
    refine x_icmp_ne (tgt := 79) dX8_sumOf_12 (by decide) (fun h12 => ?_) (fun h12 => ?_)
    · refine x_iload_n dX8_sumOf_79 rfl rfl ?_
      refine x_ireturn rfl dX8_sumOf_80 ?_
      refine hQ _ _ ⟨_, rfl, ⟨?_, by omega, by omega⟩, mci M, rfl, TV.rfl⟩
      unfold sumV
      rw [if_neg hl]
    · omega
theorem s_X8_emulationOf (hd : 16 ≤ d) (hT : TwS (msh M) (mcr M) m) (hw : mci M (m + 1) = v) (hv : okB v) (hp : 0 ≤ p ∧ p < v 0) (hTr : TrOk (mci M) m v) (hL : lawOK v) : CS G d mX8_emulationOf [dR m, dI p] M (postI fun x M1 => (x = emuV v p ∧ 0 ≤ x ∧ x ≤ 487) ∧ ∃ g, M1 = wI M g ∧ TV m (mci M) g) := by
  have hT_ := hT; obtain ⟨p0, p1, ⟨c1, c2, c3, c4, c5, c6, c7, c8, c9, c10, c11, c12, c13, c14, c15⟩, ⟨t1, t2, t3, t4, t5, t6, t7, t8, t9, t10, t11, t12, t13, t14, t15⟩⟩ := hT_
  have h6 := hv.2.2.2.2.2.2.1
  refine CS.mkQ (by decide) (Nat.le_of_ble_eq_true rfl) fun Q hQ => ?_
  refine x_aload_n dX8_emulationOf_0 rfl rfl ?_
  refine g_getR (kI := 1) rfl dX8_emulationOf_1 fX8_13_8 (by first | assumption | exact hT.2.1) (by first | assumption | exact hT.2.1) ?_
  refine x_bipush dX8_emulationOf_4 rfl ?_
  refine x_iald dX8_emulationOf_6 (by first | assumption | exact hT.2.1) (by omega) (by omega) ?_
  try simp (disch := omega) only [rdI_e, rdI_n, rdC_i, rdC_o, rdW, rdR, rdU_e, rdU_n, rdLW, Int.add_zero, hw]
  refine x_aload_n dX8_emulationOf_7 rfl rfl ?_
  refine x_iconst dX8_emulationOf_8 rfl ?_
  refine x_iload_n dX8_emulationOf_9 rfl rfl ?_
  refine g_callI (vs := [_, _, _]) (d' := d - 1) rfl (s_X8_sumOf (by omega) hT (by first | exact hw | exact mciI (by omega) hw | exact mciI (by omega) (mciI (by omega) hw) | exact mciI (by omega) (mciI (by omega) (mciI (by omega) hw)) | exact mciI (by omega) (mciI (by omega) (mciI (by omega) (mciI (by omega) hw))) | exact mciC (by omega) hw) hv hp hTr hL) dX8_emulationOf_10 kX8_381 (by omega) (by decide) rfl (Nat.le_of_ble_eq_true rfl) (rcv_o (by first | assumption | exact hT.2.1) rfl) (fun x10 M10 h10 => ?_)
  obtain ⟨⟨e10, r10⟩, g10, hM10, q10⟩ := h10
  first | refine x_iaddN dX8_emulationOf_13 (by unfold i32; omega) ?_ | refine x_iadd dX8_emulationOf_13 ?_
  refine x_ireturn rfl dX8_emulationOf_14 ?_
  exact hQ _ _ ⟨_, rfl, ⟨by unfold emuV; omega, by omega, by omega⟩, g10, hM10, q10⟩
theorem s_X8_worthOf (hd : 16 ≤ d) (hT : TwS (msh M) (mcr M) m) (hw : mci M (m + 1) = v) (hv : okB v) (hp : 0 ≤ p ∧ p < v 0) (hTr : TrOk (mci M) m v) (hL : lawOK v) : CS G d mX8_worthOf [dR m, dI p] M (postI fun x M1 => (x = worV v p ∧ 0 ≤ x ∧ x ≤ 487) ∧ ∃ g, M1 = wI M g ∧ TV m (mci M) g) := by
  refine CS.mkQ (by decide) (Nat.le_of_ble_eq_true rfl) fun Q hQ => ?_
  refine x_iconst dX8_worthOf_0 rfl ?_
  refine x_aload_n dX8_worthOf_1 rfl rfl ?_
  refine x_iconst dX8_worthOf_2 rfl ?_
  refine x_iload_n dX8_worthOf_3 rfl rfl ?_
  refine g_callI (vs := [_, _, _]) (d' := d - 1) rfl (s_X8_sumOf (by omega) hT (by first | exact hw | exact mciI (by omega) hw | exact mciI (by omega) (mciI (by omega) hw) | exact mciI (by omega) (mciI (by omega) (mciI (by omega) hw)) | exact mciI (by omega) (mciI (by omega) (mciI (by omega) (mciI (by omega) hw))) | exact mciC (by omega) hw) hv hp hTr hL) dX8_worthOf_4 kX8_381 (by omega) (by decide) rfl (Nat.le_of_ble_eq_true rfl) (rcv_o (by first | assumption | exact hT.2.1) rfl) (fun x4 M4 h4 => ?_)
  obtain ⟨⟨e4, r4⟩, g4, hM4, q4⟩ := h4
  first | refine x_iaddN dX8_worthOf_7 (by unfold i32; omega) ?_ | refine x_iadd dX8_worthOf_7 ?_
  refine x_ireturn rfl dX8_worthOf_8 ?_
  exact hQ _ _ ⟨_, rfl, ⟨by unfold worV; omega, by omega, by omega⟩, g4, hM4, q4⟩
end X8

