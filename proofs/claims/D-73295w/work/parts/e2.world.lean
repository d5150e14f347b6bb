/-! The start: the world -/
def oRef (K V : Nat → Nat) (qT b : Nat) (vF vU vS : Value) (a : Int) : Value := if a = -1 then .ref qT else if a = -2 then vF else if a = -3 then vU else if a = -4 then vS else if a = -5 then .ref b else if -78 < a ∧ a ≤ -10 then (if (-a) % 2 = 0 then .ref (K ((-a - 10) / 2).toNat) else .ref (V ((-a - 11) / 2).toNat)) else .null
def oSh (L : Nat) (a : Int) : Option (Nat × Int) := if a = -1 then some (100, 128) else if a = -5 then some (100, (L : Int)) else if -78 < a ∧ a ≤ -10 then (if (-a) % 2 = 0 then some (99, 0) else some (101, ((txB ((-a - 11) / 2).toNat).length : Int))) else none
def oCi (xs : Nat → Int32) (a k : Int) : Int := if a = -1 then tabF k.toNat else if a = -5 then (xs k.toNat).toInt else if (-78 < a ∧ a ≤ -10) ∧ (-a) % 2 = 1 then (txB ((-a - 11) / 2).toNat).getD k.toNat 0 else 0
def oCr (a k : Int) : Option Int := if (-78 < a ∧ a ≤ -10) ∧ (-a) % 2 = 0 ∧ k = 0 then some (a - 1) else none
def mkG (l : Launch) (s : State) (D : va_G) (fA : Nat → ClassId) (K V : Nat → Nat) (qT b L : Nat) (vF vU vS : Value) (xs : Nat → Int32) : GW := (l, s.heap, D, fA, oRef K V qT b vF vU vS, oSh L, oCi xs, oCr)
section WO
variable {args : Array Value} {s : State} {l : Launch} {D : va_G} {fA : Nat → ClassId} {K V : Nat → Nat} {qT b L : Nat} {vF vU vS : Value} {xs : Nat → Int32}
theorem oRef_K {i : Nat} (h : i < 34) : oRef K V qT b vF vU vS (-(10 + 2 * (i : Int))) = .ref (K i) := by
  unfold oRef
  rw [if_neg (by omega), if_neg (by omega), if_neg (by omega), if_neg (by omega), if_neg (by omega), if_pos (by omega), if_pos (by omega), show ((-(-(10 + 2 * (i : Int))) - 10) / 2).toNat = i by omega]
theorem oRef_V {i : Nat} (h : i < 34) : oRef K V qT b vF vU vS (-(11 + 2 * (i : Int))) = .ref (V i) := by
  unfold oRef
  rw [if_neg (by omega), if_neg (by omega), if_neg (by omega), if_neg (by omega), if_neg (by omega), if_pos (by omega), if_neg (by omega), show ((-(-(11 + 2 * (i : Int))) - 11) / 2).toNat = i by omega]
theorem wd_N (hts : ∀ w ∈ lw_tbl, w.before args s = true) : wdN s := fun w hw hn => va_Nw.of (nest_tab hn) (hts w hw)
theorem wd_A (hts : ∀ w ∈ lw_tbl, w.before args s = true) : wdA s := by
  intro t ht C hC
  rcases ht with rfl | rfl | rfl | rfl
  · cases hC; exact va_AO.of (hts _ q543)
  · cases hC; exact va_AO.of (hts _ q233)
  · cases hC; exact va_AO.of (hts _ q225)
  · cases hC; exact va_AO.of (hts _ q202)
theorem wd_nc (hg : (Cond.and given_1 narrow_1).before args s = true) : ncOk s := List.forall_mem_cons.mpr ⟨va_Nc.of (gv_at hg nm_n0), List.forall_mem_cons.mpr ⟨va_Nc.of (gv_at hg nm_n1), List.forall_mem_cons.mpr ⟨va_Nc.of (gv_at hg nm_n2), List.forall_mem_cons.mpr ⟨va_Nc.of (gv_at hg nm_n3), fun x hx => nomatch hx⟩⟩⟩⟩
theorem wd_fw (hts : ∀ w ∈ lw_tbl, w.before args s = true) : fwOk s := List.forall_mem_cons.mpr ⟨va_Fw.of (hts _ (q769)) (hts _ (q768)) (hts _ (q800)) (hts _ (q798)) (hts _ (q796)), List.forall_mem_cons.mpr ⟨va_Fw.of (hts _ (q769)) (hts _ (q768)) (hts _ (q782)) (hts _ (q780)) (hts _ (q778)), List.forall_mem_cons.mpr ⟨va_Fw.of (hts _ (q769)) (hts _ (q768)) (hts _ (q792)) (hts _ (q790)) (hts _ (q788)), List.forall_mem_cons.mpr ⟨va_Fw.of (hts _ (q769)) (hts _ (q768)) (hts _ (q774)) (hts _ (q772)) (hts _ (q770)), fun x hx => nomatch hx⟩⟩⟩⟩
theorem wd_str (hts : ∀ w ∈ lw_tbl, w.before args s = true) (hK : ∀ i : Nat, i < 34 → (sT i).eval args s none [] s = some (.ref (K i))) (hM : ∀ i : Nat, i < 34 → (sM i).eval args s none [] s = some (.ref (K i))) : strOk (mkG l s D fA K V qT b L vF vU vS xs) s := by
  have h : ∀ x ∈ strTab, ∃ q : Nat, oRef K V qT b vF vU vS x.2.2.2 = .ref q ∧ vk_R x.1 x.2.1 x.2.2.1 q s := by
    refine List.forall_mem_cons.mpr ⟨⟨K 0, oRef_K (i := 0) (by omega), vk_R.of (hts _ q203) (hK 0 (by omega))⟩, ?_⟩
    refine List.forall_mem_cons.mpr ⟨⟨K 1, oRef_K (i := 1) (by omega), vk_R.of (hts _ q204) (hK 1 (by omega))⟩, ?_⟩
    refine List.forall_mem_cons.mpr ⟨⟨K 2, oRef_K (i := 2) (by omega), vk_R.of (hts _ q205) (hK 2 (by omega))⟩, ?_⟩
    refine List.forall_mem_cons.mpr ⟨⟨K 3, oRef_K (i := 3) (by omega), vk_R.of (hts _ q206) (hK 3 (by omega))⟩, ?_⟩
    refine List.forall_mem_cons.mpr ⟨⟨K 4, oRef_K (i := 4) (by omega), vk_R.of (hts _ q207) (hK 4 (by omega))⟩, ?_⟩
    refine List.forall_mem_cons.mpr ⟨⟨K 5, oRef_K (i := 5) (by omega), vk_R.of (hts _ q208) (hK 5 (by omega))⟩, ?_⟩
    refine List.forall_mem_cons.mpr ⟨⟨K 6, oRef_K (i := 6) (by omega), vk_R.of (hts _ q209) (hK 6 (by omega))⟩, ?_⟩
    refine List.forall_mem_cons.mpr ⟨⟨K 7, oRef_K (i := 7) (by omega), vk_R.of (hts _ q210) (hK 7 (by omega))⟩, ?_⟩
    refine List.forall_mem_cons.mpr ⟨⟨K 8, oRef_K (i := 8) (by omega), vk_R.of (hts _ q211) (hK 8 (by omega))⟩, ?_⟩
    refine List.forall_mem_cons.mpr ⟨⟨K 9, oRef_K (i := 9) (by omega), vk_R.of (hts _ q212) (hK 9 (by omega))⟩, ?_⟩
    refine List.forall_mem_cons.mpr ⟨⟨K 10, oRef_K (i := 10) (by omega), vk_R.of (hts _ q213) (hK 10 (by omega))⟩, ?_⟩
    refine List.forall_mem_cons.mpr ⟨⟨K 11, oRef_K (i := 11) (by omega), vk_R.of (hts _ q214) (hK 11 (by omega))⟩, ?_⟩
    refine List.forall_mem_cons.mpr ⟨⟨K 12, oRef_K (i := 12) (by omega), vk_R.of (hts _ q215) (hK 12 (by omega))⟩, ?_⟩
    refine List.forall_mem_cons.mpr ⟨⟨K 13, oRef_K (i := 13) (by omega), vk_R.of (hts _ q216) (hK 13 (by omega))⟩, ?_⟩
    refine List.forall_mem_cons.mpr ⟨⟨K 14, oRef_K (i := 14) (by omega), vk_R.of (hts _ q217) (hK 14 (by omega))⟩, ?_⟩
    refine List.forall_mem_cons.mpr ⟨⟨K 15, oRef_K (i := 15) (by omega), vk_R.of (hts _ q218) (hK 15 (by omega))⟩, ?_⟩
    refine List.forall_mem_cons.mpr ⟨⟨K 16, oRef_K (i := 16) (by omega), vk_R.of (hts _ q219) (hK 16 (by omega))⟩, ?_⟩
    refine List.forall_mem_cons.mpr ⟨⟨K 17, oRef_K (i := 17) (by omega), vk_R.of (hts _ q220) (hK 17 (by omega))⟩, ?_⟩
    refine List.forall_mem_cons.mpr ⟨⟨K 18, oRef_K (i := 18) (by omega), vk_R.of (hts _ q221) (hK 18 (by omega))⟩, ?_⟩
    refine List.forall_mem_cons.mpr ⟨⟨K 19, oRef_K (i := 19) (by omega), vk_R.of (hts _ q222) (hK 19 (by omega))⟩, ?_⟩
    refine List.forall_mem_cons.mpr ⟨⟨K 20, oRef_K (i := 20) (by omega), vk_R.of (hts _ q223) (hK 20 (by omega))⟩, ?_⟩
    refine List.forall_mem_cons.mpr ⟨⟨K 21, oRef_K (i := 21) (by omega), vk_R.of (hts _ q1020) (hK 21 (by omega))⟩, ?_⟩
    refine List.forall_mem_cons.mpr ⟨⟨K 22, oRef_K (i := 22) (by omega), vk_R.of (hts _ q1029) (hK 22 (by omega))⟩, ?_⟩
    refine List.forall_mem_cons.mpr ⟨⟨K 23, oRef_K (i := 23) (by omega), vk_R.of (hts _ q1034) (hK 23 (by omega))⟩, ?_⟩
    refine List.forall_mem_cons.mpr ⟨⟨K 24, oRef_K (i := 24) (by omega), vk_R.of (hts _ q1035) (hK 24 (by omega))⟩, ?_⟩
    refine List.forall_mem_cons.mpr ⟨⟨K 25, oRef_K (i := 25) (by omega), vk_R.of (hts _ q1036) (hK 25 (by omega))⟩, ?_⟩
    refine List.forall_mem_cons.mpr ⟨⟨K 26, oRef_K (i := 26) (by omega), vk_R.of (hts _ q1037) (hK 26 (by omega))⟩, ?_⟩
    refine List.forall_mem_cons.mpr ⟨⟨K 27, oRef_K (i := 27) (by omega), vk_R.of (hts _ q1038) (hK 27 (by omega))⟩, ?_⟩
    refine List.forall_mem_cons.mpr ⟨⟨K 28, oRef_K (i := 28) (by omega), vk_R.of (hts _ q1141) (hK 28 (by omega))⟩, ?_⟩
    refine List.forall_mem_cons.mpr ⟨⟨K 29, oRef_K (i := 29) (by omega), vk_R.of (hts _ q1142) (hK 29 (by omega))⟩, ?_⟩
    refine List.forall_mem_cons.mpr ⟨⟨K 30, oRef_K (i := 30) (by omega), vk_R.of (hts _ q1143) (hK 30 (by omega))⟩, ?_⟩
    refine List.forall_mem_cons.mpr ⟨⟨K 31, oRef_K (i := 31) (by omega), vk_R.of (hts _ q1154) (hK 31 (by omega))⟩, ?_⟩
    refine List.forall_mem_cons.mpr ⟨⟨K 32, oRef_K (i := 32) (by omega), vk_R.of (hts _ q1230) (hK 32 (by omega))⟩, ?_⟩
    refine List.forall_mem_cons.mpr ⟨⟨K 33, oRef_K (i := 33) (by omega), vk_R.of (hts _ q1231) (hK 33 (by omega))⟩, ?_⟩
    refine List.forall_mem_cons.mpr ⟨⟨K 0, oRef_K (i := 0) (by omega), vk_R.of (hts _ q1823) (hM 0 (by omega))⟩, ?_⟩
    refine List.forall_mem_cons.mpr ⟨⟨K 7, oRef_K (i := 7) (by omega), vk_R.of (hts _ q1841) (hM 7 (by omega))⟩, ?_⟩
    refine List.forall_mem_cons.mpr ⟨⟨K 10, oRef_K (i := 10) (by omega), vk_R.of (hts _ q1854) (hM 10 (by omega))⟩, ?_⟩
    refine List.forall_mem_cons.mpr ⟨⟨K 11, oRef_K (i := 11) (by omega), vk_R.of (hts _ q1855) (hM 11 (by omega))⟩, ?_⟩
    refine List.forall_mem_cons.mpr ⟨⟨K 12, oRef_K (i := 12) (by omega), vk_R.of (hts _ q1856) (hM 12 (by omega))⟩, ?_⟩
    refine List.forall_mem_cons.mpr ⟨⟨K 13, oRef_K (i := 13) (by omega), vk_R.of (hts _ q1857) (hM 13 (by omega))⟩, ?_⟩
    refine List.forall_mem_cons.mpr ⟨⟨K 14, oRef_K (i := 14) (by omega), vk_R.of (hts _ q1858) (hM 14 (by omega))⟩, ?_⟩
    refine List.forall_mem_cons.mpr ⟨⟨K 15, oRef_K (i := 15) (by omega), vk_R.of (hts _ q1859) (hM 15 (by omega))⟩, ?_⟩
    refine List.forall_mem_cons.mpr ⟨⟨K 16, oRef_K (i := 16) (by omega), vk_R.of (hts _ q1860) (hM 16 (by omega))⟩, ?_⟩
    refine List.forall_mem_cons.mpr ⟨⟨K 17, oRef_K (i := 17) (by omega), vk_R.of (hts _ q1861) (hM 17 (by omega))⟩, ?_⟩
    refine List.forall_mem_cons.mpr ⟨⟨K 18, oRef_K (i := 18) (by omega), vk_R.of (hts _ q1862) (hM 18 (by omega))⟩, ?_⟩
    refine List.forall_mem_cons.mpr ⟨⟨K 19, oRef_K (i := 19) (by omega), vk_R.of (hts _ q1863) (hM 19 (by omega))⟩, ?_⟩
    refine List.forall_mem_cons.mpr ⟨⟨K 20, oRef_K (i := 20) (by omega), vk_R.of (hts _ q1864) (hM 20 (by omega))⟩, ?_⟩
    refine List.forall_mem_cons.mpr ⟨⟨K 21, oRef_K (i := 21) (by omega), vk_R.of (hts _ q1876) (hM 21 (by omega))⟩, ?_⟩
    refine List.forall_mem_cons.mpr ⟨⟨K 22, oRef_K (i := 22) (by omega), vk_R.of (hts _ q1885) (hM 22 (by omega))⟩, ?_⟩
    refine List.forall_mem_cons.mpr ⟨⟨K 23, oRef_K (i := 23) (by omega), vk_R.of (hts _ q1890) (hM 23 (by omega))⟩, ?_⟩
    refine List.forall_mem_cons.mpr ⟨⟨K 24, oRef_K (i := 24) (by omega), vk_R.of (hts _ q1895) (hM 24 (by omega))⟩, ?_⟩
    refine List.forall_mem_cons.mpr ⟨⟨K 25, oRef_K (i := 25) (by omega), vk_R.of (hts _ q1900) (hM 25 (by omega))⟩, ?_⟩
    refine List.forall_mem_cons.mpr ⟨⟨K 26, oRef_K (i := 26) (by omega), vk_R.of (hts _ q1901) (hM 26 (by omega))⟩, ?_⟩
    refine List.forall_mem_cons.mpr ⟨⟨K 27, oRef_K (i := 27) (by omega), vk_R.of (hts _ q1902) (hM 27 (by omega))⟩, ?_⟩
    refine List.forall_mem_cons.mpr ⟨⟨K 28, oRef_K (i := 28) (by omega), vk_R.of (hts _ q1907) (hM 28 (by omega))⟩, ?_⟩
    refine List.forall_mem_cons.mpr ⟨⟨K 29, oRef_K (i := 29) (by omega), vk_R.of (hts _ q1908) (hM 29 (by omega))⟩, ?_⟩
    refine List.forall_mem_cons.mpr ⟨⟨K 30, oRef_K (i := 30) (by omega), vk_R.of (hts _ q1909) (hM 30 (by omega))⟩, ?_⟩
    refine List.forall_mem_cons.mpr ⟨⟨K 31, oRef_K (i := 31) (by omega), vk_R.of (hts _ q1926) (hM 31 (by omega))⟩, ?_⟩
    refine List.forall_mem_cons.mpr ⟨⟨K 8, oRef_K (i := 8) (by omega), vk_R.of (hts _ q1935) (hM 8 (by omega))⟩, ?_⟩
    refine List.forall_mem_cons.mpr ⟨⟨K 9, oRef_K (i := 9) (by omega), vk_R.of (hts _ q1936) (hM 9 (by omega))⟩, ?_⟩
    refine List.forall_mem_cons.mpr ⟨⟨K 1, oRef_K (i := 1) (by omega), vk_R.of (hts _ q1949) (hM 1 (by omega))⟩, ?_⟩
    refine List.forall_mem_cons.mpr ⟨⟨K 2, oRef_K (i := 2) (by omega), vk_R.of (hts _ q1950) (hM 2 (by omega))⟩, ?_⟩
    refine List.forall_mem_cons.mpr ⟨⟨K 3, oRef_K (i := 3) (by omega), vk_R.of (hts _ q1951) (hM 3 (by omega))⟩, ?_⟩
    refine List.forall_mem_cons.mpr ⟨⟨K 4, oRef_K (i := 4) (by omega), vk_R.of (hts _ q1952) (hM 4 (by omega))⟩, ?_⟩
    refine List.forall_mem_cons.mpr ⟨⟨K 5, oRef_K (i := 5) (by omega), vk_R.of (hts _ q1953) (hM 5 (by omega))⟩, ?_⟩
    refine List.forall_mem_cons.mpr ⟨⟨K 6, oRef_K (i := 6) (by omega), vk_R.of (hts _ q1954) (hM 6 (by omega))⟩, ?_⟩
    refine List.forall_mem_cons.mpr ⟨⟨K 32, oRef_K (i := 32) (by omega), vk_R.of (hts _ q1955) (hM 32 (by omega))⟩, ?_⟩
    refine List.forall_mem_cons.mpr ⟨⟨K 33, oRef_K (i := 33) (by omega), vk_R.of (hts _ q1956) (hM 33 (by omega))⟩, ?_⟩
    exact fun x hx => nomatch hx
  exact fun own k tx a hx => h (own, k, tx, a) hx
theorem wd_st (hts : ∀ w ∈ lw_tbl, w.before args s = true) (hg : (Cond.and given_1 narrow_1).before args s = true) (hT : tbT.eval args s none [] s = some (.ref qT)) (hF : (Term.static "jdk/internal/util/Preconditions" "SIOOBE_FORMATTER" "Ljava/util/function/BiFunction;").eval args s none [] s = some vF) (hU : (Term.static "java/lang/Throwable" "UNASSIGNED_STACK" "[Ljava/lang/StackTraceElement;").eval args s none [] s = some vU) (hS : (Term.static "java/lang/Throwable" "SUPPRESSED_SENTINEL" "Ljava/util/List;").eval args s none [] s = some vS) : statOk (mkG l s D fA K V qT b L vF vU vS xs) s := by
  have hA : ∀ a : Nat, a < s.heap.size → ¬ s.heap.size ≤ a := fun a h => by omega
  exact List.forall_mem_cons.mpr ⟨va_Zof (hts _ q1107) (hts _ (lw_all_tbl q152)) hT hA, List.forall_mem_cons.mpr ⟨va_Zof (hts _ q954) (hts _ (lw_all_tbl q164)) (va_eqi (gv_at hg nm_cs)) hA, List.forall_mem_cons.mpr ⟨va_Zof (hts _ q970) (hts _ (lw_all_tbl q166)) hF hA, List.forall_mem_cons.mpr ⟨va_Zof (hts _ q455) (hts _ (lw_all_tbl q158)) hU hA, List.forall_mem_cons.mpr ⟨va_Zof (hts _ q457) (hts _ (lw_all_tbl q158)) hS hA, fun x hx => nomatch hx⟩⟩⟩⟩⟩
theorem wd_th (hl : l.stackTraces = false) (hts : ∀ w ∈ lw_tbl, w.before args s = true) (hg : (Cond.and given_1 narrow_1).before args s = true) : throwOk (mkG l s D fA K V qT b L vF vU vS xs) s := by
  have hA : ∀ a : Nat, a < s.heap.size → ¬ s.heap.size ≤ a := fun a h => by omega
  exact ⟨hl, vx_Zqof (hts _ q455) (hts _ (lw_all_tbl q158)) (gv_at hg nm_us) hA, vx_Zqof (hts _ q457) (hts _ (lw_all_tbl q158)) (gv_at hg nm_ss) hA⟩
end WO

