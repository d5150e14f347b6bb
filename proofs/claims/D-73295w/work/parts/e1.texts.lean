/-! The start: texts and the table -/

def gvF : List Cond := flatC (Cond.and given_1 narrow_1)
def ksR : List Nat := [17, 19, 21, 23, 25, 27, 29, 35, 37, 39, 44, 46, 48, 50, 52, 54, 56, 58, 60, 62, 64, 148, 153, 158, 162, 166, 170, 174, 215, 217, 219, 252, 244, 246]
def ksM : List Nat := [175, 205, 207, 209, 211, 213, 215, 160, 230, 232, 131, 133, 135, 137, 139, 141, 143, 145, 147, 149, 151, 180, 185, 189, 191, 196, 198, 200, 258, 260, 262, 240, 251, 256]
def bxR : List Nat := [307, 313, 323, 334, 343, 352, 361, 369, 380, 391, 404, 411, 419, 427, 435, 443, 451, 460, 467, 475, 483, 492, 503, 512, 522, 531, 539, 548, 557, 566, 575, 581, 588, 595]
def exR : List Nat := [607, 862, 874, 884, 894, 904, 913, 619, 837, 851, 627, 636, 645, 654, 663, 672, 682, 690, 699, 708, 718, 730, 740, 751, 761, 770, 780, 790, 800, 810, 817, 825, 921, 928]
def sT (i : Nat) : Term := .string "GuestView$Reader" (ksR.getD i 0)
def sM (i : Nat) : Term := .string "GuestViewModel" (ksM.getD i 0)
def sF (i : Nat) : Term := .field (sT i) "java/lang/String" "value" "[B"
def tbT : Term := .static "GuestView" "TABLE" "[I"
def tabF (j : Nat) : Int := (((j / 8 % 4 * (j % 8) + j / 8 / 4) % 4 : Nat) : Int)
theorem nm_ex : ∀ i, i < 34 → gvF[bxR.getD i 0]? = some (Cond.exactly (sT i) "java/lang/String") := by decide +kernel
theorem nm_co : ∀ i, i < 34 → gvF[bxR.getD i 0 + 1]? = some (Cond.eq (.field (sT i) "java/lang/String" "coder" "B") (.int 0)) := by decide +kernel
theorem nm_ar : ∀ i, i < 34 → gvF[bxR.getD i 0 + 2]? = some (Cond.arrayOf (sF i) .byte) := by decide +kernel
theorem nm_le : ∀ i, i < 34 → gvF[bxR.getD i 0 + 3]? = some (Cond.eq (.length (sF i)) (.int (Int32.ofNat (txB i).length))) := by decide +kernel
theorem nm_el : ∀ i, i < 34 → ∀ j, j < (txB i).length → gvF[bxR.getD i 0 + 4 + j]? = some (Cond.eq (.elem (sF i) (.int (Int32.ofNat j))) (.int (Int32.ofInt ((txB i).getD j 0)))) := by decide +kernel
theorem nm_eq : ∀ i, i < 34 → gvF[exR.getD i 0]? = some (Cond.eq (sT i) (sM i)) := by decide +kernel
theorem nm_tl : ∀ i, i < 34 → (txB i).length ≤ 16 := by decide +kernel
theorem nm_tb : ∀ i, i < 34 → ∀ j, j < (txB i).length → 0 ≤ (txB i).getD j 0 ∧ (txB i).getD j 0 < 128 := by decide +kernel
theorem nm_ta : gvF[12]? = some (Cond.arrayOf tbT .int) := by decide +kernel
theorem nm_tn : gvF[13]? = some (Cond.eq (.length tbT) (.int 128)) := by decide +kernel
theorem nm_te : ∀ j, j < 128 → gvF[14 + j]? = some (Cond.eq (.elem tbT (.int (Int32.ofNat j))) (.int (Int32.ofInt (tabF j)))) := by decide +kernel
theorem nm_n0 : gvF[150]? = some (Cond.not (Cond.castable "java/lang/UnsupportedOperationException" "java/lang/IllegalArgumentException")) := by decide +kernel
theorem nm_n1 : gvF[220]? = some (Cond.not (Cond.castable "java/util/NoSuchElementException" "java/lang/IndexOutOfBoundsException")) := by decide +kernel
theorem nm_n2 : gvF[210]? = some (Cond.not (Cond.castable "java/lang/IllegalArgumentException" "java/lang/IndexOutOfBoundsException")) := by decide +kernel
theorem nm_n3 : gvF[161]? = some (Cond.not (Cond.castable "java/util/NoSuchElementException" "java/lang/IllegalArgumentException")) := by decide +kernel
theorem nm_cs : gvF[6]? = some (Cond.eq (.static "java/lang/String" "COMPACT_STRINGS" "Z") (.int 1)) := by decide +kernel
theorem nm_us : gvF[4]? = some (Cond.isRef (.static "java/lang/Throwable" "UNASSIGNED_STACK" "[Ljava/lang/StackTraceElement;")) := by decide +kernel
theorem nm_ss : gvF[5]? = some (Cond.isRef (.static "java/lang/Throwable" "SUPPRESSED_SENTINEL" "Ljava/util/List;")) := by decide +kernel
theorem nm_sf : gvF[7]? = some (Cond.isRef (.static "jdk/internal/util/Preconditions" "SIOOBE_FORMATTER" "Ljava/util/function/BiFunction;")) := by decide +kernel
section WT
variable {args : Array Value} {s : State} {A : Nat → Prop}
theorem gv_at (hg : (Cond.and given_1 narrow_1).before args s = true) {k : Nat} {w : Cond} (h : gvF[k]? = some w) : w.before args s = true := flat_of_before _ hg _ (List.mem_of_getElem? h)
theorem w_txt (hg : (Cond.and given_1 narrow_1).before args s = true) (hA : ∀ a : Nat, a < s.heap.size → ¬ A a) : ∃ K V : Nat → Nat, ∀ i : Nat, i < 34 → (sT i).eval args s none [] s = some (.ref (K i)) ∧ va_O "java/lang/String" (K i) A s s.heap ∧ va_OF "java/lang/String" "coder" "B" (.int 0) (K i) A s s.heap ∧ va_OF "java/lang/String" "value" "[B" (.ref (V i)) (K i) A s s.heap ∧ va_T .byte (V i) (txB i).length (fun j => .int (Int32.ofInt ((txB i).getD j 0))) A s s.heap := by
  have h0 : ∀ i : Nat, ∃ q : Nat × Nat, i < 34 → (sT i).eval args s none [] s = some (.ref q.1) ∧ va_O "java/lang/String" q.1 A s s.heap ∧ va_OF "java/lang/String" "coder" "B" (.int 0) q.1 A s s.heap ∧ va_OF "java/lang/String" "value" "[B" (.ref q.2) q.1 A s s.heap ∧ va_T .byte q.2 (txB i).length (fun j => .int (Int32.ofInt ((txB i).getD j 0))) A s s.heap := by
    intro i
    by_cases hi : i < 34
    · obtain ⟨a, c, cA, kA, q1, q2, q3, q4, q5, q6, -⟩ := Cond.exactly_spec (args := args) (first := s) (o := none) (s := s) (idx := []) (t := sT i) (cls := "java/lang/String") (gv_at hg (nm_ex i hi))
      have hl := nm_tl i hi
      obtain ⟨t, ht, hT⟩ := va_Tof (f := fun j => .int (Int32.ofInt ((txB i).getD j 0))) (A := A) (show (txB i).length < 2 ^ 31 by omega) (gv_at hg (nm_ar i hi)) (va_eqt (gv_at hg (nm_le i hi))) (fun j hj => va_eqt (gv_at hg (nm_el i hi j hj))) hA
      exact ⟨(a, t), fun _ => ⟨q1, ⟨cA, q3, q5, by rw [q6]; exact q2, hA a (Array.getElem?_eq_some_iff.mp q3).1⟩, vk_OFof q1 (va_eqt (gv_at hg (nm_co i hi))) hA, vk_OFof q1 ht hA, hT⟩⟩
    · exact ⟨(0, 0), fun h => absurd h hi⟩
  obtain ⟨f, hf⟩ := Classical.axiomOfChoice h0
  exact ⟨fun i => (f i).1, fun i => (f i).2, fun i hi => hf i hi⟩
theorem w_mod (hg : (Cond.and given_1 narrow_1).before args s = true) {i q : Nat} (hi : i < 34) (h : (sT i).eval args s none [] s = some (.ref q)) : (sM i).eval args s none [] s = some (.ref q) := va_eqR (gv_at hg (nm_eq i hi)) h
theorem w_tbl (hg : (Cond.and given_1 narrow_1).before args s = true) (hA : ∀ a : Nat, a < s.heap.size → ¬ A a) : ∃ q : Nat, tbT.eval args s none [] s = some (.ref q) ∧ va_T .int q 128 (fun j => .int (Int32.ofInt (tabF j))) A s s.heap := va_Tof (by decide) (gv_at hg nm_ta) (va_eqt (gv_at hg nm_tn)) (fun j hj => va_eqt (gv_at hg (nm_te j hj))) hA
/-- a static of which only is known that it is null or a reference -/
theorem w_ref {C n d : String} (h : (Cond.isRef (.static C n d)).before args s = true) : ∃ v : Value, (Term.static C n d).eval args s none [] s = some v ∧ (v = .null ∨ ∃ q : Nat, v = .ref q) := by
  cases hv : (Term.static C n d).eval args s none [] s with
  | none => simp [Cond.before, Cond.holds, Cond.value, hv] at h
  | some w =>
    simp only [Cond.before, Cond.holds, Cond.value, hv] at h
    cases w with
    | null => exact ⟨_, rfl, Or.inl rfl⟩
    | ref q => exact ⟨_, rfl, Or.inr ⟨q, rfl⟩⟩
    | _ => simp at h
end WT

