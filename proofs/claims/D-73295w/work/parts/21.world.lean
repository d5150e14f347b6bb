/-- the texts of the String constants, in order: text i lies at -(10 + 2 i), its bytes at -(11 + 2 i) -/
def txtG : List String := ["op", "micros", "control", "modal", "local", "timed", "uses", "guarded", "patched", "sensitive", "add", "load", "save", "rise", "drop", "move", "where", "who", "time", "skip", "quiet", "program", "cells", "vector", "shift", "cost", "alarm", "purse", "blame", "worth", "if", "not", "and", "or"]
def strTab : List (String × Nat × String × Int) := [("GuestView$Reader", 17, "op", -10), ("GuestView$Reader", 19, "micros", -12), ("GuestView$Reader", 21, "control", -14), ("GuestView$Reader", 23, "modal", -16), ("GuestView$Reader", 25, "local", -18), ("GuestView$Reader", 27, "timed", -20), ("GuestView$Reader", 29, "uses", -22), ("GuestView$Reader", 35, "guarded", -24), ("GuestView$Reader", 37, "patched", -26), ("GuestView$Reader", 39, "sensitive", -28), ("GuestView$Reader", 44, "add", -30), ("GuestView$Reader", 46, "load", -32), ("GuestView$Reader", 48, "save", -34), ("GuestView$Reader", 50, "rise", -36), ("GuestView$Reader", 52, "drop", -38), ("GuestView$Reader", 54, "move", -40), ("GuestView$Reader", 56, "where", -42), ("GuestView$Reader", 58, "who", -44), ("GuestView$Reader", 60, "time", -46), ("GuestView$Reader", 62, "skip", -48), ("GuestView$Reader", 64, "quiet", -50), ("GuestView$Reader", 148, "program", -52), ("GuestView$Reader", 153, "cells", -54), ("GuestView$Reader", 158, "vector", -56), ("GuestView$Reader", 162, "shift", -58), ("GuestView$Reader", 166, "cost", -60), ("GuestView$Reader", 170, "alarm", -62), ("GuestView$Reader", 174, "purse", -64), ("GuestView$Reader", 215, "blame", -66), ("GuestView$Reader", 217, "worth", -68), ("GuestView$Reader", 219, "if", -70), ("GuestView$Reader", 252, "not", -72), ("GuestView$Reader", 244, "and", -74), ("GuestView$Reader", 246, "or", -76), ("GuestViewModel", 175, "op", -10), ("GuestViewModel", 160, "guarded", -24), ("GuestViewModel", 131, "add", -30), ("GuestViewModel", 133, "load", -32), ("GuestViewModel", 135, "save", -34), ("GuestViewModel", 137, "rise", -36), ("GuestViewModel", 139, "drop", -38), ("GuestViewModel", 141, "move", -40), ("GuestViewModel", 143, "where", -42), ("GuestViewModel", 145, "who", -44), ("GuestViewModel", 147, "time", -46), ("GuestViewModel", 149, "skip", -48), ("GuestViewModel", 151, "quiet", -50), ("GuestViewModel", 180, "program", -52), ("GuestViewModel", 185, "cells", -54), ("GuestViewModel", 189, "vector", -56), ("GuestViewModel", 191, "shift", -58), ("GuestViewModel", 196, "cost", -60), ("GuestViewModel", 198, "alarm", -62), ("GuestViewModel", 200, "purse", -64), ("GuestViewModel", 258, "blame", -66), ("GuestViewModel", 260, "worth", -68), ("GuestViewModel", 262, "if", -70), ("GuestViewModel", 240, "not", -72), ("GuestViewModel", 230, "patched", -26), ("GuestViewModel", 232, "sensitive", -28), ("GuestViewModel", 205, "micros", -12), ("GuestViewModel", 207, "control", -14), ("GuestViewModel", 209, "modal", -16), ("GuestViewModel", 211, "local", -18), ("GuestViewModel", 213, "timed", -20), ("GuestViewModel", 215, "uses", -22), ("GuestViewModel", 251, "and", -74), ("GuestViewModel", 256, "or", -76)]
/-! THE WORLD: classes, arrays, the heap that a memory stands for -/
def clG : List vw_C := [(RX1, TX1, 17), (RX1, TX1, 17), (RX2, TX2, 11), (RX3, TX3, 20), (RX4, TX4, 3), (RX5, TX5, 7), (RX6, TX6, 6), (RX7, TX7, 7), (RX8, TX8, 32), (RX9, TX9, 3), (RX10, TX10, 1), (RX11, TX11, 2), (RX12, TX12, 2), (RX13, TX13, 1), (RX15, TX15, 2), (RX15, TX15, 2), (RX16, TX16, 2), (RX17, TX17, 2), (RJ7, TJ7, 0)]
/-- of a type how it is kept: 0 int, 1 reference, 2 long, 3 boolean, 9 not at all -/
def tyK : FieldType → Nat
  | .int => 0
  | .boolean => 3
  | .long => 2
  | .object _ => 1
  | .array _ => 1
  | _ => 9
/-- of a class's field how it is kept -/
def fK (t k : Nat) : Nat := match t with
  | 0 | 1 => tyK (tyX1 k)
  | 2 => tyK (tyX2 k)
  | 3 => tyK (tyX3 k)
  | 4 => tyK (tyX4 k)
  | 5 => tyK (tyX5 k)
  | 6 => tyK (tyX6 k)
  | 7 => tyK (tyX7 k)
  | 8 => tyK (tyX8 k)
  | 9 => tyK (tyX9 k)
  | 10 => tyK (tyX10 k)
  | 11 => tyK (tyX11 k)
  | 12 => tyK (tyX12 k)
  | 13 => tyK (tyX13 k)
  | 14 | 15 => tyK (tyX15 k)
  | 16 => tyK (tyX16 k)
  | _ => tyK (tyX17 k)
/-- arrays' element types by number -/
def aTy (t : Nat) : FieldType := match t with
  | 100 => .int
  | 101 => .byte
  | 102 => .long
  | 123 => .object "GuestView$State"
  | 126 => .object "GuestView$Op"
  | 134 => .object "GuestView$Line"
  | _ => .object "java/lang/String"
def cellV (G : GW) (M : Mem) (a : Int) (t k : Nat) : Value := match fK t k with
  | 1 => tv G (dO (mcr M a k))
  | 2 => .long (Int64.ofInt (mcl M a k))
  | _ => .int (Int32.ofInt (mci M a k))
def elemV (G : GW) (M : Mem) (a : Int) (t j : Nat) : Value := match t with
  | 100 => .int (Int32.ofInt (mci M a j))
  | 101 => .int (Int32.ofInt (mci M a j))
  | 102 => .long (Int64.ofInt (mcl M a j))
  | _ => tv G (dO (mcr M a j))
/-- an object of class t (its fields as V has them) at the real address q -/
def obAt (G : GW) (q t : Nat) (H : Heap) (V : Nat → Value) : Prop := ∃ r : vw_C, clG[t]? = some r ∧ t_OB q ((gD G).1 t) r.2.2 ((gD G).2 t) H V
def atM (G : GW) (M : Mem) (a : Int) (H : Heap) : Prop := ∀ t n, msh M a = some (t, n) → 0 ≤ n ∧ n < 2147483648 ∧ (t < 100 → obAt G (gB G + a.toNat) t H (cellV G M a t)) ∧ (¬ t < 100 → H[gB G + a.toNat]? = some (arrV (gA G t) n.toNat (elemV G M a t)))
/-- the heap is what the memory says -/
def Rp (G : GW) (M : Mem) (H : Heap) : Prop :=
  H.size = gB G + mnx M ∧ (∀ a : Int, 0 ≤ a → a < mnx M → atM G M a H) ∧ (∀ a : Int, mnx M ≤ a → msh M a = none) ∧
  (∀ a : Int, a < 0 → msh M a = gsh G a ∧ ∀ i, mci M a i = gci G a i ∧ mcr M a i = gcr G a i) ∧
  (∀ q : Nat, q < gB G → H[q]? = (gH G)[q]?) ∧ (∀ a i, i32 (mci M a i)) ∧ (∀ a i, i64 (mcl M a i))
def okLoc (G : GW) (locs : List Loc) : Prop := ∀ z ∈ locs, gB G ≤ z.base
/-- a word of the tables that no list carries: it is kept in the world -/
def nestW : Cond → Bool
  | .fieldLinkNest .. => true
  | .methodLinkNest .. => true
  | .castable .. => true
  | .declares .. => true
  | _ => false
def wdN (U : State) : Prop := ∀ w ∈ lw_tbl, nestW w = true → va_Nw w U
theorem nest_tab {w : Cond} (h : nestW w = true) : w.onTables = true := by
  cases w <;> first | rfl | cases h
theorem wdN.warm {s U : State} (hW : s.WarmedH U.vm) (h : wdN s) : wdN U := by
  intro w hw hn
  have h1 := h w hw hn
  cases w <;> first | exact va_Nw.warmF hW h1 | exact va_Nw.warmM hW h1 | exact va_Nw.warmC hW h1 | exact va_Nw.warmD hW h1 | cases hn
theorem wdN.same {s U : State} (hv : s.vm = U.vm) (h : wdN s) : wdN U := fun w hw hn => va_Nw.same (nest_tab hn) hv (h w hw hn)
/-- arrays over the classes of ours can be made -/
def wdA (U : State) : Prop := ∀ t : Nat, t = 123 ∨ t = 126 ∨ t = 134 ∨ t = 140 → ∀ C : String, aTy t = .object C → va_AO C U
def tysG (G : GW) : List (ClassId × FieldType) := [100, 101, 102, 123, 126, 134, 140].map fun t => (gA G t, aTy t)
/-- an old array at the real address q: what the world's constants say of it -/
def oldA (G : GW) (a : Int) (t : Nat) (n : Int) (U : State) : Prop := ∃ (q : Nat) (cell : Cell), gO G a = .ref q ∧ q < gB G ∧ (gH G)[q]? = some cell ∧ U.isArrayOf cell (aTy t) ∧ cell.vm ≠ .unknown ∧ cell.slots.size = n.toNat ∧ ∀ j : Nat, j < n.toNat → cell.slots[j]? = some (match t with
  | 100 => .int (Int32.ofInt (gci G a j))
  | 101 => .int (Int32.ofInt (gci G a j))
  | _ => tv G (dO (gcr G a j)))
/-- an old String: its array and its coder -/
def oldS (G : GW) (a : Int) (U : State) : Prop := ∃ q : Nat, gO G a = .ref q ∧ q < gB G ∧ (∃ cell : Cell, (gH G)[q]? = some cell ∧ cell.vm.isStatics = false ∧ U.vm.findClass "java/lang/String" = some cell.cls) ∧
  va_OF "java/lang/String" "value" "[B" (tv G (dO (gcr G a 0))) q (fun q => gB G ≤ q) U (gH G) ∧ va_OF "java/lang/String" "coder" "B" (.int (Int32.ofInt (gci G a 1))) q (fun q => gB G ≤ q) U (gH G)
def oldOk (G : GW) (U : State) : Prop := (∀ a : Int, a < 0 → gO G a = .null ∨ ∃ q : Nat, q < gB G ∧ gO G a = .ref q) ∧
  ∀ (a : Int) (t : Nat) (n : Int), a < 0 → gsh G a = some (t, n) → 0 ≤ n ∧ n < 2147483648 ∧ (t = 99 → oldS G a U) ∧ (t ≠ 99 → 100 ≤ t ∧ t ≠ 102 ∧ oldA G a t n U)
/-- the statics that are read: class, name, descriptor, what is read -/
def statV (G : GW) : List (String × String × String × Value) := [("GuestView", "TABLE", "[I", gO G (-1)), ("java/lang/String", "COMPACT_STRINGS", "Z", .int 1), ("jdk/internal/util/Preconditions", "SIOOBE_FORMATTER", "Ljava/util/function/BiFunction;", gO G (-2)), ("java/lang/Throwable", "UNASSIGNED_STACK", "[Ljava/lang/StackTraceElement;", gO G (-3)), ("java/lang/Throwable", "SUPPRESSED_SENTINEL", "Ljava/util/List;", gO G (-4))]
def statOk (G : GW) (U : State) : Prop := ∀ x ∈ statV G, va_Z x.1 x.2.1 x.2.2.1 x.2.2.2 (fun q => gB G ≤ q) U (gH G)
def throwOk (G : GW) (U : State) : Prop := (gl G).stackTraces = false ∧ vx_Zq Bundle.tN "UNASSIGNED_STACK" Bundle.steD (fun q => gB G ≤ q) U (gH G) ∧ vx_Zq Bundle.tN "SUPPRESSED_SENTINEL" Bundle.listD (fun q => gB G ≤ q) U (gH G)
/-- String constants by class and entry: the abstract address, the text -/
def strOk (G : GW) (U : State) : Prop := ∀ (own : String) (k : Nat) (tx : String) (a : Int), (own, k, tx, a) ∈ strTab → ∃ q : Nat, gO G a = .ref q ∧ vk_R own k tx q U
/-- classes that a handler doesn't take -/
def ncTab : List (String × String) := [("java/lang/UnsupportedOperationException", "java/lang/IllegalArgumentException"), ("java/util/NoSuchElementException", "java/lang/IndexOutOfBoundsException"), ("java/lang/IllegalArgumentException", "java/lang/IndexOutOfBoundsException"), ("java/util/NoSuchElementException", "java/lang/IllegalArgumentException")]
def ncOk (U : State) : Prop := ∀ x ∈ ncTab, va_Nc x.1 x.2 U
def holdsN : MethodName := ⟨"GuestView$Cond", "holds", "([I)Z"⟩
def fwTab : List (String × MethodName) := [(RX10, yX10_holds), (RX12, yX12_holds), (RX13, yX13_holds), (RX9, yX9_holds)]
def fwOk (U : State) : Prop := ∀ x ∈ fwTab, va_Fw x.1 holdsN x.2 U
def Wd (G : GW) (U : State) : Prop := va_K (gD G) clG (tysG G) U ∧ wdN U ∧ wdA U ∧ oldOk G U ∧ statOk G U ∧ throwOk G U ∧ strOk G U ∧ ncOk U ∧ fwOk U
