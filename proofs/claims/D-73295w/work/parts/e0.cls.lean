/-! The start: classes and arrays of the tables -/
theorem w_ins : ∀ (c : Nat) (q : vw_C), clG[c]? = some q → ∃ n : Nat, Cond.instantiable q.1 n ∈ lw_all
  | 0, q, h => by
    have e : ((RX1, TX1, 17) : vw_C) = q := Option.some.inj (show some ((RX1, TX1, 17) : vw_C) = some q from h)
    subst e
    exact ⟨_, q185⟩
  | 1, q, h => by
    have e : ((RX1, TX1, 17) : vw_C) = q := Option.some.inj (show some ((RX1, TX1, 17) : vw_C) = some q from h)
    subst e
    exact ⟨_, q185⟩
  | 2, q, h => by
    have e : ((RX2, TX2, 11) : vw_C) = q := Option.some.inj (show some ((RX2, TX2, 11) : vw_C) = some q from h)
    subst e
    exact ⟨_, q196⟩
  | 3, q, h => by
    have e : ((RX3, TX3, 20) : vw_C) = q := Option.some.inj (show some ((RX3, TX3, 20) : vw_C) = some q from h)
    subst e
    exact ⟨_, q227⟩
  | 4, q, h => by
    have e : ((RX4, TX4, 3) : vw_C) = q := Option.some.inj (show some ((RX4, TX4, 3) : vw_C) = some q from h)
    subst e
    exact ⟨_, q236⟩
  | 5, q, h => by
    have e : ((RX5, TX5, 7) : vw_C) = q := Option.some.inj (show some ((RX5, TX5, 7) : vw_C) = some q from h)
    subst e
    exact ⟨_, q242⟩
  | 6, q, h => by
    have e : ((RX6, TX6, 6) : vw_C) = q := Option.some.inj (show some ((RX6, TX6, 6) : vw_C) = some q from h)
    subst e
    exact ⟨_, q301⟩
  | 7, q, h => by
    have e : ((RX7, TX7, 7) : vw_C) = q := Option.some.inj (show some ((RX7, TX7, 7) : vw_C) = some q from h)
    subst e
    exact ⟨_, q429⟩
  | 8, q, h => by
    have e : ((RX8, TX8, 32) : vw_C) = q := Option.some.inj (show some ((RX8, TX8, 32) : vw_C) = some q from h)
    subst e
    exact ⟨_, q1657⟩
  | 9, q, h => by
    have e : ((RX9, TX9, 3) : vw_C) = q := Option.some.inj (show some ((RX9, TX9, 3) : vw_C) = some q from h)
    subst e
    exact ⟨_, q1149⟩
  | 10, q, h => by
    have e : ((RX10, TX10, 1) : vw_C) = q := Option.some.inj (show some ((RX10, TX10, 1) : vw_C) = some q from h)
    subst e
    exact ⟨_, q1160⟩
  | 11, q, h => by
    have e : ((RX11, TX11, 2) : vw_C) = q := Option.some.inj (show some ((RX11, TX11, 2) : vw_C) = some q from h)
    subst e
    exact ⟨_, q1174⟩
  | 12, q, h => by
    have e : ((RX12, TX12, 2) : vw_C) = q := Option.some.inj (show some ((RX12, TX12, 2) : vw_C) = some q from h)
    subst e
    exact ⟨_, q1193⟩
  | 13, q, h => by
    have e : ((RX13, TX13, 1) : vw_C) = q := Option.some.inj (show some ((RX13, TX13, 1) : vw_C) = some q from h)
    subst e
    exact ⟨_, q1206⟩
  | 14, q, h => by
    have e : ((RX15, TX15, 2) : vw_C) = q := Option.some.inj (show some ((RX15, TX15, 2) : vw_C) = some q from h)
    subst e
    exact ⟨_, q1233⟩
  | 15, q, h => by
    have e : ((RX15, TX15, 2) : vw_C) = q := Option.some.inj (show some ((RX15, TX15, 2) : vw_C) = some q from h)
    subst e
    exact ⟨_, q1233⟩
  | 16, q, h => by
    have e : ((RX16, TX16, 2) : vw_C) = q := Option.some.inj (show some ((RX16, TX16, 2) : vw_C) = some q from h)
    subst e
    exact ⟨_, q1249⟩
  | 17, q, h => by
    have e : ((RX17, TX17, 2) : vw_C) = q := Option.some.inj (show some ((RX17, TX17, 2) : vw_C) = some q from h)
    subst e
    exact ⟨_, q1258⟩
  | 18, q, h => by
    have e : ((RJ7, TJ7, 0) : vw_C) = q := Option.some.inj (show some ((RJ7, TJ7, 0) : vw_C) = some q from h)
    subst e
    exact ⟨_, q1048⟩
  | n + 19, q, h => nomatch (show (none : Option vw_C) = some q from h)
theorem w_cls {args : Array Value} {s : State} (hts : ∀ w ∈ lw_all, w.before args s = true) : ∃ D : va_G, ∀ (c : Nat) (q : vw_C), clG[c]? = some q → u_Kn s q.1 q.2.1 q.2.2 (D.1 c) (D.2 c) := by
  have h : ∀ c : Nat, ∃ p : ClassId × (Nat → Nat), ∀ q : vw_C, clG[c]? = some q → u_Kn s q.1 q.2.1 q.2.2 p.1 p.2 := by
    intro c
    cases hq : clG[c]? with
    | none => exact ⟨(0, fun _ => 0), fun q h => nomatch h⟩
    | some q =>
      obtain ⟨n, hn⟩ := w_ins c q hq
      obtain ⟨C, T, N⟩ := q
      obtain ⟨cC, iS, hk⟩ := u_known hts (clG_ok hq).1 (hts _ hn)
      exact ⟨(cC, iS), fun q h => by cases h; exact hk⟩
  obtain ⟨f, hf⟩ := Classical.axiomOfChoice h
  exact ⟨(fun c => (f c).1, fun c => (f c).2), fun c q hq => hf c q hq⟩
theorem w_arc {args : Array Value} {s : State} {ty : FieldType} (h : (Cond.arrayClass ty).before args s = true) (hn : ∀ C, ty ≠ .object C) : ∃ cA : ClassId, ArrOfT s cA ty ∧ va_RA s cA ty := by
  obtain ⟨c, k, comp, h1, h2, h3⟩ := Cond.arrayClass_spec h
  refine ⟨c, fun N z => ⟨(fun k h => by cases h), k, h2, comp, h3⟩, ?_⟩
  cases ty with
  | object C => exact absurd rfl (hn C)
  | _ => exact h1
theorem w_aro {args : Array Value} {s : State} {C : String} (h : (Cond.arrayOver (.object C)).before args s = true) : ∃ cA : ClassId, ArrOfT s cA (.object C) ∧ va_RA s cA (.object C) := by
  obtain ⟨comp, c, k, h1, h2, h3, h4, h5⟩ := Cond.arrayOver_spec h
  exact ⟨c, fun N z => ⟨(fun k h => by cases h), k, h3, comp, h4⟩, ⟨k, comp, h3, h4, h1, h5⟩⟩
theorem w_arr {args : Array Value} {s : State} (hts : ∀ w ∈ lw_tbl, w.before args s = true) (hta : ∀ w ∈ lw_all, w.before args s = true) : ∃ f : Nat → ClassId, ∀ t : Nat, t ∈ [100, 101, 102, 123, 126, 134, 140] → ArrOfT s (f t) (aTy t) ∧ va_RA s (f t) (aTy t) := by
  have h : ∀ t : Nat, ∃ cA : ClassId, t ∈ [100, 101, 102, 123, 126, 134, 140] → ArrOfT s cA (aTy t) ∧ va_RA s cA (aTy t) := by
    intro t
    by_cases ht : t ∈ [100, 101, 102, 123, 126, 134, 140]
    · simp only [List.mem_cons, List.not_mem_nil, or_false] at ht
      have : ∃ cA : ClassId, ArrOfT s cA (aTy t) ∧ va_RA s cA (aTy t) := by
        rcases ht with rfl | rfl | rfl | rfl | rfl | rfl | rfl
        · exact w_arc (hta _ q284) (fun C h => nomatch h)
        · exact w_arc (hta _ q285) (fun C h => nomatch h)
        · exact w_arc (hta _ q1766) (fun C h => nomatch h)
        · exact w_aro (hts _ q543)
        · exact w_aro (hts _ q233)
        · exact w_aro (hts _ q225)
        · exact w_aro (hts _ q202)
      obtain ⟨cA, h⟩ := this
      exact ⟨cA, fun _ => h⟩
    · exact ⟨0, fun h => absurd h ht⟩
  obtain ⟨f, hf⟩ := Classical.axiomOfChoice h
  exact ⟨f, hf⟩

