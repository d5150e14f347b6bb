/-! The start: the old cells -/
def oldA2 (G : GW) (a : Int) (t : Nat) (n : Int) (U : State) : Prop := ∃ (q : Nat) (cell : Cell), gO G a = .ref q ∧ q < gB G ∧ (gH G)[q]? = some cell ∧ U.isArrayOf cell (aTy t) ∧ cell.vm ≠ .unknown ∧ (n.toNat ≤ cell.slots.size ∧ cell.slots.size.toInt32 = Int32.ofNat n.toNat) ∧ ∀ j : Nat, j < n.toNat → cell.slots[j]? = some (match t with
  | 100 => .int (Int32.ofInt (gci G a j))
  | 101 => .int (Int32.ofInt (gci G a j))
  | _ => tv G (dO (gcr G a j)))
def oldOk2 (G : GW) (U : State) : Prop := (∀ a : Int, a < 0 → gO G a = .null ∨ ∃ q : Nat, gO G a = .ref q) ∧
  ∀ (a : Int) (t : Nat) (n : Int), a < 0 → gsh G a = some (t, n) → 0 ≤ n ∧ n < 2147483648 ∧ (t = 99 → oldS G a U) ∧ (t ≠ 99 → 100 ≤ t ∧ t ≠ 102 ∧ oldA2 G a t n U)
/-! The start: the old cells -/
section WL
variable {args : Array Value} {s : State} {l : Launch} {D : va_G} {fA : Nat → ClassId} {K V : Nat → Nat} {qT b L : Nat} {vF vU vS : Value} {xs : Nat → Int32}
theorem oldA_T {G : GW} {a : Int} {t q N : Nat} {ty : FieldType} {f : Nat → Value} {A : Nat → Prop} (ht : t = 100 ∨ t = 101) (hT : va_T ty q N f A s s.heap) (hty : aTy t = ty) (hO : gO G a = .ref q) (hH : gH G = s.heap) (hf : ∀ j : Nat, j < N → f j = .int (Int32.ofInt (gci G a j))) : oldA2 G a t (N : Int) s := by
  obtain ⟨cell, h1, h2, h3, h4, h5, h6, -⟩ := hT
  have hq : q < gB G := by
    unfold gB
    rw [hH]
    exact (Array.getElem?_eq_some_iff.mp h1).1
  rcases ht with rfl | rfl
  · refine ⟨q, cell, hO, hq, by rw [hH]; exact h1, by rw [hty]; exact h2, h3, ⟨by rw [Int.toNat_natCast]; exact h4, by rw [Int.toNat_natCast]; exact h5⟩, fun j hj => ?_⟩
    rw [Int.toNat_natCast] at hj
    exact (h6 j hj).trans (congrArg some (hf j hj))
  · refine ⟨q, cell, hO, hq, by rw [hH]; exact h1, by rw [hty]; exact h2, h3, ⟨by rw [Int.toNat_natCast]; exact h4, by rw [Int.toNat_natCast]; exact h5⟩, fun j hj => ?_⟩
    rw [Int.toNat_natCast] at hj
    exact (h6 j hj).trans (congrArg some (hf j hj))
theorem wd_old (hT : va_T .int qT 128 (fun j => .int (Int32.ofInt (tabF j))) (fun q => s.heap.size ≤ q) s s.heap) (hX : va_X b L xs s s.heap) (hL : L ≤ 384)
    (hK : ∀ i : Nat, i < 34 → va_O "java/lang/String" (K i) (fun q => s.heap.size ≤ q) s s.heap ∧ va_OF "java/lang/String" "coder" "B" (.int 0) (K i) (fun q => s.heap.size ≤ q) s s.heap ∧ va_OF "java/lang/String" "value" "[B" (.ref (V i)) (K i) (fun q => s.heap.size ≤ q) s s.heap ∧ va_T .byte (V i) (txB i).length (fun j => .int (Int32.ofInt ((txB i).getD j 0))) (fun q => s.heap.size ≤ q) s s.heap)
    (hF : vF = .null ∨ ∃ q : Nat, vF = .ref q) (hU : vU = .null ∨ ∃ q : Nat, vU = .ref q) (hS : vS = .null ∨ ∃ q : Nat, vS = .ref q) : oldOk2 (mkG l s D fA K V qT b L vF vU vS xs) s := by
  refine ⟨fun a _ => ?_, fun a t n ha h => ?_⟩
  · show oRef K V qT b vF vU vS a = .null ∨ ∃ q : Nat, oRef K V qT b vF vU vS a = .ref q
    unfold oRef
    split
    · exact Or.inr ⟨_, rfl⟩
    split
    · exact hF
    split
    · exact hU
    split
    · exact hS
    split
    · exact Or.inr ⟨_, rfl⟩
    split
    · split
      · exact Or.inr ⟨_, rfl⟩
      · exact Or.inr ⟨_, rfl⟩
    · exact Or.inl rfl
  · have h' : oSh L a = some (t, n) := h
    unfold oSh at h'
    split at h'
    · rename_i e
      subst e
      cases h'
      refine ⟨by omega, by omega, fun q => absurd q (by omega), fun _ => ⟨by omega, by omega, oldA_T (Or.inl rfl) hT rfl rfl rfl fun j hj => ?_⟩⟩
      show Value.int _ = .int (Int32.ofInt (tabF ((j : Int)).toNat))
      rw [Int.toNat_natCast]
    split at h'
    · rename_i e
      subst e
      cases h'
      refine ⟨by omega, by omega, fun q => absurd q (by omega), fun _ => ⟨by omega, by omega, ?_⟩⟩
      obtain ⟨scr, h1, h2, h3, h4, h5⟩ := hX
      refine ⟨b, scr, rfl, (Array.getElem?_eq_some_iff.mp h1).1, h1, h2, h3, ⟨by rw [Int.toNat_natCast, h4]; exact Nat.le_refl _, by rw [Int.toNat_natCast, h4]⟩, fun j hj => ?_⟩
      rw [Int.toNat_natCast] at hj
      rw [h5 j hj]
      show some (Value.int (xs j)) = some (.int (Int32.ofInt (xs ((j : Int)).toNat).toInt))
      rw [Int.toNat_natCast, Int32.ofInt_toInt]
    split at h'
    · rename_i hr
      split at h'
      · rename_i e2
        cases h'
        refine ⟨by omega, by omega, fun _ => ?_, fun q => absurd rfl q⟩
        obtain ⟨i, hi, rfl⟩ : ∃ i : Nat, i < 34 ∧ a = -(10 + 2 * (i : Int)) := ⟨((-a - 10) / 2).toNat, by omega, by omega⟩
        obtain ⟨k1, k2, k3, -⟩ := hK i hi
        obtain ⟨cell, c1, c2, c3, c4⟩ := id k1
        have er : oCr (-(10 + 2 * (i : Int))) 0 = some (-(11 + 2 * (i : Int))) := by
          unfold oCr
          rw [if_pos (by omega), show (-(10 + 2 * (i : Int)) - 1 : Int) = -(11 + 2 * (i : Int)) by omega]
        have ei : oCi xs (-(10 + 2 * (i : Int))) 1 = 0 := by
          unfold oCi
          rw [if_neg (by omega), if_neg (by omega), if_neg (by omega)]
        refine ⟨K i, oRef_K hi, (Array.getElem?_eq_some_iff.mp c1).1, ⟨cell, c1, c2, c3⟩, ?_, ?_⟩
        · have ev : tv (mkG l s D fA K V qT b L vF vU vS xs) (dO (gcr (mkG l s D fA K V qT b L vF vU vS xs) (-(10 + 2 * (i : Int))) 0)) = .ref (V i) := by
            show tv (mkG l s D fA K V qT b L vF vU vS xs) (dO (oCr (-(10 + 2 * (i : Int))) 0)) = .ref (V i)
            rw [er]
            show adv (mkG l s D fA K V qT b L vF vU vS xs) (-(11 + 2 * (i : Int))) = .ref (V i)
            unfold adv
            rw [if_neg (by omega)]
            exact oRef_V hi
          rw [ev]
          exact k3
        · show va_OF _ _ _ (.int (Int32.ofInt (oCi xs (-(10 + 2 * (i : Int))) 1))) _ _ _ _
          rw [ei]
          exact k2
      · rename_i e2
        obtain ⟨i, hi, rfl⟩ : ∃ i : Nat, i < 34 ∧ a = -(11 + 2 * (i : Int)) := ⟨((-a - 11) / 2).toNat, by omega, by omega⟩
        rw [show ((-(-(11 + 2 * (i : Int))) - 11) / 2).toNat = i by omega] at h'
        cases h'
        have hl := nm_tl i hi
        refine ⟨by omega, by omega, fun q => absurd q (by omega), fun _ => ⟨by omega, by omega, oldA_T (Or.inr rfl) (hK i hi).2.2.2 rfl (oRef_V hi) rfl fun j hj => ?_⟩⟩
        have ei : oCi xs (-(11 + 2 * (i : Int))) (j : Int) = (txB i).getD j 0 := by
          unfold oCi
          rw [if_neg (by omega), if_neg (by omega), if_pos (by omega), show ((-(-(11 + 2 * (i : Int))) - 11) / 2).toNat = i by omega, Int.toNat_natCast]
        show Value.int _ = .int (Int32.ofInt (oCi xs (-(11 + 2 * (i : Int))) (j : Int)))
        rw [ei]
    · cases h'
end WL

