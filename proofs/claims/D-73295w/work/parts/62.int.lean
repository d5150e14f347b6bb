/-! java.lang.Integer: how many bits, the lowest one -/
section J13
variable {G : GW} {d : Nat} {M : Mem} {a : Int}
theorem s_bitCount (hd : 10 ≤ d) (ha : 0 ≤ a ∧ a < 256) : CS G d mJ13_bitCount [dI a] M (pur M (bc0 a)) := by
  refine CS.mkFQ (by decide +kernel) rfl (Nat.le_of_ble_eq_true rfl) fun Q hQ => ?_
  refine x_iload_n dJ13_bitCount_0 rfl rfl ?_
  refine x_iload_n dJ13_bitCount_1 rfl rfl ?_
  refine x_iconst dJ13_bitCount_2 rfl ?_
  refine x_iushr dJ13_bitCount_3 ?_
  refine x_ldcw (z := 1431655765) dJ13_bitCount_4 q838 (by decide) ?_
  refine x_iand dJ13_bitCount_7 ?_
  refine x_isub dJ13_bitCount_8 ?_
  refine x_istore_n (L' := [some _]) dJ13_bitCount_9 rfl (by decide) rfl ?_
  refine x_iload_n dJ13_bitCount_10 rfl rfl ?_
  refine x_ldcw (z := 858993459) dJ13_bitCount_11 q839 (by decide) ?_
  refine x_iand dJ13_bitCount_14 ?_
  refine x_iload_n dJ13_bitCount_15 rfl rfl ?_
  refine x_iconst dJ13_bitCount_16 rfl ?_
  refine x_iushr dJ13_bitCount_17 ?_
  refine x_ldcw (z := 858993459) dJ13_bitCount_18 q839 (by decide) ?_
  refine x_iand dJ13_bitCount_21 ?_
  refine x_iadd dJ13_bitCount_22 ?_
  refine x_istore_n (L' := [some _]) dJ13_bitCount_23 rfl (by decide) rfl ?_
  refine x_iload_n dJ13_bitCount_24 rfl rfl ?_
  refine x_iload_n dJ13_bitCount_25 rfl rfl ?_
  refine x_iconst dJ13_bitCount_26 rfl ?_
  refine x_iushr dJ13_bitCount_27 ?_
  refine x_iadd dJ13_bitCount_28 ?_
  refine x_ldcw (z := 252645135) dJ13_bitCount_29 q840 (by decide) ?_
  refine x_iand dJ13_bitCount_32 ?_
  refine x_istore_n (L' := [some _]) dJ13_bitCount_33 rfl (by decide) rfl ?_
  refine x_iload_n dJ13_bitCount_34 rfl rfl ?_
  refine x_iload_n dJ13_bitCount_35 rfl rfl ?_
  refine x_bipush dJ13_bitCount_36 rfl ?_
  refine x_iushr dJ13_bitCount_38 ?_
  refine x_iadd dJ13_bitCount_39 ?_
  refine x_istore_n (L' := [some _]) dJ13_bitCount_40 rfl (by decide) rfl ?_
  refine x_iload_n dJ13_bitCount_41 rfl rfl ?_
  refine x_iload_n dJ13_bitCount_42 rfl rfl ?_
  refine x_bipush dJ13_bitCount_43 rfl ?_
  refine x_iushr dJ13_bitCount_45 ?_
  refine x_iadd dJ13_bitCount_46 ?_
  refine x_istore_n (L' := [some _]) dJ13_bitCount_47 rfl (by decide) rfl ?_
  refine x_iload_n dJ13_bitCount_48 rfl rfl ?_
  refine x_bipush dJ13_bitCount_49 rfl ?_
  refine x_iand dJ13_bitCount_51 ?_
  refine x_ireturn rfl dJ13_bitCount_52 ?_
  exact hQ _ _ ⟨_, rfl, bcE_e ha, rfl⟩
theorem s_ntz (hd : 10 ≤ d) (ha : 0 ≤ a ∧ a < 256) : CS G d mJ13_numberOfTrailingZeros [dI a] M (pur M (lo0 a)) := by
  have hr := mk_r ha
  refine CS.mkFQ (by decide +kernel) rfl (Nat.le_of_ble_eq_true rfl) fun Q hQ => ?_
  refine x_iload_n dJ13_numberOfTrailingZeros_0 rfl rfl ?_
  refine x_iconst dJ13_numberOfTrailingZeros_1 rfl ?_
  refine x_ixor dJ13_numberOfTrailingZeros_2 ?_
  refine x_iload_n dJ13_numberOfTrailingZeros_3 rfl rfl ?_
  refine x_iconst dJ13_numberOfTrailingZeros_4 rfl ?_
  first | refine x_isubN dJ13_numberOfTrailingZeros_5 (by unfold i32; omega) ?_ | refine x_isub dJ13_numberOfTrailingZeros_5 ?_
  refine x_iand dJ13_numberOfTrailingZeros_6 ?_
  rw [mk_e ha]
  refine x_istore_n (L' := [some _, none]) dJ13_numberOfTrailingZeros_7 rfl (by decide) rfl ?_
  refine x_iload_n dJ13_numberOfTrailingZeros_8 rfl rfl ?_
  refine x_if_gt (tgt := 17) dJ13_numberOfTrailingZeros_9 (by decide) (fun h9 => ?_) (fun h9 => ?_)
  · refine x_iconst dJ13_numberOfTrailingZeros_17 rfl ?_
    refine x_istore_n (L' := [some _, some _]) dJ13_numberOfTrailingZeros_18 rfl (by decide) rfl ?_
    refine x_iload_n dJ13_numberOfTrailingZeros_19 rfl rfl ?_
    refine x_ldcw (z := 65536) dJ13_numberOfTrailingZeros_20 q1567 (by decide) ?_
    refine x_icmp_le (tgt := 34) dJ13_numberOfTrailingZeros_23 (by decide) (fun h23 => ?_) (fun h23 => ?_)
    · refine x_iload_n dJ13_numberOfTrailingZeros_34 rfl rfl ?_
      refine x_sipush dJ13_numberOfTrailingZeros_35 rfl ?_
      refine x_icmp_le (tgt := 49) dJ13_numberOfTrailingZeros_38 (by decide) (fun h38 => ?_) (fun h38 => ?_)
      · refine x_iload_n dJ13_numberOfTrailingZeros_49 rfl rfl ?_
        refine x_bipush dJ13_numberOfTrailingZeros_50 rfl ?_
        refine x_icmp_le (tgt := 62) dJ13_numberOfTrailingZeros_52 (by decide) (fun h52 => ?_) (fun h52 => ?_)
        · refine x_iload_n dJ13_numberOfTrailingZeros_62 rfl rfl ?_
          refine x_iconst dJ13_numberOfTrailingZeros_63 rfl ?_
          refine x_icmp_le (tgt := 74) dJ13_numberOfTrailingZeros_64 (by decide) (fun h64 => ?_) (fun h64 => ?_)
          · refine x_iload_n dJ13_numberOfTrailingZeros_74 rfl rfl ?_
            refine x_iload_n dJ13_numberOfTrailingZeros_75 rfl rfl ?_
            refine x_iconst dJ13_numberOfTrailingZeros_76 rfl ?_
            refine x_iushr dJ13_numberOfTrailingZeros_77 ?_
            rw [jus1 (by omega)]
            first | refine x_iaddN dJ13_numberOfTrailingZeros_78 (by unfold i32; omega) ?_ | refine x_iadd dJ13_numberOfTrailingZeros_78 ?_
            refine x_ireturn rfl dJ13_numberOfTrailingZeros_79 ?_
            exact hQ _ _ ⟨_, rfl, by omega, rfl⟩
          · first | refine x_iincN (L' := [some _, some _]) dJ13_numberOfTrailingZeros_67 rfl (by decide) (by unfold i32; omega) rfl ?_ | refine x_iinc (L' := [some _, some _]) dJ13_numberOfTrailingZeros_67 rfl (by decide) rfl ?_
            refine x_iload_n dJ13_numberOfTrailingZeros_70 rfl rfl ?_
            refine x_iconst dJ13_numberOfTrailingZeros_71 rfl ?_
            refine x_iushr dJ13_numberOfTrailingZeros_72 ?_
            rw [jus2 (by omega)]
            refine x_istore_n (L' := [some _, some _]) dJ13_numberOfTrailingZeros_73 rfl (by decide) rfl ?_
            refine x_iload_n dJ13_numberOfTrailingZeros_74 rfl rfl ?_
            refine x_iload_n dJ13_numberOfTrailingZeros_75 rfl rfl ?_
            refine x_iconst dJ13_numberOfTrailingZeros_76 rfl ?_
            refine x_iushr dJ13_numberOfTrailingZeros_77 ?_
            rw [jus1 (by omega)]
            first | refine x_iaddN dJ13_numberOfTrailingZeros_78 (by unfold i32; omega) ?_ | refine x_iadd dJ13_numberOfTrailingZeros_78 ?_
            refine x_ireturn rfl dJ13_numberOfTrailingZeros_79 ?_
            exact hQ _ _ ⟨_, rfl, by omega, rfl⟩
        · first | refine x_iincN (L' := [some _, some _]) dJ13_numberOfTrailingZeros_55 rfl (by decide) (by unfold i32; omega) rfl ?_ | refine x_iinc (L' := [some _, some _]) dJ13_numberOfTrailingZeros_55 rfl (by decide) rfl ?_
          refine x_iload_n dJ13_numberOfTrailingZeros_58 rfl rfl ?_
          refine x_iconst dJ13_numberOfTrailingZeros_59 rfl ?_
          refine x_iushr dJ13_numberOfTrailingZeros_60 ?_
          rw [jus4 (by omega)]
          refine x_istore_n (L' := [some _, some _]) dJ13_numberOfTrailingZeros_61 rfl (by decide) rfl ?_
          refine x_iload_n dJ13_numberOfTrailingZeros_62 rfl rfl ?_
          refine x_iconst dJ13_numberOfTrailingZeros_63 rfl ?_
          refine x_icmp_le (tgt := 74) dJ13_numberOfTrailingZeros_64 (by decide) (fun h64 => ?_) (fun h64 => ?_)
          · refine x_iload_n dJ13_numberOfTrailingZeros_74 rfl rfl ?_
            refine x_iload_n dJ13_numberOfTrailingZeros_75 rfl rfl ?_
            refine x_iconst dJ13_numberOfTrailingZeros_76 rfl ?_
            refine x_iushr dJ13_numberOfTrailingZeros_77 ?_
            rw [jus1 (by omega)]
            first | refine x_iaddN dJ13_numberOfTrailingZeros_78 (by unfold i32; omega) ?_ | refine x_iadd dJ13_numberOfTrailingZeros_78 ?_
            refine x_ireturn rfl dJ13_numberOfTrailingZeros_79 ?_
            exact hQ _ _ ⟨_, rfl, by omega, rfl⟩
          · first | refine x_iincN (L' := [some _, some _]) dJ13_numberOfTrailingZeros_67 rfl (by decide) (by unfold i32; omega) rfl ?_ | refine x_iinc (L' := [some _, some _]) dJ13_numberOfTrailingZeros_67 rfl (by decide) rfl ?_
            refine x_iload_n dJ13_numberOfTrailingZeros_70 rfl rfl ?_
            refine x_iconst dJ13_numberOfTrailingZeros_71 rfl ?_
            refine x_iushr dJ13_numberOfTrailingZeros_72 ?_
            rw [jus2 (by omega)]
            refine x_istore_n (L' := [some _, some _]) dJ13_numberOfTrailingZeros_73 rfl (by decide) rfl ?_
            refine x_iload_n dJ13_numberOfTrailingZeros_74 rfl rfl ?_
            refine x_iload_n dJ13_numberOfTrailingZeros_75 rfl rfl ?_
            refine x_iconst dJ13_numberOfTrailingZeros_76 rfl ?_
            refine x_iushr dJ13_numberOfTrailingZeros_77 ?_
            rw [jus1 (by omega)]
            first | refine x_iaddN dJ13_numberOfTrailingZeros_78 (by unfold i32; omega) ?_ | refine x_iadd dJ13_numberOfTrailingZeros_78 ?_
            refine x_ireturn rfl dJ13_numberOfTrailingZeros_79 ?_
            exact hQ _ _ ⟨_, rfl, by omega, rfl⟩
      · omega
    · omega
  · refine x_iload_n dJ13_numberOfTrailingZeros_12 rfl rfl ?_
    refine x_bipush dJ13_numberOfTrailingZeros_13 rfl ?_
    refine x_iand dJ13_numberOfTrailingZeros_15 ?_
    refine x_ireturn rfl dJ13_numberOfTrailingZeros_16 ?_
    have h1 : jand (mk0 a) 32 = lo0 a := by
      rcases hr with ⟨e1, e2⟩ | ⟨e1, e2⟩ | q
      · rw [e1, e2]; decide
      · rw [e1, e2]; decide
      · exact absurd h9 (by omega)
    exact hQ _ _ ⟨_, rfl, h1, rfl⟩
end J13

