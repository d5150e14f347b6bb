/-! STRINGS: the constants, their length, their letters -/
theorem va_ldcSw {p : Program} {l : Launch} {e : Env} {R : Room} {s : State} {m : MethodId} {args : Array Value} {below : List Frame} {meth : Method} {c : Code} {H : Heap} {locs : List Loc} {cells slots : Nat} {Q : State → Prop} {cc : ByteArray} {pc : Nat} {ls : Array Slot} {rest : List Value} (hexec : p.tables.exec = Jvm.exec) (hb : c.code = cc) {own tx : String} {index q : Nat} (hown : s.vm.findClass own = some m.cls) (hZ : vk_R own index tx q s) (hdg : decode cc pc = .ok (.ldc_w index, 3))
    (k : W p l e R s m args below meth c H locs cells slots Q (F0 m (pc + 3) ls (.ref q :: rest))) : W p l e R s m args below meth c H locs cells slots Q (F0 m pc ls rest) := by
  intro T hT X
  obtain ⟨t, a1, b1⟩ := k T hT X
  refine ⟨t, ?_, b1⟩
  obtain ⟨k, cf, i, a', hk, hcf, hcp, -, hr, hev'⟩ := Cond.stringRef_spec hown hZ.1
  cases hZ.2.symm.trans hev'
  obtain ⟨k', hk', he⟩ := X.warmed.alike.2.2 _ _ hk
  have hr' : k'.resolved[index]? = some (some (.string q)) := by
    rcases X.warmed.entry hk hk' index with h | ⟨h, -⟩
    · rw [h]; exact hr
    · rw [hr] at h; cases h
  have hdg' : decode c.code (F0 m pc ls rest).pc = .ok (.ldc_w index, 3) := by rw [hb]; exact hdg
  jvm_step X.here [hexec, hdg', ldc_w.wp_string (e := e) (s := T) (f := F0 m pc ls rest) X.here.top hk' (by rw [he]; exact hcf) hcp hr']
  exact a1
section ST
variable {G : GW} {d : Nat} {j : MI} {pc : Nat} {L : LV} {S : List DV} {M : Mem} {Q : Res → Mem → Prop}
theorem x_ldcsw {i : Nat} {tx : String} {a : Int} (hd : decode j.2.1 pc = .ok (.ldc_w i, 3)) (hq : (j.1.cls, i, tx, a) ∈ strTab) (k : WP G d j (pc + 3) L (dR a :: S) M Q) : WP G d j pc L S M Q := by
  refine WP.of (Sx.st fun p e R s m args below meth c H locs cells slots ls Q F hR hl hS => ⟨okS_cons (show okV (dR a) from trivial) hS, fun w => ?_⟩) k
  obtain ⟨q, h1, h2⟩ := F.W.2.2.2.2.2.2.1 _ _ _ _ hq
  rw [List.map_cons, adv_old (str_neg _ hq) h1] at w
  exact va_ldcSw F.1 F.2.1 F.own h2 hd w
theorem i2c_0 : ∀ k : Fin 128, ((Int32.ofInt (k.val : Int)).toUInt32 % 65536).toInt32 = Int32.ofInt (k.val : Int) := by decide +kernel
theorem i2c_e {x : Int} (h : 0 ≤ x ∧ x < 128) : ((Int32.ofInt x).toUInt32 % 65536).toInt32 = Int32.ofInt x := by
  have e := i2c_0 ⟨x.toNat, by omega⟩
  have e3 : ((x.toNat : Nat) : Int) = x := by omega
  simp only [e3] at e
  exact e
theorem x_i2c {x : Int} (h : 0 ≤ x ∧ x < 128) (hd : decode j.2.1 pc = .ok (.i2c, 1)) (k : WP G d j (pc + 1) L (dI x :: S) M Q) : WP G d j pc L (dI x :: S) M Q := WP.of (Sx.st fun p e R s m args below meth c H locs cells slots ls Q F hR hl hS => ⟨okS_cons (okI (by unfold i32; omega)) (okS_tail hS), fun w => lv_i2c F.1 F.2.1 hd (i2c_e h) w⟩) k
theorem narC {x : Int} (h : 0 ≤ x ∧ x < 128) : narrow FieldType.char (.int (Int32.ofInt x)) = .int (Int32.ofInt x) := congrArg Value.int (i2c_e h)
end ST
/-- the text at a is of these letters -/
def TxO (sh : Sh) (ci : Ci) (cr : Cr) (a : Int) (bs : List Int) : Prop := (a < 0 ∧ (bs.length : Int) ≤ 16) ∧ sh a = some (99, 0) ∧ cr a 0 = some (a - 1) ∧ ci a 1 = 0 ∧ sh (a - 1) = some (101, (bs.length : Int)) ∧ ∀ k : Int, 0 ≤ k → k < (bs.length : Int) → ci (a - 1) k = bs.getD k.toNat 0 ∧ 0 ≤ ci (a - 1) k ∧ ci (a - 1) k < 128
/-- all texts are there -/
def TxS (M : Mem) : Prop := ∀ i : Nat, i < 34 → TxO (msh M) (mci M) (mcr M) (-(10 + 2 * (i : Int))) (txB i)
theorem TxS.of {M M1 : Mem} (h : TxS M) (hs : ∀ a, a < 0 → msh M1 a = msh M a) (hc : ∀ a k, a < 0 → mci M1 a k = mci M a k) (hr : ∀ a k, a < 0 → mcr M1 a k = mcr M a k) : TxS M1 := fun i hi => by
  obtain ⟨h1, h2, h3, h4, h5, h6⟩ := h i hi
  refine ⟨h1, (hs _ h1.1).trans h2, (hr _ _ h1.1).trans h3, (hc _ _ h1.1).trans h4, (hs _ (by omega)).trans h5, fun k a b => ?_⟩
  rw [hc _ _ (by omega)]
  exact h6 k a b
section J3
variable {G : GW} {d : Nat} {M : Mem} {a k n : Int} {bs : List Int}
theorem s_J3_coder (hd : 10 ≤ d) (h : TxO (msh M) (mci M) (mcr M) a bs) : CS G d mJ3_coder [dR a] M (pur M 0) := by
  obtain ⟨h1, h2, h3, h4, h5, h6⟩ := id h
  refine CS.mkFQ (by decide +kernel) rfl (Nat.le_of_ble_eq_true rfl) fun Q hQ => ?_
  refine x_gets (v := dI 1) (List.mem_of_getElem? (i := 1) rfl) (by first | exact trivial | (show i32 1; unfold i32; omega)) (Or.inl q953) dJ3_coder_0 ?_
  refine x_if_eq (tgt := 13) dJ3_coder_3 (by decide) (fun h3' => ?_) (fun h3' => ?_)
  · omega
  · refine x_aload_n dJ3_coder_6 rfl rfl ?_
    refine x_getSc (by omega) (by first | assumption | exact h.2.1) q2466 dJ3_coder_7 ?_
    refine x_goto (tgt := 14) dJ3_coder_10 (by decide) ?_
    refine x_iret rfl (by rw [h4]; rfl) dJ3_coder_14 ?_
    exact hQ _ _ ⟨_, rfl, h4, rfl⟩
theorem s_J3_isLatin1 (hd : 10 ≤ d) (h : TxO (msh M) (mci M) (mcr M) a bs) : CS G d mJ3_isLatin1 [dR a] M (pur M 1) := by
  obtain ⟨h1, h2, h3, h4, h5, h6⟩ := id h
  refine CS.mkFQ (by decide +kernel) rfl (Nat.le_of_ble_eq_true rfl) fun Q hQ => ?_
  refine x_gets (v := dI 1) (List.mem_of_getElem? (i := 1) rfl) (by first | exact trivial | (show i32 1; unfold i32; omega)) (Or.inl q953) dJ3_isLatin1_0 ?_
  refine x_if_eq (tgt := 17) dJ3_isLatin1_3 (by decide) (fun h3' => ?_) (fun h3' => ?_)
  · omega
  · refine x_aload_n dJ3_isLatin1_6 rfl rfl ?_
    refine x_getSc (by omega) (by first | assumption | exact h.2.1) q2466 dJ3_isLatin1_7 ?_
    refine x_if_ne (tgt := 17) dJ3_isLatin1_10 (by decide) (fun h10 => ?_) (fun h10 => ?_)
    · omega
    · refine x_iconst dJ3_isLatin1_13 rfl ?_
      refine x_goto (tgt := 18) dJ3_isLatin1_14 (by decide) ?_
      refine x_zreturn (by first | exact Or.inl rfl | exact Or.inr rfl | exact vB_r _ | exact vP_r _ | assumption | omega) rfl dJ3_isLatin1_18 ?_
      exact hQ _ _ ⟨_, rfl, rfl, rfl⟩
theorem s_J3_length (hd : 12 ≤ d) (h : TxO (msh M) (mci M) (mcr M) a bs) : CS G d mJ3_length [dR a] M (pur M (bs.length : Int)) := by
  obtain ⟨h1, h2, h3, h4, h5, h6⟩ := id h
  refine CS.mkFQ (by decide +kernel) rfl (Nat.le_of_ble_eq_true rfl) fun Q hQ => ?_
  refine x_aload_n dJ3_length_0 rfl rfl ?_
  refine x_getSv (by omega) (by first | assumption | exact h.2.1) (by first | assumption | exact h.2.1) q2465 dJ3_length_1 ?_
  refine x_alen rfl dJ3_length_4 (by first | assumption | exact h.2.1) ?_
  refine x_aload_n dJ3_length_5 rfl rfl ?_
  refine g_callI (vs := [_]) (d' := d - 1) rfl (s_J3_coder (by omega) h) dJ3_length_6 kJ3_335 (by omega) (by decide) rfl (Nat.le_of_ble_eq_true rfl) (rcv_s (by omega) (by first | assumption | exact h.2.1)) (fun x6 M6 h6 => ?_)
  obtain ⟨e6, f6⟩ := h6
  have f6' := f6.symm
  subst f6'
  subst e6
  refine x_ishr dJ3_length_9 ?_
  refine x_ireturn rfl dJ3_length_10 ?_
  refine hQ _ _ ⟨_, rfl, ?_, rfl⟩
  exact (jshr_k (by unfold i32; omega) 0 (by omega)).trans (by show (bs.length : Int) / 1 = _; omega)
theorem s_J5_checkIndex {f : Int} (hd : 10 ≤ d) (h : 0 ≤ k ∧ k < n) : CS G d mJ5_checkIndex [dI k, dI n, dR f] M (pur M k) := by
  refine CS.mkFQ (by decide +kernel) rfl (Nat.le_of_ble_eq_true rfl) fun Q hQ => ?_
  refine x_iload_n dJ5_checkIndex_0 rfl rfl ?_
  refine x_if_lt (tgt := 9) dJ5_checkIndex_1 (by decide) (fun b1 => ?_) (fun b1 => ?_)
  · omega
  · refine x_iload_n dJ5_checkIndex_4 rfl rfl ?_
    refine x_iload_n dJ5_checkIndex_5 rfl rfl ?_
    refine x_icmp_lt (tgt := 16) dJ5_checkIndex_6 (by decide) (fun b6 => ?_) (fun b6 => ?_)
    · refine x_iload_n dJ5_checkIndex_16 rfl rfl ?_
      refine x_ireturn rfl dJ5_checkIndex_17 ?_
      exact hQ _ _ ⟨_, rfl, rfl, rfl⟩
    · omega
theorem s_J3_checkIndex (hd : 12 ≤ d) (h : 0 ≤ k ∧ k < n) : CS G d mJ3_checkIndex [dI k, dI n] M (postN fun M1 => M1 = M) := by
  refine CS.mkFQ (by decide +kernel) rfl (Nat.le_of_ble_eq_true rfl) fun Q hQ => ?_
  refine x_iload_n dJ3_checkIndex_0 rfl rfl ?_
  refine x_iload_n dJ3_checkIndex_1 rfl rfl ?_
  refine x_gets (v := dR (-2)) (List.mem_of_getElem? (i := 2) rfl) (by first | exact trivial | (show i32 1; unfold i32; omega)) (Or.inl q969) dJ3_checkIndex_2 ?_
  refine g_callI (vs := [_, _, _]) (d' := d - 1) rfl (s_J5_checkIndex (by omega) (by omega)) dJ3_checkIndex_5 kJ3_1059 (by omega) (by decide) rfl (Nat.le_of_ble_eq_true rfl) (rcv_n) (fun x5 M5 h5 => ?_)
  obtain ⟨e5, f5⟩ := h5
  have f5' := f5.symm
  subst f5'
  subst e5
  refine x_pop dJ3_checkIndex_8 rfl ?_
  refine x_vreturn rfl dJ3_checkIndex_9 ?_
  exact hQ _ _ ⟨rfl, rfl⟩
theorem s_J4_charAt (hd : 14 ≤ d) (h : TxO (msh M) (mci M) (mcr M) a bs) (hk : 0 ≤ k ∧ k < (bs.length : Int)) : CS G d mJ4_charAt [dR (a - 1), dI k] M (pur M (bs.getD k.toNat 0)) := by
  obtain ⟨h1, h2, h3, h4, h5, h6⟩ := id h
  have h7 := h6 k hk.1 hk.2
  have e : jand (mci M (a - 1) k) 255 = mci M (a - 1) k := by
    rw [jand_lo (y := 255) 8 (by omega) rfl]
    show mci M (a - 1) k % 256 = _
    omega
  refine CS.mkFQ (by decide +kernel) rfl (Nat.le_of_ble_eq_true rfl) fun Q hQ => ?_
  refine x_iload_n dJ4_charAt_0 rfl rfl ?_
  refine x_aload_n dJ4_charAt_1 rfl rfl ?_
  refine x_alen rfl dJ4_charAt_2 (by first | assumption | exact h.2.1) ?_
  refine g_callN (vs := [_, _]) (d' := d - 1) rfl (s_J3_checkIndex (by omega) (by omega)) dJ4_charAt_3 kJ4_9 (by omega) (by decide) rfl (Nat.le_of_ble_eq_true rfl) (rcv_n) (fun M3 h3 => ?_)
  have f3 := h3.symm
  subst f3
  refine x_aload_n dJ4_charAt_6 rfl rfl ?_
  refine x_iload_n dJ4_charAt_7 rfl rfl ?_
  refine x_bald dJ4_charAt_8 (by first | assumption | exact h.2.1) (by omega) (by omega) ?_
  refine x_sipush dJ4_charAt_9 rfl ?_
  refine x_iand dJ4_charAt_12 ?_
  rw [e]
  refine x_i2c (by omega) dJ4_charAt_13 ?_
  refine x_iret rfl (by exact narC (by omega)) dJ4_charAt_14 ?_
  exact hQ _ _ ⟨_, rfl, h7.1, rfl⟩
theorem s_J3_charAt (hd : 16 ≤ d) (h : TxO (msh M) (mci M) (mcr M) a bs) (hk : 0 ≤ k ∧ k < (bs.length : Int)) : CS G d mJ3_charAt [dR a, dI k] M (pur M (bs.getD k.toNat 0)) := by
  obtain ⟨h1, h2, h3, h4, h5, h6⟩ := id h
  have h7 := h6 k hk.1 hk.2
  refine CS.mkFQ (by decide +kernel) rfl (Nat.le_of_ble_eq_true rfl) fun Q hQ => ?_
  refine x_aload_n dJ3_charAt_0 rfl rfl ?_
  refine g_callI (vs := [_]) (d' := d - 1) rfl (s_J3_isLatin1 (by omega) h) dJ3_charAt_1 kJ3_492 (by omega) (by decide) rfl (Nat.le_of_ble_eq_true rfl) (rcv_s (by omega) (by first | assumption | exact h.2.1)) (fun x1 M1 h1 => ?_)
  obtain ⟨e1, f1⟩ := h1
  have f1' := f1.symm
  subst f1'
  subst e1
  refine x_if_eq (tgt := 16) dJ3_charAt_4 (by decide) (fun b4 => ?_) (fun b4 => ?_)
  · try simp only [vP_0, vP_1, vP_n0, vP_n1, Classical.not_not] at b4
    omega
  · try simp only [vP_0, vP_1, vP_n0, vP_n1, Classical.not_not] at b4
    refine x_aload_n dJ3_charAt_7 rfl rfl ?_
    refine x_getSv (by omega) (by first | assumption | exact h.2.1) (by first | assumption | exact h.2.1) q2465 dJ3_charAt_8 ?_
    refine x_iload_n dJ3_charAt_11 rfl rfl ?_
    refine g_callI (vs := [_, _]) (d' := d - 1) rfl (s_J4_charAt (by omega) h hk) dJ3_charAt_12 kJ3_495 (by omega) (by decide) rfl (Nat.le_of_ble_eq_true rfl) (rcv_n) (fun x12 M12 h12 => ?_)
    obtain ⟨e12, f12⟩ := h12
    have f12' := f12.symm
    subst f12'
    subst e12
    refine x_iret rfl (by first | exact narC (by omega) | exact narC (by rw [← h7.1]; omega)) dJ3_charAt_15 ?_
    exact hQ _ _ ⟨_, rfl, rfl, rfl⟩
end J3

