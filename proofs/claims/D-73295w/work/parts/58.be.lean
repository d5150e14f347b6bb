/-! GuestView$State: be -/
theorem rdD {M : Mem} {c a sp dp n b k : Int} : mci (mD M c sp a dp n) b k = mci M b k := rfl
/-- the law's row holds lines or nothing -/
def LinO (sh : Sh) (cr : Cr) (p : Int) : Prop := ∀ k b, 0 ≤ k → k < 12 → cr (p + 2) k = some b → ∃ t : Nat, (t = 15 ∨ t = 16 ∨ t = 17) ∧ sh b = some (t, 0)
theorem LinO.any {G : GW} {M : Mem} {cr : Cr} {p k b : Int} (h : LinO (msh M) cr p) (h0 : 0 ≤ k) (h1 : k < 12) (hb : cr (p + 2) k = some b) : anyR G M "GuestView$Line" b := by
  obtain ⟨t, ht, hs⟩ := h k b h0 h1 hb
  rcases ht with rfl | rfl | rfl
  · exact any_ob rfl hs (Or.inr q2462)
  · exact any_ob rfl hs (Or.inr q2463)
  · exact any_ob rfl hs (Or.inr q2464)
theorem GuS.at {sh : Sh} {cr cr' : Cr} {q : Int} (h : GuS sh cr q) (hc : ∀ k, cr' q k = cr q k ∧ cr' (q + 1) k = cr (q + 1) k) : GuS sh cr' q := by
  obtain ⟨h0, h1, h2, h3, h4, h5, h6⟩ := h
  exact ⟨h0, h1, (hc 0).1.trans h2, h3, h4, (hc 0).2.trans h5, h6⟩
theorem LawR.move {sh sh' : Sh} {ci ci' : Ci} {cr cr' : Cr} {B T T' o p : Int} {v : Vw} (h : LawR sh ci cr B T o v) (hs : Same B T sh ci cr sh' ci' cr') (hT : T ≤ T') (hp : ci' p 10 = ci o 10) (hr : ∀ n, 0 ≤ n → n < 12 → cr' (p + 2) n = cr (o + 2) n) : LawR sh' ci' cr' B T' p v := by
  rcases h with ⟨a, b⟩ | ⟨a, b, e, f⟩
  · exact Or.inl ⟨a, hp.trans b⟩
  · refine Or.inr ⟨a, hp.trans b, e, fun n n0 n1 => ?_⟩
    obtain ⟨l, l1, l2, l3, l4⟩ := f n n0 n1
    exact ⟨l, (hr n n0 (by omega)).trans l1, l2, (hs l l4.1.1 l4.1.2).1.trans l3, l4.same hs hT⟩
section XB
variable {G : GW} {d : Nat} {M : Mem} {B T p o N : Int} {v : Vw}
theorem s_X3_be (hd : 13 ≤ d) (h : StS (msh M) (mcr M) p) (h' : StS (msh M) (mcr M) o) (hR : RelA (msh M) (mci M) (mcr M) B T o v N) (hv : okA v) (hpo : p + 44 < o ∨ o + 44 < p) (hB : p + 44 < B ∧ o + 44 < B) (hb : (mci M (p + 8) 6 = 0 ∨ mci M (p + 8) 6 = 1) ∧ (mci M (p + 11) 6 = 0 ∨ mci M (p + 11) 6 = 1)) (hl : LinO (msh M) (mcr M) o) : CS G d mX3_be [dR p, dR o] M (postN fun M1 => ∃ g, M1 = wI (mD M (o + 2) 0 (p + 2) 0 12) g ∧ RelA (msh M) g (mcr (mD M (o + 2) 0 (p + 2) 0 12)) B T p v N ∧ Fo p (p + 44) (mci M) g) := by
  have hh := h
  have hh' := h'
  obtain ⟨p0, p1, ⟨c0, c1, c2, c3, c4, c5, c6, c7⟩, ⟨t1, t2, t3, t4, t5, t6⟩, p5, p6, p7⟩ := h
  obtain ⟨o0, o1, ⟨d0, d1, d2, d3, d4, d5, d6, d7⟩, ⟨u1, u2, u3, u4, u5, u6⟩, o5, o6, o7⟩ := h'
  obtain ⟨⟨r1, r2, r3⟩, r4, r5⟩ := hR
  have hv8 := hv.1.n8
  have hv0 := hv.1.1.1
  have e8 : mci M o 8 = v 0 := r1.1
  have D : ∀ g a k, a ≠ p + 2 → mcr (mD (wI M g) (o + 2) 0 (p + 2) 0 12) a k = mcr M a k := fun g a k q => if_neg (by omega)
  have loop : ∀ (t : Nat) (k : Int) (g : Ci), (v 0 - k).toNat = t → 0 ≤ k → k ≤ v 0 → Fo (p + 13) (p + 44) (mci M) g → (∀ i, 0 ≤ i → i < k → OpBe (mci M) g (p + 13 + 4 * i) (o + 13 + 4 * i)) → WP G d mX3_be 2 [some (dR p), some (dR o), some (dI k)] [] (wI M g) (postN fun M1 => ∃ g, M1 = wI (mD M (o + 2) 0 (p + 2) 0 12) g ∧ RelA (msh M) g (mcr (mD M (o + 2) 0 (p + 2) 0 12)) B T p v N ∧ Fo p (p + 44) (mci M) g) := by
    intro t
    induction t using Nat.strongRecOn with
    | _ t ih =>
      intro k g ht hk hk2 hf hg
      have fo : ∀ b i, b < p + 13 ∨ p + 44 < b → g b i = mci M b i := fun b i q => hf b i (by omega)
      have eg8 : mci (wI M g) o 8 = v 0 := (fo _ _ (by omega)).trans e8
      by_cases hkk : k < v 0
      · have ho := hv.1.op k hk hkk
        have hro := r1.2.2.2.2.2.2.2.2.2.2.2.2.2.1 k hk hkk
        have hok : OpOk g (o + 13 + 4 * k) := by
          have := hro.ok ho
          unfold OpOk at this ⊢
          rw [fo _ _ (by omega), fo _ _ (by omega), fo _ _ (by omega), show g (o + 13 + 4 * k + 1) = mci M (o + 13 + 4 * k + 1) from funext fun i => fo _ _ (by omega), show g (o + 13 + 4 * k + 2) = mci M (o + 13 + 4 * k + 2) from funext fun i => fo _ _ (by omega)]
          exact this
        have w1 := (p7 k hk (by omega)).1
        have w3 := (p7 k hk (by omega)).2.2.1
        have w2 := (o7 k hk (by omega)).1
        refine x_iload_n dX3_be_2 rfl rfl ?_
        refine x_aload_n dX3_be_3 rfl rfl ?_
        refine g_getI (kI := 8) rfl dX3_be_4 fX3_60_3 (by assumption) ?_
        rw [eg8]
        refine x_icmp_ge (tgt := 31) dX3_be_7 (by decide) (fun h7 => ?_) (fun h7 => ?_)
        · omega
        · refine x_aload_n dX3_be_10 rfl rfl ?_
          refine g_getR (kI := 0) rfl dX3_be_11 fX3_11_3 (by assumption) (by assumption) ?_
          refine x_iload_n dX3_be_14 rfl rfl ?_
          refine x_aald (t := 126) rfl (by decide) dX3_be_15 (by assumption) (by omega) (by omega) (by assumption) ?_
          refine x_aload_n dX3_be_16 rfl rfl ?_
          refine g_getR (kI := 0) rfl dX3_be_17 fX3_11_3 (by assumption) (by assumption) ?_
          refine x_iload_n dX3_be_20 rfl rfl ?_
          refine x_aald (t := 126) rfl (by decide) dX3_be_21 (by assumption) (by omega) (by omega) (by assumption) ?_
          refine g_callN (vs := [_, _]) (d' := d - 1) rfl (s_X6_be (M := wI M g) (by omega) (p7 k hk (by omega)).2 (o7 k hk (by omega)).2 (by omega) ⟨hok.2.1, hok.2.2.1⟩) dX3_be_22 kX3_63 (by omega) (by decide) rfl (Nat.le_of_ble_eq_true rfl) (rcv_o (by assumption) rfl) (fun M22 h22 => ?_)
          obtain ⟨g1, hM22, a1, a2⟩ := h22
          first | refine x_iincN (L' := [some _, some _, some _]) dX3_be_25 rfl (by decide) (by unfold i32; omega) rfl ?_ | refine x_iinc (L' := [some _, some _, some _]) dX3_be_25 rfl (by decide) rfl ?_
          refine x_goto (tgt := 2) dX3_be_28 (by decide) ?_
          subst hM22
          refine WP.mem (M1 := wI M g1) rfl ?_
          refine ih _ (by omega) (k + 1) g1 rfl (by omega) (by omega) (fun b i q => (a2 b i (by omega)).trans (hf b i q)) (fun i i0 i1 => ?_)
          by_cases e : i = k
          · subst e
            obtain ⟨x1, x2, x3, x4, x5⟩ := a1
            refine ⟨fun j j0 j1 => ⟨(x1 j j0 j1).1.trans (fo _ _ (by omega)), (x1 j j0 j1).2.trans (fo _ _ (by omega))⟩, fun j j0 j1 => (x2 j j0 j1).trans (fo _ _ (by omega)), x3.trans (fo _ _ (by omega)), x4.trans (fo _ _ (by omega)), x5.trans (fo _ _ (by omega))⟩
          · obtain ⟨x1, x2, x3, x4, x5⟩ := hg i i0 (by omega)
            have y : ∀ b j, p + 13 + 4 * i ≤ b → b ≤ p + 13 + 4 * i + 3 → g1 b j = g b j := fun b j q1 q2 => a2 b j (by omega)
            exact ⟨fun j j0 j1 => ⟨(y _ _ (by omega) (by omega)).trans (x1 j j0 j1).1, (y _ _ (by omega) (by omega)).trans (x1 j j0 j1).2⟩, fun j j0 j1 => (y _ _ (by omega) (by omega)).trans (x2 j j0 j1), (y _ _ (by omega) (by omega)).trans x3, (y _ _ (by omega) (by omega)).trans x4, (y _ _ (by omega) (by omega)).trans x5⟩
      · have hkv : k = v 0 := by omega
        subst hkv
        have D3 := (D g p 3 (by omega)).trans c3
        have D4 := (D g p 4 (by omega)).trans c4
        have D5 := (D g p 5 (by omega)).trans c5
        have D6 := (D g p 6 (by omega)).trans c6
        have D7 := (D g p 7 (by omega)).trans c7
        have E3 := (D g o 3 (by omega)).trans d3
        have E4 := (D g o 4 (by omega)).trans d4
        have E5 := (D g o 5 (by omega)).trans d5
        have E6 := (D g o 6 (by omega)).trans d6
        have E7 := (D g o 7 (by omega)).trans d7
        have hs7 : msh M (p + 7) = some (4, 0) := p5.2.1
        have hs10 : msh M (p + 10) = some (4, 0) := p6.2.1
        have P5 : GuS (msh M) (mcr (mD (wI M g) (o + 2) 0 (p + 2) 0 12)) (p + 7) := p5.at fun k => ⟨D g _ k (by omega), D g _ k (by omega)⟩
        have P6 : GuS (msh M) (mcr (mD (wI M g) (o + 2) 0 (p + 2) 0 12)) (p + 10) := p6.at fun k => ⟨D g _ k (by omega), D g _ k (by omega)⟩
        have O5 : GuS (msh M) (mcr (mD (wI M g) (o + 2) 0 (p + 2) 0 12)) (o + 7) := o5.at fun k => ⟨D g _ k (by omega), D g _ k (by omega)⟩
        have O6 : GuS (msh M) (mcr (mD (wI M g) (o + 2) 0 (p + 2) 0 12)) (o + 10) := o6.at fun k => ⟨D g _ k (by omega), D g _ k (by omega)⟩
        refine x_iload_n dX3_be_2 rfl rfl ?_
        refine x_aload_n dX3_be_3 rfl rfl ?_
        refine g_getI (kI := 8) rfl dX3_be_4 fX3_60_3 (by assumption) ?_
        rw [eg8]
        refine x_icmp_ge (tgt := 31) dX3_be_7 (by decide) (fun h7 => ?_) (fun h7 => ?_)
        · refine x_aload_n dX3_be_31 rfl rfl ?_
          refine g_getR (kI := 1) rfl dX3_be_32 fX3_19_3 (by assumption) (by assumption) ?_
          refine x_iconst dX3_be_35 rfl ?_
          refine x_aload_n dX3_be_36 rfl rfl ?_
          refine g_getR (kI := 1) rfl dX3_be_37 fX3_19_3 (by assumption) (by assumption) ?_
          refine x_iconst dX3_be_40 rfl ?_
          refine x_bipush dX3_be_41 rfl ?_
          refine x_copyR (t := 134) (by decide) rfl kX3_67 (by omega) dX3_be_43 (by assumption) (by omega) (by assumption) (by omega) (by omega) (by omega) (by omega) (by omega) (Nat.le_of_ble_eq_true rfl) (fun k b h0 h1 hb => LinO.any (M := wI M g) hl (by omega) (by omega) hb) ?_
          refine x_aload_n dX3_be_46 rfl rfl ?_
          refine g_getR (kI := 3) rfl dX3_be_47 fX3_27_3 (by assumption) (by assumption) ?_
          refine x_iconst dX3_be_50 rfl ?_
          refine x_aload_n dX3_be_51 rfl rfl ?_
          refine g_getR (kI := 3) rfl dX3_be_52 fX3_27_3 (by assumption) (by assumption) ?_
          refine x_iconst dX3_be_55 rfl ?_
          refine x_sipush dX3_be_56 rfl ?_
          refine x_copyI kX3_67 (by omega) dX3_be_59 (by assumption) (by omega) (by assumption) (by omega) (by omega) (by omega) (by omega) (by omega) (Nat.le_of_ble_eq_true rfl) ?_
          refine x_aload_n dX3_be_62 rfl rfl ?_
          refine g_getR (kI := 4) rfl dX3_be_63 fX3_30_3 (by assumption) (by assumption) ?_
          refine x_iconst dX3_be_66 rfl ?_
          refine x_aload_n dX3_be_67 rfl rfl ?_
          refine g_getR (kI := 4) rfl dX3_be_68 fX3_30_3 (by assumption) (by assumption) ?_
          refine x_iconst dX3_be_71 rfl ?_
          refine x_bipush dX3_be_72 rfl ?_
          refine x_copyI kX3_67 (by omega) dX3_be_74 (by assumption) (by omega) (by assumption) (by omega) (by omega) (by omega) (by omega) (by omega) (Nat.le_of_ble_eq_true rfl) ?_
          refine x_aload_n dX3_be_77 rfl rfl ?_
          refine g_getR (kI := 5) rfl dX3_be_78 fX3_33_3 (by assumption) (by assumption) ?_
          refine x_iconst dX3_be_81 rfl ?_
          refine x_aload_n dX3_be_82 rfl rfl ?_
          refine g_getR (kI := 5) rfl dX3_be_83 fX3_33_3 (by assumption) (by assumption) ?_
          refine x_iconst dX3_be_86 rfl ?_
          refine x_bipush dX3_be_87 rfl ?_
          refine x_copyI kX3_67 (by omega) dX3_be_89 (by assumption) (by omega) (by assumption) (by omega) (by omega) (by omega) (by omega) (by omega) (Nat.le_of_ble_eq_true rfl) ?_
          refine x_aload_n dX3_be_92 rfl rfl ?_
          refine g_getR (kI := 6) rfl dX3_be_93 fX3_39_3 (by assumption) (by assumption) ?_
          refine x_aload_n dX3_be_96 rfl rfl ?_
          refine g_getR (kI := 6) rfl dX3_be_97 fX3_39_3 (by assumption) (by assumption) ?_
          refine g_callN (vs := [_, _]) (d' := d - 1) rfl (s_X4_be (by omega) P5 O5 (by omega)) dX3_be_100 kX3_73 (by omega) (by decide) rfl (Nat.le_of_ble_eq_true rfl) (rcv_o (by assumption) rfl) (fun M100 h100 => ?_)
          obtain ⟨g1, hM100, a1, a2⟩ := h100
          subst hM100
          refine x_aload_n dX3_be_103 rfl rfl ?_
          refine g_getR (kI := 7) rfl dX3_be_104 fX3_43_3 (by assumption) (by assumption) ?_
          refine x_aload_n dX3_be_107 rfl rfl ?_
          refine g_getR (kI := 7) rfl dX3_be_108 fX3_43_3 (by assumption) (by assumption) ?_
          refine g_callN (vs := [_, _]) (d' := d - 1) rfl (s_X4_be (by omega) P6 O6 (by omega)) dX3_be_111 kX3_73 (by omega) (by decide) rfl (Nat.le_of_ble_eq_true rfl) (rcv_o (by assumption) rfl) (fun M111 h111 => ?_)
          obtain ⟨g2, hM111, b1, b2⟩ := h111
          subst hM111
          refine WP.mem (M1 := wI (mD M (o + 2) 0 (p + 2) 0 12) g2) rfl ?_
          have X0 : ∀ b k, ¬ (p + 4 ≤ b ∧ b ≤ p + 6) → mci (mC (mC (mC (mD (wI M g) (o + 2) 0 (p + 2) 0 12) (o + 4) 0 (p + 4) 0 240) (o + 5) 0 (p + 5) 0 10) (o + 6) 0 (p + 6) 0 8) b k = g b k := fun b k q => by simp (disch := omega) only [rdC_i, rdC_o, rdD, rdW]
          have X4 : ∀ k, 0 ≤ k → k < 240 → mci (mC (mC (mC (mD (wI M g) (o + 2) 0 (p + 2) 0 12) (o + 4) 0 (p + 4) 0 240) (o + 5) 0 (p + 5) 0 10) (o + 6) 0 (p + 6) 0 8) (p + 4) k = mci M (o + 4) k := fun k k0 k1 => by
            simp (disch := omega) only [rdC_i, rdC_o, rdD, rdW]
            rw [show 0 + (k - 0) = k by omega]
            exact fo _ _ (by omega)
          have X5 : ∀ k, 0 ≤ k → k < 10 → mci (mC (mC (mC (mD (wI M g) (o + 2) 0 (p + 2) 0 12) (o + 4) 0 (p + 4) 0 240) (o + 5) 0 (p + 5) 0 10) (o + 6) 0 (p + 6) 0 8) (p + 5) k = mci M (o + 5) k := fun k k0 k1 => by
            simp (disch := omega) only [rdC_i, rdC_o, rdD, rdW]
            rw [show 0 + (k - 0) = k by omega]
            exact fo _ _ (by omega)
          have X6 : ∀ k, 0 ≤ k → k < 8 → mci (mC (mC (mC (mD (wI M g) (o + 2) 0 (p + 2) 0 12) (o + 4) 0 (p + 4) 0 240) (o + 5) 0 (p + 5) 0 10) (o + 6) 0 (p + 6) 0 8) (p + 6) k = mci M (o + 6) k := fun k k0 k1 => by
            simp (disch := omega) only [rdC_i, rdC_o, rdD, rdW]
            rw [show 0 + (k - 0) = k by omega]
            exact fo _ _ (by omega)
          have FX : Fo p (p + 44) (mci M) (mci (mC (mC (mC (mD (wI M g) (o + 2) 0 (p + 2) 0 12) (o + 4) 0 (p + 4) 0 240) (o + 5) 0 (p + 5) 0 10) (o + 6) 0 (p + 6) 0 8)) := fun b k q => (X0 b k (by omega)).trans (fo b k (by omega))
          have G7 := a1 v 0 0 (r4.fo FX (by omega)) (by rw [X0 _ _ (by omega), fo _ _ (by omega), show p + 7 + 1 = p + 8 by omega]; exact hb.1)
          have F1 : Fo p (p + 44) (mci M) g1 := fun b k q => (a2 b k (by omega)).trans (FX b k q)
          have G10 := b1 v (v 5) 1 (r5.fo F1 (by omega)) (by rw [mci_wI, a2 _ _ (by omega), X0 _ _ (by omega), fo _ _ (by omega), show p + 10 + 1 = p + 11 by omega]; exact hb.2)
          have G7' := G7.fo b2 (by omega)
          have F2 : Fo p (p + 44) (mci M) g2 := fun b k q => (b2 b k (by omega)).trans (F1 b k q)
          have Y : ∀ b k, ¬ (p + 7 ≤ b ∧ b ≤ p + 12) → g2 b k = mci (mC (mC (mC (mD (wI M g) (o + 2) 0 (p + 2) 0 12) (o + 4) 0 (p + 4) 0 240) (o + 5) 0 (p + 5) 0 10) (o + 6) 0 (p + 6) 0 8) b k := fun b k q => (b2 b k (by omega)).trans (a2 b k (by omega))
          have z : ∀ k, g2 o k = mci M o k := fun k => F2 _ _ (by omega)
          refine x_aload_n dX3_be_114 rfl rfl ?_
          refine x_aload_n dX3_be_115 rfl rfl ?_
          refine g_getI (kI := 8) rfl dX3_be_116 fX3_60_3 (by assumption) ?_
          refine g_putI (kI := 8) rfl dX3_be_119 fX3_60_3 (by assumption) ?_
          refine x_aload_n dX3_be_122 rfl rfl ?_
          refine x_aload_n dX3_be_123 rfl rfl ?_
          refine g_getI (kI := 9) rfl dX3_be_124 fX3_76_3 (by assumption) ?_
          refine g_putI (kI := 9) rfl dX3_be_127 fX3_76_3 (by assumption) ?_
          refine x_aload_n dX3_be_130 rfl rfl ?_
          refine x_aload_n dX3_be_131 rfl rfl ?_
          refine g_getI (kI := 10) rfl dX3_be_132 fX3_46_3 (by assumption) ?_
          refine g_putI (kI := 10) rfl dX3_be_135 fX3_46_3 (by assumption) ?_
          refine x_aload_n dX3_be_138 rfl rfl ?_
          refine x_aload_n dX3_be_139 rfl rfl ?_
          refine g_getI (kI := 11) rfl dX3_be_140 fX3_79_3 (by assumption) ?_
          refine g_putI (kI := 11) rfl dX3_be_143 fX3_79_3 (by assumption) ?_
          refine x_aload_n dX3_be_146 rfl rfl ?_
          refine x_aload_n dX3_be_147 rfl rfl ?_
          refine g_getI (kI := 12) rfl dX3_be_148 fX3_82_3 (by assumption) ?_
          refine g_putI (kI := 12) rfl dX3_be_151 fX3_82_3 (by assumption) ?_
          refine x_aload_n dX3_be_154 rfl rfl ?_
          refine x_aload_n dX3_be_155 rfl rfl ?_
          refine g_getI (kI := 13) rfl dX3_be_156 fX3_50_3 (by assumption) ?_
          refine g_putI (kI := 13) rfl dX3_be_159 fX3_50_3 (by assumption) ?_
          refine x_aload_n dX3_be_162 rfl rfl ?_
          refine x_aload_n dX3_be_163 rfl rfl ?_
          refine g_getI (kI := 14) rfl dX3_be_164 fX3_53_3 (by assumption) ?_
          refine g_putI (kI := 14) rfl dX3_be_167 fX3_53_3 (by assumption) ?_
          refine x_aload_n dX3_be_170 rfl rfl ?_
          refine x_aload_n dX3_be_171 rfl rfl ?_
          refine g_getI (kI := 15) rfl dX3_be_172 fX3_85_3 (by assumption) ?_
          refine g_putI (kI := 15) rfl dX3_be_175 fX3_85_3 (by assumption) ?_
          refine x_aload_n dX3_be_178 rfl rfl ?_
          refine x_aload_n dX3_be_179 rfl rfl ?_
          refine g_getI (kI := 16) rfl dX3_be_180 fX3_88_3 (by assumption) ?_
          refine g_putI (kI := 16) rfl dX3_be_183 fX3_88_3 (by assumption) ?_
          refine x_aload_n dX3_be_186 rfl rfl ?_
          refine x_aload_n dX3_be_187 rfl rfl ?_
          refine g_getI (kI := 17) rfl dX3_be_188 fX3_91_3 (by assumption) ?_
          refine g_putI (kI := 17) rfl dX3_be_191 fX3_91_3 (by assumption) ?_
          refine x_aload_n dX3_be_194 rfl rfl ?_
          refine x_aload_n dX3_be_195 rfl rfl ?_
          refine g_getI (kI := 18) rfl dX3_be_196 fX3_56_3 (by assumption) ?_
          refine g_putI (kI := 18) rfl dX3_be_199 fX3_56_3 (by assumption) ?_
          refine x_aload_n dX3_be_202 rfl rfl ?_
          refine x_aload_n dX3_be_203 rfl rfl ?_
          refine g_getI (kI := 19) rfl dX3_be_204 fX3_94_3 (by assumption) ?_
          refine g_putI (kI := 19) rfl dX3_be_207 fX3_94_3 (by assumption) ?_
          refine x_vreturn rfl dX3_be_210 ?_
          refine ⟨rfl, exI (M := mD M (o + 2) 0 (p + 2) 0 12) rfl ⟨⟨⟨?_, ?_, ?_⟩, ?_, ?_⟩, ?_⟩⟩
          · obtain ⟨h1, h2, h3, h4, h5, h6, h7', h8, h9, h10, h11, h12, h13, h14, h15⟩ := r1
            refine ⟨?_, ?_, ?_, ?_, ?_, ?_, ?_, ?_, ?_, ?_, ?_, fun k a b => ?_, fun k a b => ?_, fun k a b => ?_, fun ago j a b c e => ?_⟩
            · simp (disch := omega) only [rdI_e, rdI_n, rdC_i, rdC_o, rdW, rdR, rdU_e, rdU_n]; rw [z]; exact h1
            · simp (disch := omega) only [rdI_e, rdI_n, rdC_i, rdC_o, rdW, rdR, rdU_e, rdU_n]; rw [z]; exact h2
            · simp (disch := omega) only [rdI_e, rdI_n, rdC_i, rdC_o, rdW, rdR, rdU_e, rdU_n]; rw [z]; exact h3
            · simp (disch := omega) only [rdI_e, rdI_n, rdC_i, rdC_o, rdW, rdR, rdU_e, rdU_n]; rw [z]; exact h4
            · simp (disch := omega) only [rdI_e, rdI_n, rdC_i, rdC_o, rdW, rdR, rdU_e, rdU_n]; rw [z]; exact h5
            · simp (disch := omega) only [rdI_e, rdI_n, rdC_i, rdC_o, rdW, rdR, rdU_e, rdU_n]; rw [z]; exact h6
            · simp (disch := omega) only [rdI_e, rdI_n, rdC_i, rdC_o, rdW, rdR, rdU_e, rdU_n]; rw [z]; exact h7'
            · simp (disch := omega) only [rdI_e, rdI_n, rdC_i, rdC_o, rdW, rdR, rdU_e, rdU_n]; rw [z]; exact h8
            · simp (disch := omega) only [rdI_e, rdI_n, rdC_i, rdC_o, rdW, rdR, rdU_e, rdU_n]; rw [z]; exact h9
            · simp (disch := omega) only [rdI_e, rdI_n, rdC_i, rdC_o, rdW, rdR, rdU_e, rdU_n]; rw [z]; exact h10
            · simp (disch := omega) only [rdI_e, rdI_n, rdC_i, rdC_o, rdW, rdR, rdU_e, rdU_n]; rw [z]; exact h11
            · simp (disch := omega) only [rdI_e, rdI_n, rdC_i, rdC_o, rdW, rdR, rdU_e, rdU_n]; rw [Y _ _ (by omega), X5 k a b]; exact h12 k a b
            · simp (disch := omega) only [rdI_e, rdI_n, rdC_i, rdC_o, rdW, rdR, rdU_e, rdU_n]; rw [Y _ _ (by omega), X6 k a b]; exact h13 k a b
            · obtain ⟨k1, k2, k3, k4⟩ := h14 k a b
              have c3 := (hv.1.op k a b).1
              obtain ⟨x1, x2, x3, x4, x5⟩ := hg k a b
              have yy : ∀ b j, p + 13 ≤ b → b ≤ p + 44 → g2 b j = g b j := fun b j q1 q2 => (Y b j (by omega)).trans (X0 b j (by omega))
              refine ⟨?_, ?_, ?_, fun i i0 i1 => ?_⟩
              · simp (disch := omega) only [rdI_e, rdI_n, rdC_i, rdC_o, rdW, rdR, rdU_e, rdU_n]; rw [yy _ _ (by omega) (by omega), x3]; exact k1
              · simp (disch := omega) only [rdI_e, rdI_n, rdC_i, rdC_o, rdW, rdR, rdU_e, rdU_n]; rw [yy _ _ (by omega) (by omega), x4]; exact k2
              · simp (disch := omega) only [rdI_e, rdI_n, rdC_i, rdC_o, rdW, rdR, rdU_e, rdU_n]; rw [yy _ _ (by omega) (by omega), x5]; exact k3
              · simp (disch := omega) only [rdI_e, rdI_n, rdC_i, rdC_o, rdW, rdR, rdU_e, rdU_n]; rw [yy _ _ (by omega) (by omega), yy _ _ (by omega) (by omega), (x1 i i0 (by omega)).1, (x1 i i0 (by omega)).2]; exact k4 i i0 i1
            · simp (disch := omega) only [rdI_e, rdI_n, rdC_i, rdC_o, rdW, rdR, rdU_e, rdU_n]; rw [z, Y _ _ (by omega), X4 _ (by omega) (by omega)]; exact h15 ago j a b c e
          · intro k w a b c e
            have yy : ∀ b j, p + 13 ≤ b → b ≤ p + 44 → g2 b j = g b j := fun b j q1 q2 => (Y b j (by omega)).trans (X0 b j (by omega))
            simp (disch := omega) only [rdI_e, rdI_n, rdC_i, rdC_o, rdW, rdR, rdU_e, rdU_n]; rw [yy _ _ (by omega) (by omega), (hg k a b).2.1 w c e]; exact r2 k w a b c e
          · refine r3.move (fun a a1 a2 => ⟨rfl, fun k => ?_, fun k => if_neg (by omega)⟩) (Int.le_refl T) ?_ (fun n n0 n1 => ?_)
            · simp (disch := omega) only [rdI_e, rdI_n, rdC_i, rdC_o, rdW, rdR, rdU_e, rdU_n]; exact F2 _ _ (by omega)
            · simp (disch := omega) only [rdI_e, rdI_n, rdC_i, rdC_o, rdW, rdR, rdU_e, rdU_n]; exact z 10
            · refine (if_pos ⟨rfl, by omega, by omega⟩).trans ?_
              rw [show 0 + (n - 0) = n by omega]
          · exact G7'.fo (lo := p) (hi := p) (fun b k q => by simp (disch := omega) only [rdI_e, rdI_n, rdC_i, rdC_o, rdW, rdR, rdU_e, rdU_n]) (by omega)
          · exact G10.fo (lo := p) (hi := p) (fun b k q => by simp (disch := omega) only [rdI_e, rdI_n, rdC_i, rdC_o, rdW, rdR, rdU_e, rdU_n]) (by omega)
          · intro b k q
            have := F2 b k q
            simp (disch := omega) only [rdI_e, rdI_n, rdC_i, rdC_o, rdW, rdR, rdU_e, rdU_n]
            exact this
        · omega
  refine CS.mk (by decide) (Nat.le_of_ble_eq_true rfl) ?_
  refine x_iconst dX3_be_0 rfl ?_
  refine x_istore_n (L' := [some _, some _, some _]) dX3_be_1 rfl (by decide) rfl ?_
  exact loop _ 0 (mci M) rfl (by omega) (by omega) Fo.rfl (fun i a b => by omega)
end XB

