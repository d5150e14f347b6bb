/-! GuestView$State: a tick -/
theorem RelG.eqv {f : Ci} {q s i : Int} {v v' : Vw} (h : RelG f q s v i) (he : ∀ k, guA i ≤ k → k < guA i + 13 → v' k = v k) : RelG f q s v' i := by
  obtain ⟨h1, h2, h3, h4, h5, h6, h7, h8⟩ := h
  exact ⟨h1.trans (he _ (by omega) (by omega)).symm, h2, h3, h4.trans (he _ (by omega) (by omega)).symm, h5.trans (he _ (by omega) (by omega)).symm, h6.trans (he _ (by omega) (by omega)).symm, h7.trans (he _ (by omega) (by omega)).symm, fun k a b => (h8 k a b).trans (he _ (by omega) (by omega)).symm⟩
theorem RelB.sc {f : Ci} {p N c i x : Int} {v : Vw} (h : RelB f p v N) (hv : okB v) (hc : c = 16 ∧ i = 8 ∨ c = 17 ∧ i = 9 ∨ c = 18 ∧ i = 11) : RelB (up f p c x) p (us v i x) N := by
  have hv8 := hv.n8
  have hv10 := hv.l60
  obtain ⟨h1, h2, h3, h4, h5, h6, h7, h8, h9, h10, h11, h12, h13, h14, h15⟩ := h
  have e : ∀ k, ¬ k = i → us v i x k = v k := fun k q => us_n q
  have eu : ∀ b k, ¬ (b = p ∧ k = c) → up f p c x b k = f b k := fun b k q => rdU_n q
  refine ⟨by rw [e 0 (by omega), eu _ _ (by omega)]; exact h1, by rw [e 3 (by omega), eu _ _ (by omega)]; exact h2, by rw [e 1 (by omega), eu _ _ (by omega)]; exact h3, by rw [e 4 (by omega), eu _ _ (by omega)]; exact h4, by rw [e 5 (by omega), eu _ _ (by omega)]; exact h5, by rw [e 6 (by omega), eu _ _ (by omega)]; exact h6, by rw [e 7 (by omega), eu _ _ (by omega)]; exact h7, ?_, ?_, ?_, by rw [e 10 (by omega), eu _ _ (by omega)]; exact h11, fun k a b => ?_, fun k a b => ?_, fun k a b => ?_, fun ago j a b c' d' => ?_⟩
  · by_cases q : c = 16
    · rw [rdU_e (by omega), us_e (by omega)]
    · rw [rdU_n (by omega), us_n (by omega)]; exact h8
  · by_cases q : c = 17
    · rw [rdU_e (by omega), us_e (by omega)]
    · rw [rdU_n (by omega), us_n (by omega)]; exact h9
  · by_cases q : c = 18
    · rw [rdU_e (by omega), us_e (by omega)]
    · rw [rdU_n (by omega), us_n (by omega)]; exact h10
  · rw [e _ (by omega), eu _ _ (by omega)]; exact h12 k a b
  · rw [e _ (by omega), eu _ _ (by omega)]; exact h13 k a b
  · rw [e 0 (by omega)] at b
    obtain ⟨k1, k2, k3, k4⟩ := h14 k a b
    have c3 := (hv.op k a b).1
    have eN : opN (us v i x) k = opN v k := e _ (by omega)
    refine ⟨?_, ?_, ?_, fun j c1 c2 => ?_⟩
    · rw [eN, eu _ _ (by omega)]; exact k1
    · rw [show opG (us v i x) k = opG v k from e _ (by omega), eu _ _ (by omega)]; exact k2
    · rw [show opP (us v i x) k = opP v k from e _ (by omega), eu _ _ (by omega)]; exact k3
    · rw [eN] at c2
      rw [show opK (us v i x) k j = opK v k j from e _ (by omega), show opX (us v i x) k j = opX v k j from e _ (by omega), eu _ _ (by omega), eu _ _ (by omega)]
      exact k4 j c1 c2
  · rw [e 10 (by omega)] at b
    rw [e _ (by omega), eu p 19 (by omega), eu _ _ (by omega)]
    exact h15 ago j a b c' d'
def RelA (sh : Sh) (f : Ci) (cr : Cr) (B T p : Int) (v : Vw) (N : Int) : Prop := RelS sh f cr B T p v N ∧ RelG f (p + 7) 0 v 0 ∧ RelG f (p + 10) (v 5) v 1
theorem eqM_us {v : Vw} {i x : Int} (hi : 8 ≤ i ∧ i < 12) : eqM v (us v i x) := fun k a b c => us_n (by omega)
/-- one number of the state and of the bench is another one -/
theorem RelA.sc {sh : Sh} {f : Ci} {cr : Cr} {B T p N c i x : Int} {v : Vw} (h : RelA sh f cr B T p v N) (hv : okB v) (hc : c = 16 ∧ i = 8 ∨ c = 17 ∧ i = 9 ∨ c = 18 ∧ i = 11) (hB : p + 44 < B) : RelA sh (up f p c x) cr B T p (us v i x) N := by
  obtain ⟨⟨h1, h2, h3⟩, h4, h5⟩ := h
  have hm : eqM v (us v i x) := eqM_us (by omega)
  have h8 := hv.n8
  refine ⟨⟨h1.sc hv hc, ?_, ?_⟩, ?_, ?_⟩
  · refine RelW.eqM (fun k w a b c' d' => ?_) hv hm
    rw [rdU_n (by omega)]
    exact h2 k w a b c' d'
  · refine (h3.same (fun a a1 a2 => ⟨rfl, fun k => rdU_n (by omega), fun k => rfl⟩) (Int.le_refl T) (rdU_n (by omega)) fun n => rfl).eqM hm
  · exact (RelG.eqv h4 fun k a b => us_n (by unfold guA at a; omega)).fo (lo := p) (hi := p) (fun b k r => rdU_n (by omega)) (by omega)
  · rw [us_n (by omega)]
    exact (RelG.eqv h5 fun k a b => us_n (by unfold guA at a; omega)).fo (lo := p) (hi := p) (fun b k r => rdU_n (by omega)) (by omega)
theorem okA.us {v : Vw} {i x : Int} (h : okA v) (hi : i = 8 ∧ 0 ≤ x ∧ x ≤ 9999 ∨ i = 9 ∧ 0 ≤ x ∧ x ≤ 9999 ∨ i = 11) : okA (us v i x) :=
  ⟨us_okB h.1 (by omega), h.2.1.eqv fun k a b => us_n (by unfold guA at a; omega), h.2.2.eqv fun k a b => us_n (by unfold guA at a; omega)⟩
theorem okA.tell {v : Vw} {op what pc : Int} (h : okA v) : okA (tellV v op what pc) :=
  ⟨h.1.tell, h.2.1.eqv fun k a b => tellV_o (by unfold guA at a; omega) (by unfold guA at b; omega), h.2.2.eqv fun k a b => tellV_o (by unfold guA at a; omega) (by unfold guA at b; omega)⟩
/-- a row more, in state and bench -/
theorem RelA.tell {sh : Sh} {f g : Ci} {cr : Cr} {B T p N op what pc : Int} {v : Vw} (h : RelA sh f cr B T p v N) (hv : okB v) (hB : p + 44 < B) (h1 : RelB g p (tellV v op what pc) (N + 1)) (h2 : ∀ k, k ≠ 19 → g p k = f p k) (h3 : ∀ b k, b ≠ p → b ≠ p + 4 → g b k = f b k) : RelA sh g cr B T p (tellV v op what pc) (N + 1) := by
  obtain ⟨⟨-, r2, r3⟩, r4, r5⟩ := h
  have hm : eqM v (tellV v op what pc) := eqM_tell
  have h8 := hv.n8
  refine ⟨⟨h1, ?_, ?_⟩, ?_, ?_⟩
  · refine RelW.eqM (fun k w a b c' d' => ?_) hv hm
    rw [h3 _ _ (by omega) (by omega)]
    exact r2 k w a b c' d'
  · refine (r3.same (fun a a1 a2 => ⟨rfl, fun k => h3 _ _ (by omega) (by omega), fun k => rfl⟩) (Int.le_refl T) (h2 _ (by omega)) fun n => rfl).eqM hm
  · exact (RelG.eqv r4 fun k a b => tellV_o (by unfold guA at a; omega) (by unfold guA at b; omega)).fo (lo := p) (hi := p + 4) (fun b k r => h3 b k (by omega) (by omega)) (by omega)
  · rw [tellV_o (by omega) (by omega)]
    exact (RelG.eqv r5 fun k a b => tellV_o (by unfold guA at a; omega) (by unfold guA at b; omega)).fo (lo := p) (hi := p + 4) (fun b k r => h3 b k (by omega) (by omega)) (by omega)
section XT
variable {G : GW} {d : Nat} {M : Mem} {B T p N : Int} {v : Vw}
/-- the end of a tick -/
theorem passes_tail {dr pcv op what N1 : Int} {g : Ci} {w : Vw} (hd : 12 ≤ d) (h : StS (msh M) (mcr M) p) (hR : RelA (msh M) g (mcr M) B T p w N1) (hw : okA w) (hN : N1 ≤ 1000000000) (hB : p + 44 < B) (h8 : w 8 = v 8) (hf : Fo p (p + 12) (mci M) g) (hpc : pcv = v (guA 1)) : WP G d mX3_passes 121 [some (dR p), some (dI dr), some (dI (vP (likeG v))), some (dI pcv), some (dI op), some (dI what)] [] (wI M g) (postI fun x M1 => x = vP (what ≤ 1) ∧ ∃ g, M1 = wI M g ∧ RelA (msh M) g (mcr M) B T p (afterV v w op) (N1 + 1) ∧ okA (afterV v w op) ∧ Fo p (p + 12) (mci M) g) := by
  have hh := h
  obtain ⟨p0, p1, ⟨c0, c1, c2, c3, c4, c5, c6, c7⟩, ⟨t1, t2, t3, t4, t5, t6⟩, p5, p6, p7⟩ := h
  have t8 := hw.1.2.2.2.2.2.2.2.2.1
  have hs7 : msh M (p + 7) = some (4, 0) := p5.2.1
  have hs10 : msh M (p + 10) = some (4, 0) := p6.2.1
  have hv5 := hw.1.2.2.2.2.2.1
  -- the tick's number
  have fin : ∀ (g' : Ci) (u : Vw), RelA (msh M) g' (mcr M) B T p u (N1 + 1) → okA u → u 8 = v 8 → Fo p (p + 12) (mci M) g' → us u 8 (if v 8 + 1 < 9999 then v 8 + 1 else 9999) = afterV v w op → WP G d mX3_passes 147 [some (dR p), some (dI dr), some (dI (vP (likeG v))), some (dI pcv), some (dI op), some (dI what)] [] (wI M g') (postI fun x M1 => x = vP (what ≤ 1) ∧ ∃ g, M1 = wI M g ∧ RelA (msh M) g (mcr M) B T p (afterV v w op) (N1 + 1) ∧ okA (afterV v w op) ∧ Fo p (p + 12) (mci M) g) := by
    intro g' u hR' hu hu8 hf' he
    have e16 : mci (wI M g') p 16 = v 8 := hR'.1.1.2.2.2.2.2.2.2.1.trans hu8
    refine x_aload_n dX3_passes_147 rfl rfl ?_
    refine x_sipush dX3_passes_148 rfl ?_
    refine x_aload_n dX3_passes_151 rfl rfl ?_
    refine g_getI (kI := 16) rfl dX3_passes_152 fX3_88_3 (by assumption) ?_
    rw [e16]
    refine x_iconst dX3_passes_155 rfl ?_
    first | refine x_iaddN dX3_passes_156 (by unfold i32; omega) ?_ | refine x_iadd dX3_passes_156 ?_
    refine g_callI (vs := [_, _]) (d' := d - 1) rfl (s_min (by omega)) dX3_passes_157 kX3_130 (by omega) (by decide) rfl (Nat.le_of_ble_eq_true rfl) (rcv_n) (fun x157 M157 h157 => ?_)
    obtain ⟨e157, f157⟩ := h157
    have f157' := f157.symm
    subst f157'
    refine g_putI (kI := 16) rfl dX3_passes_160 fX3_88_3 (by assumption) ?_
    refine x_iload dX3_passes_163 rfl ?_
    refine x_iconst dX3_passes_165 rfl ?_
    refine x_icmp_gt (tgt := 173) dX3_passes_166 (by decide) (fun h166 => ?_) (fun h166 => ?_)
    · refine x_iconst dX3_passes_173 rfl ?_
      refine x_zreturn (by first | exact Or.inl rfl | exact Or.inr rfl | exact vB_r _ | assumption | omega) rfl dX3_passes_174 ?_
      have ex : x157 = (if v 8 + 1 < 9999 then v 8 + 1 else 9999) := by split <;> omega
      refine ⟨_, rfl, ?_, up g' p 16 x157, rfl, ?_, ?_, ?_⟩
      · first | exact (vP_t (by omega)).symm | exact (vP_f (by omega)).symm
      · rw [← he, ← ex]
        exact hR'.sc hu.1 (Or.inl ⟨rfl, rfl⟩) hB
      · rw [← he, ← ex]
        exact hu.us (by omega)
      · intro b k r
        have := hf' b k r
        simp (disch := omega) only [rdI_e, rdI_n, rdC_i, rdC_o, rdW, rdR, rdU_e, rdU_n]
        exact this
    · refine x_iconst dX3_passes_169 rfl ?_
      refine x_goto (tgt := 174) dX3_passes_170 (by decide) ?_
      refine x_zreturn (by first | exact Or.inl rfl | exact Or.inr rfl | exact vB_r _ | assumption | omega) rfl dX3_passes_174 ?_
      have ex : x157 = (if v 8 + 1 < 9999 then v 8 + 1 else 9999) := by split <;> omega
      refine ⟨_, rfl, ?_, up g' p 16 x157, rfl, ?_, ?_, ?_⟩
      · first | exact (vP_t (by omega)).symm | exact (vP_f (by omega)).symm
      · rw [← he, ← ex]
        exact hR'.sc hu.1 (Or.inl ⟨rfl, rfl⟩) hB
      · rw [← he, ← ex]
        exact hu.us (by omega)
      · intro b k r
        have := hf' b k r
        simp (disch := omega) only [rdI_e, rdI_n, rdC_i, rdC_o, rdW, rdR, rdU_e, rdU_n]
        exact this
  have hR1 : RelA (msh M) g (mcr M) B T p w (N1 + 1) := ⟨⟨⟨hR.1.1.1, hR.1.1.2.1, hR.1.1.2.2.1, hR.1.1.2.2.2.1, hR.1.1.2.2.2.2.1, hR.1.1.2.2.2.2.2.1, hR.1.1.2.2.2.2.2.2.1, hR.1.1.2.2.2.2.2.2.2.1, hR.1.1.2.2.2.2.2.2.2.2.1, hR.1.1.2.2.2.2.2.2.2.2.2.1, by have := hR.1.1.2.2.2.2.2.2.2.2.2.2.1; omega, hR.1.1.2.2.2.2.2.2.2.2.2.2.2⟩, hR.1.2⟩, hR.2⟩
  by_cases hl : likeG v ∧ ¬ likeG w
  · refine x_iload_n dX3_passes_121 rfl rfl ?_
    refine x_if_eq (tgt := 147) dX3_passes_122 (by decide) (fun h122 => ?_) (fun h122 => ?_)
    · exact absurd (h122.symm.trans (vP_t hl.1)) (by decide)
    · refine x_aload_n dX3_passes_125 rfl rfl ?_
      refine g_getR (kI := 6) rfl dX3_passes_126 fX3_39_3 (by assumption) (by assumption) ?_
      refine x_aload_n dX3_passes_129 rfl rfl ?_
      refine g_getR (kI := 7) rfl dX3_passes_130 fX3_43_3 (by assumption) (by assumption) ?_
      refine g_callI (vs := [_, _]) (d' := d - 1) rfl (s_X4_isLike (M := wI M g) (v := w) (s := w 5) (by omega) p5 p6 hR.2.1 hR.2.2 (by omega)) dX3_passes_133 kX3_189 (by omega) (by decide) rfl (Nat.le_of_ble_eq_true rfl) (rcv_o (by assumption) rfl) (fun x133 M133 h133 => ?_)
      obtain ⟨e133, f133⟩ := h133
      have f133' := f133.symm
      subst f133'
      rw [vP_f hl.2] at e133
      subst e133
      refine x_if_ne (tgt := 147) dX3_passes_136 (by decide) (fun h136 => ?_) (fun h136 => ?_)
      · exact absurd rfl h136
      · refine x_aload_n dX3_passes_139 rfl rfl ?_
        refine x_iload dX3_passes_140 rfl ?_
        refine x_iconst dX3_passes_142 rfl ?_
        refine x_iload_n dX3_passes_143 rfl rfl ?_
        refine g_callN (vs := [_, _, _, _]) (d' := d - 1) rfl (s_X3_writes (M := wI M g) (by omega) hh hR.1.1 hw.1 hN) dX3_passes_144 kX3_185 (by omega) (by decide) rfl (Nat.le_of_ble_eq_true rfl) (rcv_o (by assumption) rfl) (fun M144 h144 => ?_)
        obtain ⟨g2, hM144, a1, a2, a3⟩ := h144
        subst hM144
        refine fin g2 (tellV w op 3 pcv) (hR.tell hw.1 hB a1 a2 a3) hw.tell ((tellV_o (by omega) (by omega)).trans h8) (fun b k r => (a3 b k (by omega) (by omega)).trans (hf b k r)) ?_
        unfold afterV
        rw [iV_t hl, hpc]
  · refine x_iload_n dX3_passes_121 rfl rfl ?_
    refine x_if_eq (tgt := 147) dX3_passes_122 (by decide) (fun h122 => ?_) (fun h122 => ?_)
    · refine fin g w hR1 hw h8 hf ?_
      unfold afterV
      rw [iV_f hl]
    · refine x_aload_n dX3_passes_125 rfl rfl ?_
      refine g_getR (kI := 6) rfl dX3_passes_126 fX3_39_3 (by assumption) (by assumption) ?_
      refine x_aload_n dX3_passes_129 rfl rfl ?_
      refine g_getR (kI := 7) rfl dX3_passes_130 fX3_43_3 (by assumption) (by assumption) ?_
      refine g_callI (vs := [_, _]) (d' := d - 1) rfl (s_X4_isLike (M := wI M g) (v := w) (s := w 5) (by omega) p5 p6 hR.2.1 hR.2.2 (by omega)) dX3_passes_133 kX3_189 (by omega) (by decide) rfl (Nat.le_of_ble_eq_true rfl) (rcv_o (by assumption) rfl) (fun x133 M133 h133 => ?_)
      obtain ⟨e133, f133⟩ := h133
      have f133' := f133.symm
      subst f133'
      rw [vP_t (Classical.byContradiction fun q => hl ⟨vP_1.mp (by have := vP_r (likeG v); omega), q⟩)] at e133
      subst e133
      refine x_if_ne (tgt := 147) dX3_passes_136 (by decide) (fun h136 => ?_) (fun h136 => ?_)
      · refine fin g w hR1 hw h8 hf ?_
        unfold afterV
        rw [iV_f hl]
      · exact absurd h136 (by decide)
end XT

