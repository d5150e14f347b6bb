/-! GuestViewLaw: what holds whenever the law's loop begins anew -/
def IV (M : Mem) (s : Sg) (N len : Int) (sc : Int → Int) : Prop := CJ M s N ∧ TJ M s ∧ FX s ∧ msh M 760 = some (102, 1) ∧ msh M (-5) = some (100, len) ∧ ∀ k, mci M (-5) k = sc k
section IVs
variable {M M1 M2 : Mem} {s s1 : Sg} {N N1 len : Int} {sc : Int → Int} {v' : Vw}
/-- between the component's call and the reference's -/
theorem IV.mid (h : IV M s N len sc) (hc : CH M s1 N1 M1) : TJ M1 s ∧ (msh M1 744 = some (8, 0) ∧ TwS (msh M1) (mcr M1) 744) ∧ msh M1 (-5) = some (100, len) ∧ (∀ k, mci M1 (-5) k = sc k) ∧ (okA s1.1 ∧ lawOK s1.1) ∧ TxS M1 := by
  obtain ⟨h1, h2, h3, h4, h5, h6⟩ := h
  obtain ⟨c1, c2, c3, c4, c5, c6⟩ := hc
  have hT : TJ M1 s := TI.kp h2 (c2.mono fun b hb => by omega)
  have hw := TI.tw hT
  have k5 := c2 (-5) (by omega)
  exact ⟨hT, ⟨hw.2.1, hw⟩, k5.1.trans h5, fun k => (k5.2.1 k).trans (h6 k), ⟨c1.2.1.1, c1.2.1.2.1⟩, c1.1.2.2.1⟩
/-- after both calls -/
theorem IV.st (h : IV M s N len sc) (hc : CH M s1 N1 M1) (hr : TR 744 M1 M2) (hv : ∀ k, 0 ≤ k → k < 1217 → v' k = s1.1 k) (ht : TJ M2 (v', s1.2)) (hF : FX s1) : IV M2 (v', s1.2) N1 len sc ∧ mnx M2 ≤ mnx M + 1400 ∧ mns M2 ≤ mns M + 6000 ∧ msh M2 760 = some (102, 1) ∧ mcl M2 760 0 = mcl M1 760 0 ∧ TwS (msh M2) (mcr M2) 744 ∧ msh M2 744 = some (8, 0) := by
  obtain ⟨h1, h2, h3, h4, h5, h6⟩ := h
  obtain ⟨c1, c2, c3, c4, c5, c6⟩ := hc
  have hC2 : CJ M2 s1 N1 := CI.tr c1 hr
  obtain ⟨g, l, e, g1, l1⟩ := hr
  subst e
  have hC3 : CJ (wL M1 g l) (v', s1.2) N1 := CI.lo hC2 hv
  have hw := TI.tw ht
  have k5 := c2 (-5) (by omega)
  refine ⟨⟨hC3, ht, ⟨hF.1.lo fun k a b => hv k a (by omega), hF.2⟩, c3, k5.1.trans h5, fun k => (g1 _ _ (by omega)).trans ((k5.2.1 k).trans (h6 k))⟩, c5, c6, c3, l1 _ _ (by omega), hw, hw.2.1⟩
end IVs

